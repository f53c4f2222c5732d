set_option maxRecDepth 100000
/-! NettedPlans$Book -/
set_option maxRecDepth 100000
def RX2 : String := "NettedPlans$Book"
def TX2 : u_T := fun k => match k with
  | _ => ("NettedPlans$Book", "list", "Ljava/util/ArrayList;", true)
def tyX2 : Nat → FieldType := fun k => match k with
  | _ => .object "java/util/ArrayList"
abbrev wsX20 : List Cond := u_ws RX2 TX2 1
theorem nmX2 : ∀ a, a < 1 → ∀ b, b < 1 → a ≠ b → (TX2 a).2.1 ≠ (TX2 b).2.1 := by decide +kernel
theorem tyX2_ok : ∀ k, k < 1 → parseFieldDescriptor (TX2 k).2.2.1 = some (tyX2 k) := by decide +kernel
abbrev cX2_init : ByteArray := prog_3_method_1_code
def yX2_init : MethodName := ⟨RX2, "<init>", "()V"⟩
theorem dX2_init_0 : decode cX2_init 0 = .ok (.aload_n 0, 1) := by decide +kernel
theorem dX2_init_1 : decode cX2_init 1 = .ok (.invokespecial 3, 3) := by decide +kernel
theorem dX2_init_4 : decode cX2_init 4 = .ok (.aload_n 0, 1) := by decide +kernel
theorem dX2_init_5 : decode cX2_init 5 = .ok (.new 9, 3) := by decide +kernel
theorem dX2_init_8 : decode cX2_init 8 = .ok (.dup, 1) := by decide +kernel
theorem dX2_init_9 : decode cX2_init 9 = .ok (.invokespecial 11, 3) := by decide +kernel
theorem dX2_init_12 : decode cX2_init 12 = .ok (.putfield 12, 3) := by decide +kernel
theorem dX2_init_15 : decode cX2_init 15 = .ok (.return_, 1) := by decide +kernel
abbrev cX2_sum : ByteArray := prog_3_method_4_code
def yX2_sum : MethodName := ⟨RX2, "sum", "(II)J"⟩
theorem dX2_sum_0 : decode cX2_sum 0 = .ok (.lconst 0, 1) := by decide +kernel
theorem dX2_sum_1 : decode cX2_sum 1 = .ok (.lstore_n 3, 1) := by decide +kernel
theorem dX2_sum_2 : decode cX2_sum 2 = .ok (.iconst 0, 1) := by decide +kernel
theorem dX2_sum_3 : decode cX2_sum 3 = .ok (.istore 5, 2) := by decide +kernel
theorem dX2_sum_5 : decode cX2_sum 5 = .ok (.iload 5, 2) := by decide +kernel
theorem dX2_sum_7 : decode cX2_sum 7 = .ok (.aload_n 0, 1) := by decide +kernel
theorem dX2_sum_8 : decode cX2_sum 8 = .ok (.getfield 12, 3) := by decide +kernel
theorem dX2_sum_11 : decode cX2_sum 11 = .ok (.invokevirtual 22, 3) := by decide +kernel
theorem dX2_sum_14 : decode cX2_sum 14 = .ok (.if_icmp .ge 70, 3) := by decide +kernel
theorem dX2_sum_17 : decode cX2_sum 17 = .ok (.lload_n 3, 1) := by decide +kernel
theorem dX2_sum_18 : decode cX2_sum 18 = .ok (.aload_n 0, 1) := by decide +kernel
theorem dX2_sum_19 : decode cX2_sum 19 = .ok (.getfield 12, 3) := by decide +kernel
theorem dX2_sum_22 : decode cX2_sum 22 = .ok (.iload 5, 2) := by decide +kernel
theorem dX2_sum_24 : decode cX2_sum 24 = .ok (.invokevirtual 26, 3) := by decide +kernel
theorem dX2_sum_27 : decode cX2_sum 27 = .ok (.checkcast 30, 3) := by decide +kernel
theorem dX2_sum_30 : decode cX2_sum 30 = .ok (.getfield 32, 3) := by decide +kernel
theorem dX2_sum_33 : decode cX2_sum 33 = .ok (.iload_n 1, 1) := by decide +kernel
theorem dX2_sum_34 : decode cX2_sum 34 = .ok (.if_icmp .ne 41, 3) := by decide +kernel
theorem dX2_sum_37 : decode cX2_sum 37 = .ok (.aload_n 0, 1) := by decide +kernel
theorem dX2_sum_38 : decode cX2_sum 38 = .ok (.getfield 12, 3) := by decide +kernel
theorem dX2_sum_41 : decode cX2_sum 41 = .ok (.iload 5, 2) := by decide +kernel
theorem dX2_sum_43 : decode cX2_sum 43 = .ok (.invokevirtual 26, 3) := by decide +kernel
theorem dX2_sum_46 : decode cX2_sum 46 = .ok (.checkcast 30, 3) := by decide +kernel
theorem dX2_sum_49 : decode cX2_sum 49 = .ok (.getfield 36, 3) := by decide +kernel
theorem dX2_sum_52 : decode cX2_sum 52 = .ok (.iload_n 2, 1) := by decide +kernel
theorem dX2_sum_53 : decode cX2_sum 53 = .ok (.if_icmp .ne 22, 3) := by decide +kernel
theorem dX2_sum_56 : decode cX2_sum 56 = .ok (.aload_n 0, 1) := by decide +kernel
theorem dX2_sum_57 : decode cX2_sum 57 = .ok (.getfield 12, 3) := by decide +kernel
theorem dX2_sum_60 : decode cX2_sum 60 = .ok (.iload 5, 2) := by decide +kernel
theorem dX2_sum_62 : decode cX2_sum 62 = .ok (.invokevirtual 26, 3) := by decide +kernel
theorem dX2_sum_65 : decode cX2_sum 65 = .ok (.checkcast 30, 3) := by decide +kernel
theorem dX2_sum_68 : decode cX2_sum 68 = .ok (.getfield 39, 3) := by decide +kernel
theorem dX2_sum_71 : decode cX2_sum 71 = .ok (.i2l, 1) := by decide +kernel
theorem dX2_sum_72 : decode cX2_sum 72 = .ok (.goto 4, 3) := by decide +kernel
theorem dX2_sum_75 : decode cX2_sum 75 = .ok (.lconst 0, 1) := by decide +kernel
theorem dX2_sum_76 : decode cX2_sum 76 = .ok (.ladd, 1) := by decide +kernel
theorem dX2_sum_77 : decode cX2_sum 77 = .ok (.lstore_n 3, 1) := by decide +kernel
theorem dX2_sum_78 : decode cX2_sum 78 = .ok (.iinc 5 1, 3) := by decide +kernel
theorem dX2_sum_81 : decode cX2_sum 81 = .ok (.goto (-76), 3) := by decide +kernel
theorem dX2_sum_84 : decode cX2_sum 84 = .ok (.lload_n 3, 1) := by decide +kernel
theorem dX2_sum_85 : decode cX2_sum 85 = .ok (.lreturn, 1) := by decide +kernel
abbrev cX2_isFull : ByteArray := prog_3_method_3_code
def yX2_isFull : MethodName := ⟨RX2, "isFull", "()Z"⟩
theorem dX2_isFull_0 : decode cX2_isFull 0 = .ok (.aload_n 0, 1) := by decide +kernel
theorem dX2_isFull_1 : decode cX2_isFull 1 = .ok (.getfield 12, 3) := by decide +kernel
theorem dX2_isFull_4 : decode cX2_isFull 4 = .ok (.invokevirtual 22, 3) := by decide +kernel
theorem dX2_isFull_7 : decode cX2_isFull 7 = .ok (.bipush 24, 2) := by decide +kernel
theorem dX2_isFull_9 : decode cX2_isFull 9 = .ok (.if_icmp .ne 7, 3) := by decide +kernel
theorem dX2_isFull_12 : decode cX2_isFull 12 = .ok (.iconst 1, 1) := by decide +kernel
theorem dX2_isFull_13 : decode cX2_isFull 13 = .ok (.goto 4, 3) := by decide +kernel
theorem dX2_isFull_16 : decode cX2_isFull 16 = .ok (.iconst 0, 1) := by decide +kernel
theorem dX2_isFull_17 : decode cX2_isFull 17 = .ok (.ireturn, 1) := by decide +kernel
abbrev cX2_add : ByteArray := prog_3_method_2_code
def yX2_add : MethodName := ⟨RX2, "add", "(LNettedPlans$Entry;)I"⟩
theorem dX2_add_0 : decode cX2_add 0 = .ok (.aload_n 0, 1) := by decide +kernel
theorem dX2_add_1 : decode cX2_add 1 = .ok (.getfield 12, 3) := by decide +kernel
theorem dX2_add_4 : decode cX2_add 4 = .ok (.aload_n 1, 1) := by decide +kernel
theorem dX2_add_5 : decode cX2_add 5 = .ok (.invokevirtual 18, 3) := by decide +kernel
theorem dX2_add_8 : decode cX2_add 8 = .ok (.pop, 1) := by decide +kernel
theorem dX2_add_9 : decode cX2_add 9 = .ok (.aload_n 0, 1) := by decide +kernel
theorem dX2_add_10 : decode cX2_add 10 = .ok (.getfield 12, 3) := by decide +kernel
theorem dX2_add_13 : decode cX2_add 13 = .ok (.invokevirtual 22, 3) := by decide +kernel
theorem dX2_add_16 : decode cX2_add 16 = .ok (.iconst 1, 1) := by decide +kernel
theorem dX2_add_17 : decode cX2_add 17 = .ok (.isub, 1) := by decide +kernel
theorem dX2_add_18 : decode cX2_add 18 = .ok (.ireturn, 1) := by decide +kernel
abbrev cX2_sumBefore : ByteArray := prog_3_method_5_code
def yX2_sumBefore : MethodName := ⟨RX2, "sumBefore", "(I)J"⟩
theorem dX2_sumBefore_0 : decode cX2_sumBefore 0 = .ok (.lconst 0, 1) := by decide +kernel
theorem dX2_sumBefore_1 : decode cX2_sumBefore 1 = .ok (.lstore_n 2, 1) := by decide +kernel
theorem dX2_sumBefore_2 : decode cX2_sumBefore 2 = .ok (.iconst 0, 1) := by decide +kernel
theorem dX2_sumBefore_3 : decode cX2_sumBefore 3 = .ok (.istore 4, 2) := by decide +kernel
theorem dX2_sumBefore_5 : decode cX2_sumBefore 5 = .ok (.iload 4, 2) := by decide +kernel
theorem dX2_sumBefore_7 : decode cX2_sumBefore 7 = .ok (.iload_n 1, 1) := by decide +kernel
theorem dX2_sumBefore_8 : decode cX2_sumBefore 8 = .ok (.if_icmp .ge 96, 3) := by decide +kernel
theorem dX2_sumBefore_11 : decode cX2_sumBefore 11 = .ok (.lload_n 2, 1) := by decide +kernel
theorem dX2_sumBefore_12 : decode cX2_sumBefore 12 = .ok (.aload_n 0, 1) := by decide +kernel
theorem dX2_sumBefore_13 : decode cX2_sumBefore 13 = .ok (.getfield 12, 3) := by decide +kernel
theorem dX2_sumBefore_16 : decode cX2_sumBefore 16 = .ok (.iload 4, 2) := by decide +kernel
theorem dX2_sumBefore_18 : decode cX2_sumBefore 18 = .ok (.invokevirtual 26, 3) := by decide +kernel
theorem dX2_sumBefore_21 : decode cX2_sumBefore 21 = .ok (.checkcast 30, 3) := by decide +kernel
theorem dX2_sumBefore_24 : decode cX2_sumBefore 24 = .ok (.getfield 32, 3) := by decide +kernel
theorem dX2_sumBefore_27 : decode cX2_sumBefore 27 = .ok (.aload_n 0, 1) := by decide +kernel
theorem dX2_sumBefore_28 : decode cX2_sumBefore 28 = .ok (.getfield 12, 3) := by decide +kernel
theorem dX2_sumBefore_31 : decode cX2_sumBefore 31 = .ok (.iload_n 1, 1) := by decide +kernel
theorem dX2_sumBefore_32 : decode cX2_sumBefore 32 = .ok (.invokevirtual 26, 3) := by decide +kernel
theorem dX2_sumBefore_35 : decode cX2_sumBefore 35 = .ok (.checkcast 30, 3) := by decide +kernel
theorem dX2_sumBefore_38 : decode cX2_sumBefore 38 = .ok (.getfield 32, 3) := by decide +kernel
theorem dX2_sumBefore_41 : decode cX2_sumBefore 41 = .ok (.if_icmp .ne 54, 3) := by decide +kernel
theorem dX2_sumBefore_44 : decode cX2_sumBefore 44 = .ok (.aload_n 0, 1) := by decide +kernel
theorem dX2_sumBefore_45 : decode cX2_sumBefore 45 = .ok (.getfield 12, 3) := by decide +kernel
theorem dX2_sumBefore_48 : decode cX2_sumBefore 48 = .ok (.iload 4, 2) := by decide +kernel
theorem dX2_sumBefore_50 : decode cX2_sumBefore 50 = .ok (.invokevirtual 26, 3) := by decide +kernel
theorem dX2_sumBefore_53 : decode cX2_sumBefore 53 = .ok (.checkcast 30, 3) := by decide +kernel
theorem dX2_sumBefore_56 : decode cX2_sumBefore 56 = .ok (.getfield 36, 3) := by decide +kernel
theorem dX2_sumBefore_59 : decode cX2_sumBefore 59 = .ok (.aload_n 0, 1) := by decide +kernel
theorem dX2_sumBefore_60 : decode cX2_sumBefore 60 = .ok (.getfield 12, 3) := by decide +kernel
theorem dX2_sumBefore_63 : decode cX2_sumBefore 63 = .ok (.iload_n 1, 1) := by decide +kernel
theorem dX2_sumBefore_64 : decode cX2_sumBefore 64 = .ok (.invokevirtual 26, 3) := by decide +kernel
theorem dX2_sumBefore_67 : decode cX2_sumBefore 67 = .ok (.checkcast 30, 3) := by decide +kernel
theorem dX2_sumBefore_70 : decode cX2_sumBefore 70 = .ok (.getfield 36, 3) := by decide +kernel
theorem dX2_sumBefore_73 : decode cX2_sumBefore 73 = .ok (.if_icmp .ne 22, 3) := by decide +kernel
theorem dX2_sumBefore_76 : decode cX2_sumBefore 76 = .ok (.aload_n 0, 1) := by decide +kernel
theorem dX2_sumBefore_77 : decode cX2_sumBefore 77 = .ok (.getfield 12, 3) := by decide +kernel
theorem dX2_sumBefore_80 : decode cX2_sumBefore 80 = .ok (.iload 4, 2) := by decide +kernel
theorem dX2_sumBefore_82 : decode cX2_sumBefore 82 = .ok (.invokevirtual 26, 3) := by decide +kernel
theorem dX2_sumBefore_85 : decode cX2_sumBefore 85 = .ok (.checkcast 30, 3) := by decide +kernel
theorem dX2_sumBefore_88 : decode cX2_sumBefore 88 = .ok (.getfield 39, 3) := by decide +kernel
theorem dX2_sumBefore_91 : decode cX2_sumBefore 91 = .ok (.i2l, 1) := by decide +kernel
theorem dX2_sumBefore_92 : decode cX2_sumBefore 92 = .ok (.goto 4, 3) := by decide +kernel
theorem dX2_sumBefore_95 : decode cX2_sumBefore 95 = .ok (.lconst 0, 1) := by decide +kernel
theorem dX2_sumBefore_96 : decode cX2_sumBefore 96 = .ok (.ladd, 1) := by decide +kernel
theorem dX2_sumBefore_97 : decode cX2_sumBefore 97 = .ok (.lstore_n 2, 1) := by decide +kernel
theorem dX2_sumBefore_98 : decode cX2_sumBefore 98 = .ok (.iinc 4 1, 3) := by decide +kernel
theorem dX2_sumBefore_101 : decode cX2_sumBefore 101 = .ok (.goto (-96), 3) := by decide +kernel
theorem dX2_sumBefore_104 : decode cX2_sumBefore 104 = .ok (.lload_n 2, 1) := by decide +kernel
theorem dX2_sumBefore_105 : decode cX2_sumBefore 105 = .ok (.lreturn, 1) := by decide +kernel
theorem q51 : (Jvm.Cond.initialized "NettedPlans$Book") ∈ lw_all := lw_g (lw_at lw_m1 5 rfl) rfl
theorem q113 : (Jvm.Cond.instantiable "NettedPlans$Book" (1 : Nat)) ∈ lw_all := lw_g (lw_at lw_m1 67 rfl) rfl
theorem q115 : (Jvm.Cond.instanceMethod ({ cls := "NettedPlans$Book", name := "<init>", desc := "()V" } : Jvm.MethodName)) ∈ lw_all := lw_g (lw_at lw_m1 69 rfl) rfl
theorem q116 : (Jvm.Cond.code ({ cls := "NettedPlans$Book", name := "<init>", desc := "()V" } : Jvm.MethodName) prog_3_method_1_code (1 : Nat) (Option.none : Option Jvm.ClassFile.FieldType)) ∈ lw_all := lw_g (lw_at lw_m1 70 rfl) rfl
theorem q117 : (Jvm.Cond.methodLink "NettedPlans$Book" (3 : Nat) ({ cls := "java/lang/Object", name := "<init>", desc := "()V" } : Jvm.MethodName)) ∈ lw_all := lw_g (lw_at lw_m1 71 rfl) rfl
theorem q118 : (Jvm.Cond.classLink "NettedPlans$Book" (9 : Nat) "java/util/ArrayList") ∈ lw_all := lw_g (lw_at lw_m1 72 rfl) rfl
theorem q119 : (Jvm.Cond.methodLink "NettedPlans$Book" (11 : Nat) ({ cls := "java/util/ArrayList", name := "<init>", desc := "()V" } : Jvm.MethodName)) ∈ lw_all := lw_g (lw_at lw_m1 73 rfl) rfl
theorem q120 : (Jvm.Cond.fieldLink "NettedPlans$Book" (12 : Nat) "NettedPlans$Book" "list" "Ljava/util/ArrayList;") ∈ lw_all := lw_g (lw_at lw_m1 74 rfl) rfl
theorem q122 : (Jvm.Cond.laysFinal "NettedPlans$Book" "NettedPlans$Book" "list" "Ljava/util/ArrayList;") ∈ lw_all := lw_g (lw_at lw_m1 76 rfl) rfl
theorem q123 : (Jvm.Cond.soleField "NettedPlans$Book" "list") ∈ lw_all := lw_g (lw_at lw_m1 77 rfl) rfl
theorem q124 : (Jvm.Cond.superclass "NettedPlans$Book" "java/lang/Object") ∈ lw_all := lw_g (lw_at lw_m1 78 rfl) rfl
theorem q349 : (Jvm.Cond.selects "NettedPlans$Book" ({ cls := "java/lang/Object", name := "getClass", desc := "()Ljava/lang/Class;" } : Jvm.MethodName) ({ cls := "java/lang/Object", name := "getClass", desc := "()Ljava/lang/Class;" } : Jvm.MethodName)) ∈ lw_all := lw_g (lw_at lw_m2 63 rfl) rfl
theorem q449 : (Jvm.Cond.instanceMethod ({ cls := "NettedPlans$Book", name := "sum", desc := "(II)J" } : Jvm.MethodName)) ∈ lw_all := lw_g (lw_at lw_m2 163 rfl) rfl
theorem q450 : (Jvm.Cond.selects "NettedPlans$Book" ({ cls := "NettedPlans$Book", name := "sum", desc := "(II)J" } : Jvm.MethodName) ({ cls := "NettedPlans$Book", name := "sum", desc := "(II)J" } : Jvm.MethodName)) ∈ lw_all := lw_g (lw_at lw_m2 164 rfl) rfl
theorem q451 : (Jvm.Cond.code ({ cls := "NettedPlans$Book", name := "sum", desc := "(II)J" } : Jvm.MethodName) prog_3_method_4_code (6 : Nat) (Option.some Jvm.ClassFile.FieldType.long)) ∈ lw_all := lw_g (lw_at lw_m2 165 rfl) rfl
theorem q452 : (Jvm.Cond.methodLink "NettedPlans$Book" (22 : Nat) ({ cls := "java/util/ArrayList", name := "size", desc := "()I" } : Jvm.MethodName)) ∈ lw_all := lw_g (lw_at lw_m2 166 rfl) rfl
theorem q453 : (Jvm.Cond.methodLink "NettedPlans$Book" (26 : Nat) ({ cls := "java/util/ArrayList", name := "get", desc := "(I)Ljava/lang/Object;" } : Jvm.MethodName)) ∈ lw_all := lw_g (lw_at lw_m2 167 rfl) rfl
theorem q454 : (Jvm.Cond.classLink "NettedPlans$Book" (30 : Nat) "NettedPlans$Entry") ∈ lw_all := lw_g (lw_at lw_m2 168 rfl) rfl
theorem q733 : (Jvm.Cond.instanceMethod ({ cls := "NettedPlans$Book", name := "isFull", desc := "()Z" } : Jvm.MethodName)) ∈ lw_all := lw_g (lw_at lw_m3 207 rfl) rfl
theorem q734 : (Jvm.Cond.selects "NettedPlans$Book" ({ cls := "NettedPlans$Book", name := "isFull", desc := "()Z" } : Jvm.MethodName) ({ cls := "NettedPlans$Book", name := "isFull", desc := "()Z" } : Jvm.MethodName)) ∈ lw_all := lw_g (lw_at lw_m3 208 rfl) rfl
theorem q735 : (Jvm.Cond.code ({ cls := "NettedPlans$Book", name := "isFull", desc := "()Z" } : Jvm.MethodName) prog_3_method_3_code (1 : Nat) (Option.some Jvm.ClassFile.FieldType.boolean)) ∈ lw_all := lw_g (lw_at lw_m3 209 rfl) rfl
theorem q743 : (Jvm.Cond.fieldLinkNest "NettedPlans$Book" (32 : Nat) "NettedPlans$Entry" "item" "I" "NettedPlans") ∈ lw_tbl := lw_at lw_m3 217 rfl
theorem q746 : (Jvm.Cond.fieldLinkNest "NettedPlans$Book" (36 : Nat) "NettedPlans$Entry" "week" "I" "NettedPlans") ∈ lw_tbl := lw_at lw_m3 220 rfl
theorem q749 : (Jvm.Cond.fieldLinkNest "NettedPlans$Book" (39 : Nat) "NettedPlans$Entry" "n" "I" "NettedPlans") ∈ lw_tbl := lw_at lw_m3 223 rfl
theorem q759 : (Jvm.Cond.instanceMethod ({ cls := "NettedPlans$Book", name := "add", desc := "(LNettedPlans$Entry;)I" } : Jvm.MethodName)) ∈ lw_all := lw_g (lw_at lw_m3 233 rfl) rfl
theorem q760 : (Jvm.Cond.selects "NettedPlans$Book" ({ cls := "NettedPlans$Book", name := "add", desc := "(LNettedPlans$Entry;)I" } : Jvm.MethodName) ({ cls := "NettedPlans$Book", name := "add", desc := "(LNettedPlans$Entry;)I" } : Jvm.MethodName)) ∈ lw_all := lw_g (lw_at lw_m3 234 rfl) rfl
theorem q761 : (Jvm.Cond.code ({ cls := "NettedPlans$Book", name := "add", desc := "(LNettedPlans$Entry;)I" } : Jvm.MethodName) prog_3_method_2_code (2 : Nat) (Option.some Jvm.ClassFile.FieldType.int)) ∈ lw_all := lw_g (lw_at lw_m3 235 rfl) rfl
theorem q762 : (Jvm.Cond.methodLink "NettedPlans$Book" (18 : Nat) ({ cls := "java/util/ArrayList", name := "add", desc := "(Ljava/lang/Object;)Z" } : Jvm.MethodName)) ∈ lw_all := lw_g (lw_at lw_m3 236 rfl) rfl
theorem q824 : (Jvm.Cond.instanceMethod ({ cls := "NettedPlans$Book", name := "sumBefore", desc := "(I)J" } : Jvm.MethodName)) ∈ lw_all := lw_g (lw_at lw_m4 58 rfl) rfl
theorem q825 : (Jvm.Cond.selects "NettedPlans$Book" ({ cls := "NettedPlans$Book", name := "sumBefore", desc := "(I)J" } : Jvm.MethodName) ({ cls := "NettedPlans$Book", name := "sumBefore", desc := "(I)J" } : Jvm.MethodName)) ∈ lw_all := lw_g (lw_at lw_m4 59 rfl) rfl
theorem q826 : (Jvm.Cond.code ({ cls := "NettedPlans$Book", name := "sumBefore", desc := "(I)J" } : Jvm.MethodName) prog_3_method_5_code (5 : Nat) (Option.some Jvm.ClassFile.FieldType.long)) ∈ lw_all := lw_g (lw_at lw_m4 60 rfl) rfl
theorem q1166 : (Jvm.Cond.castable "NettedPlans$Book" "java/lang/Object") ∈ lw_tbl := lw_at lw_m5 160 rfl
theorem in_X2 : ∀ w ∈ wsX20, w ∈ lw_all := lw_in wsX20 [122] (by decide +kernel) (by decide +kernel)
/-! NettedPlans$LotRule -/
set_option maxRecDepth 100000
def RX3 : String := "NettedPlans$LotRule"
abbrev cX3_init : ByteArray := prog_9_method_1_code
def yX3_init : MethodName := ⟨RX3, "<init>", "()V"⟩
theorem dX3_init_0 : decode cX3_init 0 = .ok (.aload_n 0, 1) := by decide +kernel
theorem dX3_init_1 : decode cX3_init 1 = .ok (.invokespecial 3, 3) := by decide +kernel
theorem dX3_init_4 : decode cX3_init 4 = .ok (.return_, 1) := by decide +kernel
abbrev cX3_plan : ByteArray := prog_9_method_2_code
def yX3_plan : MethodName := ⟨RX3, "plan", "(LNettedPlans$Item;)V"⟩
theorem dX3_plan_0 : decode cX3_plan 0 = .ok (.lconst 0, 1) := by decide +kernel
theorem dX3_plan_1 : decode cX3_plan 1 = .ok (.lstore_n 2, 1) := by decide +kernel
theorem dX3_plan_2 : decode cX3_plan 2 = .ok (.iconst 0, 1) := by decide +kernel
theorem dX3_plan_3 : decode cX3_plan 3 = .ok (.istore 4, 2) := by decide +kernel
theorem dX3_plan_5 : decode cX3_plan 5 = .ok (.iload 4, 2) := by decide +kernel
theorem dX3_plan_7 : decode cX3_plan 7 = .ok (.bipush 12, 2) := by decide +kernel
theorem dX3_plan_9 : decode cX3_plan 9 = .ok (.if_icmp .ge 73, 3) := by decide +kernel
theorem dX3_plan_12 : decode cX3_plan 12 = .ok (.aload_n 1, 1) := by decide +kernel
theorem dX3_plan_13 : decode cX3_plan 13 = .ok (.getfield 9, 3) := by decide +kernel
theorem dX3_plan_16 : decode cX3_plan 16 = .ok (.iload 4, 2) := by decide +kernel
theorem dX3_plan_18 : decode cX3_plan 18 = .ok (.lconst 0, 1) := by decide +kernel
theorem dX3_plan_19 : decode cX3_plan 19 = .ok (.lastore, 1) := by decide +kernel
theorem dX3_plan_20 : decode cX3_plan 20 = .ok (.iload 4, 2) := by decide +kernel
theorem dX3_plan_22 : decode cX3_plan 22 = .ok (.aload_n 1, 1) := by decide +kernel
theorem dX3_plan_23 : decode cX3_plan 23 = .ok (.getfield 15, 3) := by decide +kernel
theorem dX3_plan_26 : decode cX3_plan 26 = .ok (.if_icmp .lt 50, 3) := by decide +kernel
theorem dX3_plan_29 : decode cX3_plan 29 = .ok (.aload_n 1, 1) := by decide +kernel
theorem dX3_plan_30 : decode cX3_plan 30 = .ok (.iload 4, 2) := by decide +kernel
theorem dX3_plan_32 : decode cX3_plan 32 = .ok (.invokevirtual 19, 3) := by decide +kernel
theorem dX3_plan_35 : decode cX3_plan 35 = .ok (.lload_n 2, 1) := by decide +kernel
theorem dX3_plan_36 : decode cX3_plan 36 = .ok (.lcmp, 1) := by decide +kernel
theorem dX3_plan_37 : decode cX3_plan 37 = .ok (.ifCond .gt 6, 3) := by decide +kernel
theorem dX3_plan_40 : decode cX3_plan 40 = .ok (.goto 36, 3) := by decide +kernel
theorem dX3_plan_43 : decode cX3_plan 43 = .ok (.aload_n 1, 1) := by decide +kernel
theorem dX3_plan_44 : decode cX3_plan 44 = .ok (.getfield 9, 3) := by decide +kernel
theorem dX3_plan_47 : decode cX3_plan 47 = .ok (.iload 4, 2) := by decide +kernel
theorem dX3_plan_49 : decode cX3_plan 49 = .ok (.aload_n 0, 1) := by decide +kernel
theorem dX3_plan_50 : decode cX3_plan 50 = .ok (.aload_n 1, 1) := by decide +kernel
theorem dX3_plan_51 : decode cX3_plan 51 = .ok (.iload 4, 2) := by decide +kernel
theorem dX3_plan_53 : decode cX3_plan 53 = .ok (.aload_n 1, 1) := by decide +kernel
theorem dX3_plan_54 : decode cX3_plan 54 = .ok (.iload 4, 2) := by decide +kernel
theorem dX3_plan_56 : decode cX3_plan 56 = .ok (.invokevirtual 19, 3) := by decide +kernel
theorem dX3_plan_59 : decode cX3_plan 59 = .ok (.lload_n 2, 1) := by decide +kernel
theorem dX3_plan_60 : decode cX3_plan 60 = .ok (.lsub, 1) := by decide +kernel
theorem dX3_plan_61 : decode cX3_plan 61 = .ok (.lload_n 2, 1) := by decide +kernel
theorem dX3_plan_62 : decode cX3_plan 62 = .ok (.invokevirtual 23, 3) := by decide +kernel
theorem dX3_plan_65 : decode cX3_plan 65 = .ok (.lastore, 1) := by decide +kernel
theorem dX3_plan_66 : decode cX3_plan 66 = .ok (.lload_n 2, 1) := by decide +kernel
theorem dX3_plan_67 : decode cX3_plan 67 = .ok (.aload_n 1, 1) := by decide +kernel
theorem dX3_plan_68 : decode cX3_plan 68 = .ok (.getfield 9, 3) := by decide +kernel
theorem dX3_plan_71 : decode cX3_plan 71 = .ok (.iload 4, 2) := by decide +kernel
theorem dX3_plan_73 : decode cX3_plan 73 = .ok (.laload, 1) := by decide +kernel
theorem dX3_plan_74 : decode cX3_plan 74 = .ok (.ladd, 1) := by decide +kernel
theorem dX3_plan_75 : decode cX3_plan 75 = .ok (.lstore_n 2, 1) := by decide +kernel
theorem dX3_plan_76 : decode cX3_plan 76 = .ok (.iinc 4 1, 3) := by decide +kernel
theorem dX3_plan_79 : decode cX3_plan 79 = .ok (.goto (-74), 3) := by decide +kernel
theorem dX3_plan_82 : decode cX3_plan 82 = .ok (.return_, 1) := by decide +kernel
theorem q52 : (Jvm.Cond.initialized "NettedPlans$LotRule") ∈ lw_all := lw_g (lw_at lw_m1 6 rfl) rfl
theorem q133 : (Jvm.Cond.instanceMethod ({ cls := "NettedPlans$LotRule", name := "<init>", desc := "()V" } : Jvm.MethodName)) ∈ lw_all := lw_g (lw_at lw_m1 87 rfl) rfl
theorem q134 : (Jvm.Cond.code ({ cls := "NettedPlans$LotRule", name := "<init>", desc := "()V" } : Jvm.MethodName) prog_9_method_1_code (1 : Nat) (Option.none : Option Jvm.ClassFile.FieldType)) ∈ lw_all := lw_g (lw_at lw_m1 88 rfl) rfl
theorem q135 : (Jvm.Cond.methodLink "NettedPlans$LotRule" (3 : Nat) ({ cls := "java/lang/Object", name := "<init>", desc := "()V" } : Jvm.MethodName)) ∈ lw_all := lw_g (lw_at lw_m1 89 rfl) rfl
theorem q194 : (Jvm.Cond.fieldLinkNest "NettedPlans$LotRule" (15 : Nat) "NettedPlans$Item" "lead" "I" "NettedPlans") ∈ lw_tbl := lw_at lw_m1 148 rfl
theorem q217 : (Jvm.Cond.fieldLinkNest "NettedPlans$LotRule" (9 : Nat) "NettedPlans$Item" "planned" "[J" "NettedPlans") ∈ lw_tbl := lw_at lw_m1 171 rfl
theorem q487 : (Jvm.Cond.instanceMethod ({ cls := "NettedPlans$LotRule", name := "plan", desc := "(LNettedPlans$Item;)V" } : Jvm.MethodName)) ∈ lw_all := lw_g (lw_at lw_m2 201 rfl) rfl
theorem q488 : (Jvm.Cond.sameMethod "NettedPlans$LotRule" "NettedPlans$LotRule" "plan" "(LNettedPlans$Item;)V") ∈ lw_all := lw_g (lw_at lw_m2 202 rfl) rfl
theorem q504 : (Jvm.Cond.code ({ cls := "NettedPlans$LotRule", name := "plan", desc := "(LNettedPlans$Item;)V" } : Jvm.MethodName) prog_9_method_2_code (5 : Nat) (Option.none : Option Jvm.ClassFile.FieldType)) ∈ lw_all := lw_g (lw_at lw_m2 218 rfl) rfl
theorem q505 : (Jvm.Cond.methodLink "NettedPlans$LotRule" (19 : Nat) ({ cls := "NettedPlans$Item", name := "need", desc := "(I)J" } : Jvm.MethodName)) ∈ lw_all := lw_g (lw_at lw_m2 219 rfl) rfl
theorem q509 : (Jvm.Cond.methodLink "NettedPlans$LotRule" (23 : Nat) ({ cls := "NettedPlans$LotRule", name := "lot", desc := "(LNettedPlans$Item;IJJ)J" } : Jvm.MethodName)) ∈ lw_all := lw_g (lw_at lw_m2 223 rfl) rfl
theorem q510 : (Jvm.Cond.declares ({ cls := "NettedPlans$LotRule", name := "lot", desc := "(LNettedPlans$Item;IJJ)J" } : Jvm.MethodName)) ∈ lw_tbl := lw_at lw_m2 224 rfl
theorem q511 : (Jvm.Cond.sameMethod "NettedPlans$LotRule" "NettedPlans$LotRule" "lot" "(LNettedPlans$Item;IJJ)J") ∈ lw_all := lw_g (lw_at lw_m2 225 rfl) rfl
theorem q1155 : (Jvm.Cond.castable "NettedPlans$LotRule" "java/lang/Object") ∈ lw_tbl := lw_at lw_m5 149 rfl
/-! NettedPlans$AsNeeded -/
set_option maxRecDepth 100000
def RX4 : String := "NettedPlans$AsNeeded"
abbrev cX4_init : ByteArray := prog_2_method_1_code
def yX4_init : MethodName := ⟨RX4, "<init>", "()V"⟩
theorem dX4_init_0 : decode cX4_init 0 = .ok (.aload_n 0, 1) := by decide +kernel
theorem dX4_init_1 : decode cX4_init 1 = .ok (.invokespecial 1, 3) := by decide +kernel
theorem dX4_init_4 : decode cX4_init 4 = .ok (.return_, 1) := by decide +kernel
abbrev cX4_lot : ByteArray := prog_2_method_2_code
def yX4_lot : MethodName := ⟨RX4, "lot", "(LNettedPlans$Item;IJJ)J"⟩
theorem dX4_lot_0 : decode cX4_lot 0 = .ok (.lload_n 3, 1) := by decide +kernel
theorem dX4_lot_1 : decode cX4_lot 1 = .ok (.lreturn, 1) := by decide +kernel
theorem q53 : (Jvm.Cond.initialized "NettedPlans$AsNeeded") ∈ lw_all := lw_g (lw_at lw_m1 7 rfl) rfl
theorem q128 : (Jvm.Cond.instantiable "NettedPlans$AsNeeded" (0 : Nat)) ∈ lw_all := lw_g (lw_at lw_m1 82 rfl) rfl
theorem q130 : (Jvm.Cond.instanceMethod ({ cls := "NettedPlans$AsNeeded", name := "<init>", desc := "()V" } : Jvm.MethodName)) ∈ lw_all := lw_g (lw_at lw_m1 84 rfl) rfl
theorem q131 : (Jvm.Cond.code ({ cls := "NettedPlans$AsNeeded", name := "<init>", desc := "()V" } : Jvm.MethodName) prog_2_method_1_code (1 : Nat) (Option.none : Option Jvm.ClassFile.FieldType)) ∈ lw_all := lw_g (lw_at lw_m1 85 rfl) rfl
theorem q132 : (Jvm.Cond.methodLinkNest "NettedPlans$AsNeeded" (1 : Nat) ({ cls := "NettedPlans$LotRule", name := "<init>", desc := "()V" } : Jvm.MethodName) "NettedPlans") ∈ lw_tbl := lw_at lw_m1 86 rfl
theorem q136 : (Jvm.Cond.superclass "NettedPlans$AsNeeded" "NettedPlans$LotRule") ∈ lw_all := lw_g (lw_at lw_m1 90 rfl) rfl
theorem q348 : (Jvm.Cond.selects "NettedPlans$AsNeeded" ({ cls := "java/lang/Object", name := "getClass", desc := "()Ljava/lang/Class;" } : Jvm.MethodName) ({ cls := "java/lang/Object", name := "getClass", desc := "()Ljava/lang/Class;" } : Jvm.MethodName)) ∈ lw_all := lw_g (lw_at lw_m2 62 rfl) rfl
theorem q489 : (Jvm.Cond.selects "NettedPlans$AsNeeded" ({ cls := "NettedPlans$LotRule", name := "plan", desc := "(LNettedPlans$Item;)V" } : Jvm.MethodName) ({ cls := "NettedPlans$LotRule", name := "plan", desc := "(LNettedPlans$Item;)V" } : Jvm.MethodName)) ∈ lw_all := lw_g (lw_at lw_m2 203 rfl) rfl
theorem q512 : (Jvm.Cond.selects "NettedPlans$AsNeeded" ({ cls := "NettedPlans$LotRule", name := "lot", desc := "(LNettedPlans$Item;IJJ)J" } : Jvm.MethodName) ({ cls := "NettedPlans$AsNeeded", name := "lot", desc := "(LNettedPlans$Item;IJJ)J" } : Jvm.MethodName)) ∈ lw_all := lw_g (lw_at lw_m2 226 rfl) rfl
theorem q513 : (Jvm.Cond.instanceMethod ({ cls := "NettedPlans$AsNeeded", name := "lot", desc := "(LNettedPlans$Item;IJJ)J" } : Jvm.MethodName)) ∈ lw_all := lw_g (lw_at lw_m2 227 rfl) rfl
theorem q514 : (Jvm.Cond.code ({ cls := "NettedPlans$AsNeeded", name := "lot", desc := "(LNettedPlans$Item;IJJ)J" } : Jvm.MethodName) prog_2_method_2_code (7 : Nat) (Option.some Jvm.ClassFile.FieldType.long)) ∈ lw_all := lw_g (lw_at lw_m2 228 rfl) rfl
theorem q1157 : (Jvm.Cond.castable "NettedPlans$AsNeeded" "NettedPlans$LotRule") ∈ lw_tbl := lw_at lw_m5 151 rfl
theorem q1167 : (Jvm.Cond.castable "NettedPlans$AsNeeded" "java/lang/Object") ∈ lw_tbl := lw_at lw_m5 161 rfl
/-! NettedPlans$Multiples -/
set_option maxRecDepth 100000
def RX5 : String := "NettedPlans$Multiples"
abbrev cX5_init : ByteArray := prog_10_method_1_code
def yX5_init : MethodName := ⟨RX5, "<init>", "()V"⟩
theorem dX5_init_0 : decode cX5_init 0 = .ok (.aload_n 0, 1) := by decide +kernel
theorem dX5_init_1 : decode cX5_init 1 = .ok (.invokespecial 1, 3) := by decide +kernel
theorem dX5_init_4 : decode cX5_init 4 = .ok (.return_, 1) := by decide +kernel
abbrev cX5_lot : ByteArray := prog_10_method_2_code
def yX5_lot : MethodName := ⟨RX5, "lot", "(LNettedPlans$Item;IJJ)J"⟩
theorem dX5_lot_0 : decode cX5_lot 0 = .ok (.lload_n 3, 1) := by decide +kernel
theorem dX5_lot_1 : decode cX5_lot 1 = .ok (.aload_n 1, 1) := by decide +kernel
theorem dX5_lot_2 : decode cX5_lot 2 = .ok (.getfield 7, 3) := by decide +kernel
theorem dX5_lot_5 : decode cX5_lot 5 = .ok (.i2l, 1) := by decide +kernel
theorem dX5_lot_6 : decode cX5_lot 6 = .ok (.ladd, 1) := by decide +kernel
theorem dX5_lot_7 : decode cX5_lot 7 = .ok (.lconst 1, 1) := by decide +kernel
theorem dX5_lot_8 : decode cX5_lot 8 = .ok (.lsub, 1) := by decide +kernel
theorem dX5_lot_9 : decode cX5_lot 9 = .ok (.aload_n 1, 1) := by decide +kernel
theorem dX5_lot_10 : decode cX5_lot 10 = .ok (.getfield 7, 3) := by decide +kernel
theorem dX5_lot_13 : decode cX5_lot 13 = .ok (.i2l, 1) := by decide +kernel
theorem dX5_lot_14 : decode cX5_lot 14 = .ok (.ldiv, 1) := by decide +kernel
theorem dX5_lot_15 : decode cX5_lot 15 = .ok (.aload_n 1, 1) := by decide +kernel
theorem dX5_lot_16 : decode cX5_lot 16 = .ok (.getfield 7, 3) := by decide +kernel
theorem dX5_lot_19 : decode cX5_lot 19 = .ok (.i2l, 1) := by decide +kernel
theorem dX5_lot_20 : decode cX5_lot 20 = .ok (.lmul, 1) := by decide +kernel
theorem dX5_lot_21 : decode cX5_lot 21 = .ok (.lreturn, 1) := by decide +kernel
theorem q54 : (Jvm.Cond.initialized "NettedPlans$Multiples") ∈ lw_all := lw_g (lw_at lw_m1 8 rfl) rfl
theorem q138 : (Jvm.Cond.instantiable "NettedPlans$Multiples" (0 : Nat)) ∈ lw_all := lw_g (lw_at lw_m1 92 rfl) rfl
theorem q140 : (Jvm.Cond.instanceMethod ({ cls := "NettedPlans$Multiples", name := "<init>", desc := "()V" } : Jvm.MethodName)) ∈ lw_all := lw_g (lw_at lw_m1 94 rfl) rfl
theorem q141 : (Jvm.Cond.code ({ cls := "NettedPlans$Multiples", name := "<init>", desc := "()V" } : Jvm.MethodName) prog_10_method_1_code (1 : Nat) (Option.none : Option Jvm.ClassFile.FieldType)) ∈ lw_all := lw_g (lw_at lw_m1 95 rfl) rfl
theorem q142 : (Jvm.Cond.methodLinkNest "NettedPlans$Multiples" (1 : Nat) ({ cls := "NettedPlans$LotRule", name := "<init>", desc := "()V" } : Jvm.MethodName) "NettedPlans") ∈ lw_tbl := lw_at lw_m1 96 rfl
theorem q143 : (Jvm.Cond.superclass "NettedPlans$Multiples" "NettedPlans$LotRule") ∈ lw_all := lw_g (lw_at lw_m1 97 rfl) rfl
theorem q190 : (Jvm.Cond.fieldLinkNest "NettedPlans$Multiples" (7 : Nat) "NettedPlans$Item" "size" "I" "NettedPlans") ∈ lw_tbl := lw_at lw_m1 144 rfl
theorem q355 : (Jvm.Cond.selects "NettedPlans$Multiples" ({ cls := "java/lang/Object", name := "getClass", desc := "()Ljava/lang/Class;" } : Jvm.MethodName) ({ cls := "java/lang/Object", name := "getClass", desc := "()Ljava/lang/Class;" } : Jvm.MethodName)) ∈ lw_all := lw_g (lw_at lw_m2 69 rfl) rfl
theorem q503 : (Jvm.Cond.selects "NettedPlans$Multiples" ({ cls := "NettedPlans$LotRule", name := "plan", desc := "(LNettedPlans$Item;)V" } : Jvm.MethodName) ({ cls := "NettedPlans$LotRule", name := "plan", desc := "(LNettedPlans$Item;)V" } : Jvm.MethodName)) ∈ lw_all := lw_g (lw_at lw_m2 217 rfl) rfl
theorem q524 : (Jvm.Cond.selects "NettedPlans$Multiples" ({ cls := "NettedPlans$LotRule", name := "lot", desc := "(LNettedPlans$Item;IJJ)J" } : Jvm.MethodName) ({ cls := "NettedPlans$Multiples", name := "lot", desc := "(LNettedPlans$Item;IJJ)J" } : Jvm.MethodName)) ∈ lw_all := lw_g (lw_at lw_m2 238 rfl) rfl
theorem q525 : (Jvm.Cond.instanceMethod ({ cls := "NettedPlans$Multiples", name := "lot", desc := "(LNettedPlans$Item;IJJ)J" } : Jvm.MethodName)) ∈ lw_all := lw_g (lw_at lw_m2 239 rfl) rfl
theorem q526 : (Jvm.Cond.code ({ cls := "NettedPlans$Multiples", name := "lot", desc := "(LNettedPlans$Item;IJJ)J" } : Jvm.MethodName) prog_10_method_2_code (7 : Nat) (Option.some Jvm.ClassFile.FieldType.long)) ∈ lw_all := lw_g (lw_at lw_m3 0 rfl) rfl
theorem q1158 : (Jvm.Cond.castable "NettedPlans$Multiples" "NettedPlans$LotRule") ∈ lw_tbl := lw_at lw_m5 152 rfl
theorem q1168 : (Jvm.Cond.castable "NettedPlans$Multiples" "java/lang/Object") ∈ lw_tbl := lw_at lw_m5 162 rfl
/-! NettedPlans$Cover -/
set_option maxRecDepth 100000
def RX6 : String := "NettedPlans$Cover"
abbrev cX6_init : ByteArray := prog_4_method_1_code
def yX6_init : MethodName := ⟨RX6, "<init>", "()V"⟩
theorem dX6_init_0 : decode cX6_init 0 = .ok (.aload_n 0, 1) := by decide +kernel
theorem dX6_init_1 : decode cX6_init 1 = .ok (.invokespecial 3, 3) := by decide +kernel
theorem dX6_init_4 : decode cX6_init 4 = .ok (.return_, 1) := by decide +kernel
abbrev cX6_lot : ByteArray := prog_4_method_2_code
def yX6_lot : MethodName := ⟨RX6, "lot", "(LNettedPlans$Item;IJJ)J"⟩
theorem dX6_lot_0 : decode cX6_lot 0 = .ok (.aload_n 1, 1) := by decide +kernel
theorem dX6_lot_1 : decode cX6_lot 1 = .ok (.bipush 11, 2) := by decide +kernel
theorem dX6_lot_3 : decode cX6_lot 3 = .ok (.iload_n 2, 1) := by decide +kernel
theorem dX6_lot_4 : decode cX6_lot 4 = .ok (.aload_n 1, 1) := by decide +kernel
theorem dX6_lot_5 : decode cX6_lot 5 = .ok (.getfield 9, 3) := by decide +kernel
theorem dX6_lot_8 : decode cX6_lot 8 = .ok (.iadd, 1) := by decide +kernel
theorem dX6_lot_9 : decode cX6_lot 9 = .ok (.iconst 1, 1) := by decide +kernel
theorem dX6_lot_10 : decode cX6_lot 10 = .ok (.isub, 1) := by decide +kernel
theorem dX6_lot_11 : decode cX6_lot 11 = .ok (.invokestatic 15, 3) := by decide +kernel
theorem dX6_lot_14 : decode cX6_lot 14 = .ok (.invokevirtual 21, 3) := by decide +kernel
theorem dX6_lot_17 : decode cX6_lot 17 = .ok (.lload 5, 2) := by decide +kernel
theorem dX6_lot_19 : decode cX6_lot 19 = .ok (.lsub, 1) := by decide +kernel
theorem dX6_lot_20 : decode cX6_lot 20 = .ok (.lreturn, 1) := by decide +kernel
theorem q55 : (Jvm.Cond.initialized "NettedPlans$Cover") ∈ lw_all := lw_g (lw_at lw_m1 9 rfl) rfl
theorem q145 : (Jvm.Cond.instantiable "NettedPlans$Cover" (0 : Nat)) ∈ lw_all := lw_g (lw_at lw_m1 99 rfl) rfl
theorem q147 : (Jvm.Cond.instanceMethod ({ cls := "NettedPlans$Cover", name := "<init>", desc := "()V" } : Jvm.MethodName)) ∈ lw_all := lw_g (lw_at lw_m1 101 rfl) rfl
theorem q148 : (Jvm.Cond.code ({ cls := "NettedPlans$Cover", name := "<init>", desc := "()V" } : Jvm.MethodName) prog_4_method_1_code (1 : Nat) (Option.none : Option Jvm.ClassFile.FieldType)) ∈ lw_all := lw_g (lw_at lw_m1 102 rfl) rfl
theorem q149 : (Jvm.Cond.methodLinkNest "NettedPlans$Cover" (3 : Nat) ({ cls := "NettedPlans$LotRule", name := "<init>", desc := "()V" } : Jvm.MethodName) "NettedPlans") ∈ lw_tbl := lw_at lw_m1 103 rfl
theorem q150 : (Jvm.Cond.superclass "NettedPlans$Cover" "NettedPlans$LotRule") ∈ lw_all := lw_g (lw_at lw_m1 104 rfl) rfl
theorem q191 : (Jvm.Cond.fieldLinkNest "NettedPlans$Cover" (9 : Nat) "NettedPlans$Item" "size" "I" "NettedPlans") ∈ lw_tbl := lw_at lw_m1 145 rfl
theorem q350 : (Jvm.Cond.selects "NettedPlans$Cover" ({ cls := "java/lang/Object", name := "getClass", desc := "()Ljava/lang/Class;" } : Jvm.MethodName) ({ cls := "java/lang/Object", name := "getClass", desc := "()Ljava/lang/Class;" } : Jvm.MethodName)) ∈ lw_all := lw_g (lw_at lw_m2 64 rfl) rfl
theorem q490 : (Jvm.Cond.selects "NettedPlans$Cover" ({ cls := "NettedPlans$LotRule", name := "plan", desc := "(LNettedPlans$Item;)V" } : Jvm.MethodName) ({ cls := "NettedPlans$LotRule", name := "plan", desc := "(LNettedPlans$Item;)V" } : Jvm.MethodName)) ∈ lw_all := lw_g (lw_at lw_m2 204 rfl) rfl
theorem q515 : (Jvm.Cond.selects "NettedPlans$Cover" ({ cls := "NettedPlans$LotRule", name := "lot", desc := "(LNettedPlans$Item;IJJ)J" } : Jvm.MethodName) ({ cls := "NettedPlans$Cover", name := "lot", desc := "(LNettedPlans$Item;IJJ)J" } : Jvm.MethodName)) ∈ lw_all := lw_g (lw_at lw_m2 229 rfl) rfl
theorem q516 : (Jvm.Cond.instanceMethod ({ cls := "NettedPlans$Cover", name := "lot", desc := "(LNettedPlans$Item;IJJ)J" } : Jvm.MethodName)) ∈ lw_all := lw_g (lw_at lw_m2 230 rfl) rfl
theorem q517 : (Jvm.Cond.code ({ cls := "NettedPlans$Cover", name := "lot", desc := "(LNettedPlans$Item;IJJ)J" } : Jvm.MethodName) prog_4_method_2_code (7 : Nat) (Option.some Jvm.ClassFile.FieldType.long)) ∈ lw_all := lw_g (lw_at lw_m2 231 rfl) rfl
theorem q518 : (Jvm.Cond.methodLink "NettedPlans$Cover" (15 : Nat) ({ cls := "java/lang/Math", name := "min", desc := "(II)I" } : Jvm.MethodName)) ∈ lw_all := lw_g (lw_at lw_m2 232 rfl) rfl
theorem q519 : (Jvm.Cond.methodLink "NettedPlans$Cover" (21 : Nat) ({ cls := "NettedPlans$Item", name := "need", desc := "(I)J" } : Jvm.MethodName)) ∈ lw_all := lw_g (lw_at lw_m2 233 rfl) rfl
theorem q1159 : (Jvm.Cond.castable "NettedPlans$Cover" "NettedPlans$LotRule") ∈ lw_tbl := lw_at lw_m5 153 rfl
theorem q1169 : (Jvm.Cond.castable "NettedPlans$Cover" "java/lang/Object") ∈ lw_tbl := lw_at lw_m5 163 rfl
/-! NettedPlans$LeastCost -/
set_option maxRecDepth 100000
def RX7 : String := "NettedPlans$LeastCost"
def TX7 : u_T := fun k => match k with
  | 0 => ("NettedPlans$LeastCost", "best", "[J", true)
  | _ => ("NettedPlans$LeastCost", "last", "[I", true)
def tyX7 : Nat → FieldType := fun k => match k with
  | 0 => .array .long
  | _ => .array .int
abbrev wsX70 : List Cond := u_ws RX7 TX7 2
theorem nmX7 : ∀ a, a < 2 → ∀ b, b < 2 → a ≠ b → (TX7 a).2.1 ≠ (TX7 b).2.1 := by decide +kernel
theorem tyX7_ok : ∀ k, k < 2 → parseFieldDescriptor (TX7 k).2.2.1 = some (tyX7 k) := by decide +kernel
abbrev cX7_init : ByteArray := prog_7_method_1_code
def yX7_init : MethodName := ⟨RX7, "<init>", "()V"⟩
theorem dX7_init_0 : decode cX7_init 0 = .ok (.aload_n 0, 1) := by decide +kernel
theorem dX7_init_1 : decode cX7_init 1 = .ok (.invokespecial 3, 3) := by decide +kernel
theorem dX7_init_4 : decode cX7_init 4 = .ok (.aload_n 0, 1) := by decide +kernel
theorem dX7_init_5 : decode cX7_init 5 = .ok (.bipush 13, 2) := by decide +kernel
theorem dX7_init_7 : decode cX7_init 7 = .ok (.newarray .long, 2) := by decide +kernel
theorem dX7_init_9 : decode cX7_init 9 = .ok (.putfield 9, 3) := by decide +kernel
theorem dX7_init_12 : decode cX7_init 12 = .ok (.aload_n 0, 1) := by decide +kernel
theorem dX7_init_13 : decode cX7_init 13 = .ok (.bipush 12, 2) := by decide +kernel
theorem dX7_init_15 : decode cX7_init 15 = .ok (.newarray .int, 2) := by decide +kernel
theorem dX7_init_17 : decode cX7_init 17 = .ok (.putfield 15, 3) := by decide +kernel
theorem dX7_init_20 : decode cX7_init 20 = .ok (.return_, 1) := by decide +kernel
abbrev cX7_plan : ByteArray := prog_7_method_2_code
def yX7_plan : MethodName := ⟨RX7, "plan", "(LNettedPlans$Item;)V"⟩
theorem dX7_plan_0 : decode cX7_plan 0 = .ok (.aload_n 0, 1) := by decide +kernel
theorem dX7_plan_1 : decode cX7_plan 1 = .ok (.getfield 9, 3) := by decide +kernel
theorem dX7_plan_4 : decode cX7_plan 4 = .ok (.bipush 12, 2) := by decide +kernel
theorem dX7_plan_6 : decode cX7_plan 6 = .ok (.lconst 0, 1) := by decide +kernel
theorem dX7_plan_7 : decode cX7_plan 7 = .ok (.lastore, 1) := by decide +kernel
theorem dX7_plan_8 : decode cX7_plan 8 = .ok (.bipush 11, 2) := by decide +kernel
theorem dX7_plan_10 : decode cX7_plan 10 = .ok (.istore_n 2, 1) := by decide +kernel
theorem dX7_plan_11 : decode cX7_plan 11 = .ok (.iload_n 2, 1) := by decide +kernel
theorem dX7_plan_12 : decode cX7_plan 12 = .ok (.aload_n 1, 1) := by decide +kernel
theorem dX7_plan_13 : decode cX7_plan 13 = .ok (.getfield 19, 3) := by decide +kernel
theorem dX7_plan_16 : decode cX7_plan 16 = .ok (.if_icmp .lt 15, 3) := by decide +kernel
theorem dX7_plan_19 : decode cX7_plan 19 = .ok (.aload_n 0, 1) := by decide +kernel
theorem dX7_plan_20 : decode cX7_plan 20 = .ok (.aload_n 1, 1) := by decide +kernel
theorem dX7_plan_21 : decode cX7_plan 21 = .ok (.iload_n 2, 1) := by decide +kernel
theorem dX7_plan_22 : decode cX7_plan 22 = .ok (.invokevirtual 25, 3) := by decide +kernel
theorem dX7_plan_25 : decode cX7_plan 25 = .ok (.iinc 2 (-1), 3) := by decide +kernel
theorem dX7_plan_28 : decode cX7_plan 28 = .ok (.goto (-17), 3) := by decide +kernel
theorem dX7_plan_31 : decode cX7_plan 31 = .ok (.aload_n 0, 1) := by decide +kernel
theorem dX7_plan_32 : decode cX7_plan 32 = .ok (.aload_n 1, 1) := by decide +kernel
theorem dX7_plan_33 : decode cX7_plan 33 = .ok (.invokespecial 29, 3) := by decide +kernel
theorem dX7_plan_36 : decode cX7_plan 36 = .ok (.return_, 1) := by decide +kernel
abbrev cX7_look : ByteArray := prog_7_method_3_code
def yX7_look : MethodName := ⟨RX7, "look", "(LNettedPlans$Item;I)V"⟩
theorem dX7_look_0 : decode cX7_look 0 = .ok (.aload_n 0, 1) := by decide +kernel
theorem dX7_look_1 : decode cX7_look 1 = .ok (.getfield 15, 3) := by decide +kernel
theorem dX7_look_4 : decode cX7_look 4 = .ok (.iload_n 2, 1) := by decide +kernel
theorem dX7_look_5 : decode cX7_look 5 = .ok (.iload_n 2, 1) := by decide +kernel
theorem dX7_look_6 : decode cX7_look 6 = .ok (.iastore, 1) := by decide +kernel
theorem dX7_look_7 : decode cX7_look 7 = .ok (.aload_n 1, 1) := by decide +kernel
theorem dX7_look_8 : decode cX7_look 8 = .ok (.iload_n 2, 1) := by decide +kernel
theorem dX7_look_9 : decode cX7_look 9 = .ok (.invokevirtual 33, 3) := by decide +kernel
theorem dX7_look_12 : decode cX7_look 12 = .ok (.lconst 0, 1) := by decide +kernel
theorem dX7_look_13 : decode cX7_look 13 = .ok (.lcmp, 1) := by decide +kernel
theorem dX7_look_14 : decode cX7_look 14 = .ok (.ifCond .ne 18, 3) := by decide +kernel
theorem dX7_look_17 : decode cX7_look 17 = .ok (.aload_n 0, 1) := by decide +kernel
theorem dX7_look_18 : decode cX7_look 18 = .ok (.getfield 9, 3) := by decide +kernel
theorem dX7_look_21 : decode cX7_look 21 = .ok (.iload_n 2, 1) := by decide +kernel
theorem dX7_look_22 : decode cX7_look 22 = .ok (.aload_n 0, 1) := by decide +kernel
theorem dX7_look_23 : decode cX7_look 23 = .ok (.getfield 9, 3) := by decide +kernel
theorem dX7_look_26 : decode cX7_look 26 = .ok (.iload_n 2, 1) := by decide +kernel
theorem dX7_look_27 : decode cX7_look 27 = .ok (.iconst 1, 1) := by decide +kernel
theorem dX7_look_28 : decode cX7_look 28 = .ok (.iadd, 1) := by decide +kernel
theorem dX7_look_29 : decode cX7_look 29 = .ok (.laload, 1) := by decide +kernel
theorem dX7_look_30 : decode cX7_look 30 = .ok (.lastore, 1) := by decide +kernel
theorem dX7_look_31 : decode cX7_look 31 = .ok (.return_, 1) := by decide +kernel
theorem dX7_look_32 : decode cX7_look 32 = .ok (.aload_n 1, 1) := by decide +kernel
theorem dX7_look_33 : decode cX7_look 33 = .ok (.getfield 37, 3) := by decide +kernel
theorem dX7_look_36 : decode cX7_look 36 = .ok (.i2l, 1) := by decide +kernel
theorem dX7_look_37 : decode cX7_look 37 = .ok (.lstore_n 3, 1) := by decide +kernel
theorem dX7_look_38 : decode cX7_look 38 = .ok (.lload_n 3, 1) := by decide +kernel
theorem dX7_look_39 : decode cX7_look 39 = .ok (.aload_n 0, 1) := by decide +kernel
theorem dX7_look_40 : decode cX7_look 40 = .ok (.getfield 9, 3) := by decide +kernel
theorem dX7_look_43 : decode cX7_look 43 = .ok (.iload_n 2, 1) := by decide +kernel
theorem dX7_look_44 : decode cX7_look 44 = .ok (.iconst 1, 1) := by decide +kernel
theorem dX7_look_45 : decode cX7_look 45 = .ok (.iadd, 1) := by decide +kernel
theorem dX7_look_46 : decode cX7_look 46 = .ok (.laload, 1) := by decide +kernel
theorem dX7_look_47 : decode cX7_look 47 = .ok (.ladd, 1) := by decide +kernel
theorem dX7_look_48 : decode cX7_look 48 = .ok (.lstore 5, 2) := by decide +kernel
theorem dX7_look_50 : decode cX7_look 50 = .ok (.iload_n 2, 1) := by decide +kernel
theorem dX7_look_51 : decode cX7_look 51 = .ok (.iconst 1, 1) := by decide +kernel
theorem dX7_look_52 : decode cX7_look 52 = .ok (.iadd, 1) := by decide +kernel
theorem dX7_look_53 : decode cX7_look 53 = .ok (.istore 7, 2) := by decide +kernel
theorem dX7_look_55 : decode cX7_look 55 = .ok (.iload 7, 2) := by decide +kernel
theorem dX7_look_57 : decode cX7_look 57 = .ok (.bipush 12, 2) := by decide +kernel
theorem dX7_look_59 : decode cX7_look 59 = .ok (.if_icmp .ge 71, 3) := by decide +kernel
theorem dX7_look_62 : decode cX7_look 62 = .ok (.lload_n 3, 1) := by decide +kernel
theorem dX7_look_63 : decode cX7_look 63 = .ok (.aload_n 1, 1) := by decide +kernel
theorem dX7_look_64 : decode cX7_look 64 = .ok (.getfield 40, 3) := by decide +kernel
theorem dX7_look_67 : decode cX7_look 67 = .ok (.i2l, 1) := by decide +kernel
theorem dX7_look_68 : decode cX7_look 68 = .ok (.iload 7, 2) := by decide +kernel
theorem dX7_look_70 : decode cX7_look 70 = .ok (.iload_n 2, 1) := by decide +kernel
theorem dX7_look_71 : decode cX7_look 71 = .ok (.isub, 1) := by decide +kernel
theorem dX7_look_72 : decode cX7_look 72 = .ok (.i2l, 1) := by decide +kernel
theorem dX7_look_73 : decode cX7_look 73 = .ok (.lmul, 1) := by decide +kernel
theorem dX7_look_74 : decode cX7_look 74 = .ok (.aload_n 1, 1) := by decide +kernel
theorem dX7_look_75 : decode cX7_look 75 = .ok (.iload 7, 2) := by decide +kernel
theorem dX7_look_77 : decode cX7_look 77 = .ok (.invokevirtual 33, 3) := by decide +kernel
theorem dX7_look_80 : decode cX7_look 80 = .ok (.lmul, 1) := by decide +kernel
theorem dX7_look_81 : decode cX7_look 81 = .ok (.ladd, 1) := by decide +kernel
theorem dX7_look_82 : decode cX7_look 82 = .ok (.lstore_n 3, 1) := by decide +kernel
theorem dX7_look_83 : decode cX7_look 83 = .ok (.lload_n 3, 1) := by decide +kernel
theorem dX7_look_84 : decode cX7_look 84 = .ok (.aload_n 0, 1) := by decide +kernel
theorem dX7_look_85 : decode cX7_look 85 = .ok (.getfield 9, 3) := by decide +kernel
theorem dX7_look_88 : decode cX7_look 88 = .ok (.iload 7, 2) := by decide +kernel
theorem dX7_look_90 : decode cX7_look 90 = .ok (.iconst 1, 1) := by decide +kernel
theorem dX7_look_91 : decode cX7_look 91 = .ok (.iadd, 1) := by decide +kernel
theorem dX7_look_92 : decode cX7_look 92 = .ok (.laload, 1) := by decide +kernel
theorem dX7_look_93 : decode cX7_look 93 = .ok (.ladd, 1) := by decide +kernel
theorem dX7_look_94 : decode cX7_look 94 = .ok (.lload 5, 2) := by decide +kernel
theorem dX7_look_96 : decode cX7_look 96 = .ok (.lcmp, 1) := by decide +kernel
theorem dX7_look_97 : decode cX7_look 97 = .ok (.ifCond .lt 6, 3) := by decide +kernel
theorem dX7_look_100 : decode cX7_look 100 = .ok (.goto 24, 3) := by decide +kernel
theorem dX7_look_103 : decode cX7_look 103 = .ok (.lload_n 3, 1) := by decide +kernel
theorem dX7_look_104 : decode cX7_look 104 = .ok (.aload_n 0, 1) := by decide +kernel
theorem dX7_look_105 : decode cX7_look 105 = .ok (.getfield 9, 3) := by decide +kernel
theorem dX7_look_108 : decode cX7_look 108 = .ok (.iload 7, 2) := by decide +kernel
theorem dX7_look_110 : decode cX7_look 110 = .ok (.iconst 1, 1) := by decide +kernel
theorem dX7_look_111 : decode cX7_look 111 = .ok (.iadd, 1) := by decide +kernel
theorem dX7_look_112 : decode cX7_look 112 = .ok (.laload, 1) := by decide +kernel
theorem dX7_look_113 : decode cX7_look 113 = .ok (.ladd, 1) := by decide +kernel
theorem dX7_look_114 : decode cX7_look 114 = .ok (.lstore 5, 2) := by decide +kernel
theorem dX7_look_116 : decode cX7_look 116 = .ok (.aload_n 0, 1) := by decide +kernel
theorem dX7_look_117 : decode cX7_look 117 = .ok (.getfield 15, 3) := by decide +kernel
theorem dX7_look_120 : decode cX7_look 120 = .ok (.iload_n 2, 1) := by decide +kernel
theorem dX7_look_121 : decode cX7_look 121 = .ok (.iload 7, 2) := by decide +kernel
theorem dX7_look_123 : decode cX7_look 123 = .ok (.iastore, 1) := by decide +kernel
theorem dX7_look_124 : decode cX7_look 124 = .ok (.iinc 7 1, 3) := by decide +kernel
theorem dX7_look_127 : decode cX7_look 127 = .ok (.goto (-72), 3) := by decide +kernel
theorem dX7_look_130 : decode cX7_look 130 = .ok (.aload_n 0, 1) := by decide +kernel
theorem dX7_look_131 : decode cX7_look 131 = .ok (.getfield 9, 3) := by decide +kernel
theorem dX7_look_134 : decode cX7_look 134 = .ok (.iload_n 2, 1) := by decide +kernel
theorem dX7_look_135 : decode cX7_look 135 = .ok (.lload 5, 2) := by decide +kernel
theorem dX7_look_137 : decode cX7_look 137 = .ok (.lastore, 1) := by decide +kernel
theorem dX7_look_138 : decode cX7_look 138 = .ok (.return_, 1) := by decide +kernel
abbrev cX7_lot : ByteArray := prog_7_method_4_code
def yX7_lot : MethodName := ⟨RX7, "lot", "(LNettedPlans$Item;IJJ)J"⟩
theorem dX7_lot_0 : decode cX7_lot 0 = .ok (.aload_n 1, 1) := by decide +kernel
theorem dX7_lot_1 : decode cX7_lot 1 = .ok (.aload_n 0, 1) := by decide +kernel
theorem dX7_lot_2 : decode cX7_lot 2 = .ok (.getfield 15, 3) := by decide +kernel
theorem dX7_lot_5 : decode cX7_lot 5 = .ok (.iload_n 2, 1) := by decide +kernel
theorem dX7_lot_6 : decode cX7_lot 6 = .ok (.iaload, 1) := by decide +kernel
theorem dX7_lot_7 : decode cX7_lot 7 = .ok (.invokevirtual 43, 3) := by decide +kernel
theorem dX7_lot_10 : decode cX7_lot 10 = .ok (.lload 5, 2) := by decide +kernel
theorem dX7_lot_12 : decode cX7_lot 12 = .ok (.lsub, 1) := by decide +kernel
theorem dX7_lot_13 : decode cX7_lot 13 = .ok (.lreturn, 1) := by decide +kernel
theorem q56 : (Jvm.Cond.initialized "NettedPlans$LeastCost") ∈ lw_all := lw_g (lw_at lw_m1 10 rfl) rfl
theorem q152 : (Jvm.Cond.instantiable "NettedPlans$LeastCost" (2 : Nat)) ∈ lw_all := lw_g (lw_at lw_m1 106 rfl) rfl
theorem q154 : (Jvm.Cond.instanceMethod ({ cls := "NettedPlans$LeastCost", name := "<init>", desc := "()V" } : Jvm.MethodName)) ∈ lw_all := lw_g (lw_at lw_m1 108 rfl) rfl
theorem q155 : (Jvm.Cond.code ({ cls := "NettedPlans$LeastCost", name := "<init>", desc := "()V" } : Jvm.MethodName) prog_7_method_1_code (1 : Nat) (Option.none : Option Jvm.ClassFile.FieldType)) ∈ lw_all := lw_g (lw_at lw_m1 109 rfl) rfl
theorem q156 : (Jvm.Cond.methodLinkNest "NettedPlans$LeastCost" (3 : Nat) ({ cls := "NettedPlans$LotRule", name := "<init>", desc := "()V" } : Jvm.MethodName) "NettedPlans") ∈ lw_tbl := lw_at lw_m1 110 rfl
theorem q157 : (Jvm.Cond.fieldLink "NettedPlans$LeastCost" (9 : Nat) "NettedPlans$LeastCost" "best" "[J") ∈ lw_all := lw_g (lw_at lw_m1 111 rfl) rfl
theorem q158 : (Jvm.Cond.fieldLink "NettedPlans$LeastCost" (15 : Nat) "NettedPlans$LeastCost" "last" "[I") ∈ lw_all := lw_g (lw_at lw_m1 112 rfl) rfl
theorem q159 : (Jvm.Cond.laysFinal "NettedPlans$LeastCost" "NettedPlans$LeastCost" "best" "[J") ∈ lw_all := lw_g (lw_at lw_m1 113 rfl) rfl
theorem q160 : (Jvm.Cond.soleField "NettedPlans$LeastCost" "best") ∈ lw_all := lw_g (lw_at lw_m1 114 rfl) rfl
theorem q161 : (Jvm.Cond.laysFinal "NettedPlans$LeastCost" "NettedPlans$LeastCost" "last" "[I") ∈ lw_all := lw_g (lw_at lw_m1 115 rfl) rfl
theorem q162 : (Jvm.Cond.soleField "NettedPlans$LeastCost" "last") ∈ lw_all := lw_g (lw_at lw_m1 116 rfl) rfl
theorem q163 : (Jvm.Cond.superclass "NettedPlans$LeastCost" "NettedPlans$LotRule") ∈ lw_all := lw_g (lw_at lw_m1 117 rfl) rfl
theorem q193 : (Jvm.Cond.fieldLinkNest "NettedPlans$LeastCost" (19 : Nat) "NettedPlans$Item" "lead" "I" "NettedPlans") ∈ lw_tbl := lw_at lw_m1 147 rfl
theorem q199 : (Jvm.Cond.fieldLinkNest "NettedPlans$LeastCost" (37 : Nat) "NettedPlans$Item" "setup" "I" "NettedPlans") ∈ lw_tbl := lw_at lw_m1 153 rfl
theorem q201 : (Jvm.Cond.fieldLinkNest "NettedPlans$LeastCost" (40 : Nat) "NettedPlans$Item" "hold" "I" "NettedPlans") ∈ lw_tbl := lw_at lw_m1 155 rfl
theorem q353 : (Jvm.Cond.selects "NettedPlans$LeastCost" ({ cls := "java/lang/Object", name := "getClass", desc := "()Ljava/lang/Class;" } : Jvm.MethodName) ({ cls := "java/lang/Object", name := "getClass", desc := "()Ljava/lang/Class;" } : Jvm.MethodName)) ∈ lw_all := lw_g (lw_at lw_m2 67 rfl) rfl
theorem q491 : (Jvm.Cond.selects "NettedPlans$LeastCost" ({ cls := "NettedPlans$LotRule", name := "plan", desc := "(LNettedPlans$Item;)V" } : Jvm.MethodName) ({ cls := "NettedPlans$LeastCost", name := "plan", desc := "(LNettedPlans$Item;)V" } : Jvm.MethodName)) ∈ lw_all := lw_g (lw_at lw_m2 205 rfl) rfl
theorem q492 : (Jvm.Cond.instanceMethod ({ cls := "NettedPlans$LeastCost", name := "plan", desc := "(LNettedPlans$Item;)V" } : Jvm.MethodName)) ∈ lw_all := lw_g (lw_at lw_m2 206 rfl) rfl
theorem q493 : (Jvm.Cond.code ({ cls := "NettedPlans$LeastCost", name := "plan", desc := "(LNettedPlans$Item;)V" } : Jvm.MethodName) prog_7_method_2_code (3 : Nat) (Option.none : Option Jvm.ClassFile.FieldType)) ∈ lw_all := lw_g (lw_at lw_m2 207 rfl) rfl
theorem q494 : (Jvm.Cond.methodLink "NettedPlans$LeastCost" (25 : Nat) ({ cls := "NettedPlans$LeastCost", name := "look", desc := "(LNettedPlans$Item;I)V" } : Jvm.MethodName)) ∈ lw_all := lw_g (lw_at lw_m2 208 rfl) rfl
theorem q495 : (Jvm.Cond.privateMethod ({ cls := "NettedPlans$LeastCost", name := "look", desc := "(LNettedPlans$Item;I)V" } : Jvm.MethodName)) ∈ lw_tbl := lw_at lw_m2 209 rfl
theorem q496 : (Jvm.Cond.instanceMethod ({ cls := "NettedPlans$LeastCost", name := "look", desc := "(LNettedPlans$Item;I)V" } : Jvm.MethodName)) ∈ lw_all := lw_g (lw_at lw_m2 210 rfl) rfl
theorem q497 : (Jvm.Cond.code ({ cls := "NettedPlans$LeastCost", name := "look", desc := "(LNettedPlans$Item;I)V" } : Jvm.MethodName) prog_7_method_3_code (8 : Nat) (Option.none : Option Jvm.ClassFile.FieldType)) ∈ lw_all := lw_g (lw_at lw_m2 211 rfl) rfl
theorem q498 : (Jvm.Cond.methodLink "NettedPlans$LeastCost" (33 : Nat) ({ cls := "NettedPlans$Item", name := "growth", desc := "(I)J" } : Jvm.MethodName)) ∈ lw_all := lw_g (lw_at lw_m2 212 rfl) rfl
theorem q502 : (Jvm.Cond.methodLink "NettedPlans$LeastCost" (29 : Nat) ({ cls := "NettedPlans$LotRule", name := "plan", desc := "(LNettedPlans$Item;)V" } : Jvm.MethodName)) ∈ lw_all := lw_g (lw_at lw_m2 216 rfl) rfl
theorem q520 : (Jvm.Cond.selects "NettedPlans$LeastCost" ({ cls := "NettedPlans$LotRule", name := "lot", desc := "(LNettedPlans$Item;IJJ)J" } : Jvm.MethodName) ({ cls := "NettedPlans$LeastCost", name := "lot", desc := "(LNettedPlans$Item;IJJ)J" } : Jvm.MethodName)) ∈ lw_all := lw_g (lw_at lw_m2 234 rfl) rfl
theorem q521 : (Jvm.Cond.instanceMethod ({ cls := "NettedPlans$LeastCost", name := "lot", desc := "(LNettedPlans$Item;IJJ)J" } : Jvm.MethodName)) ∈ lw_all := lw_g (lw_at lw_m2 235 rfl) rfl
theorem q522 : (Jvm.Cond.code ({ cls := "NettedPlans$LeastCost", name := "lot", desc := "(LNettedPlans$Item;IJJ)J" } : Jvm.MethodName) prog_7_method_4_code (7 : Nat) (Option.some Jvm.ClassFile.FieldType.long)) ∈ lw_all := lw_g (lw_at lw_m2 236 rfl) rfl
theorem q523 : (Jvm.Cond.methodLink "NettedPlans$LeastCost" (43 : Nat) ({ cls := "NettedPlans$Item", name := "need", desc := "(I)J" } : Jvm.MethodName)) ∈ lw_all := lw_g (lw_at lw_m2 237 rfl) rfl
theorem q1160 : (Jvm.Cond.castable "NettedPlans$LeastCost" "NettedPlans$LotRule") ∈ lw_tbl := lw_at lw_m5 154 rfl
theorem q1170 : (Jvm.Cond.castable "NettedPlans$LeastCost" "java/lang/Object") ∈ lw_tbl := lw_at lw_m5 164 rfl
theorem in_X7 : ∀ w ∈ wsX70, w ∈ lw_all := lw_in wsX70 [159, 161] (by decide +kernel) (by decide +kernel)
/-! NettedPlans$Waits -/
set_option maxRecDepth 100000
def RX8 : String := "NettedPlans$Waits"
def TX8 : u_T := fun k => match k with
  | _ => ("NettedPlans$Waits", "heap", "Ljava/util/ArrayList;", true)
def tyX8 : Nat → FieldType := fun k => match k with
  | _ => .object "java/util/ArrayList"
abbrev wsX80 : List Cond := u_ws RX8 TX8 1
theorem nmX8 : ∀ a, a < 1 → ∀ b, b < 1 → a ≠ b → (TX8 a).2.1 ≠ (TX8 b).2.1 := by decide +kernel
theorem tyX8_ok : ∀ k, k < 1 → parseFieldDescriptor (TX8 k).2.2.1 = some (tyX8 k) := by decide +kernel
abbrev cX8_init : ByteArray := prog_13_method_1_code
def yX8_init : MethodName := ⟨RX8, "<init>", "()V"⟩
theorem dX8_init_0 : decode cX8_init 0 = .ok (.aload_n 0, 1) := by decide +kernel
theorem dX8_init_1 : decode cX8_init 1 = .ok (.invokespecial 1, 3) := by decide +kernel
theorem dX8_init_4 : decode cX8_init 4 = .ok (.aload_n 0, 1) := by decide +kernel
theorem dX8_init_5 : decode cX8_init 5 = .ok (.new 7, 3) := by decide +kernel
theorem dX8_init_8 : decode cX8_init 8 = .ok (.dup, 1) := by decide +kernel
theorem dX8_init_9 : decode cX8_init 9 = .ok (.invokespecial 9, 3) := by decide +kernel
theorem dX8_init_12 : decode cX8_init 12 = .ok (.putfield 10, 3) := by decide +kernel
theorem dX8_init_15 : decode cX8_init 15 = .ok (.return_, 1) := by decide +kernel
abbrev cX8_put : ByteArray := prog_13_method_4_code
def yX8_put : MethodName := ⟨RX8, "put", "(LNettedPlans$Ranked;)V"⟩
theorem dX8_put_0 : decode cX8_put 0 = .ok (.aload_n 0, 1) := by decide +kernel
theorem dX8_put_1 : decode cX8_put 1 = .ok (.getfield 10, 3) := by decide +kernel
theorem dX8_put_4 : decode cX8_put 4 = .ok (.aload_n 1, 1) := by decide +kernel
theorem dX8_put_5 : decode cX8_put 5 = .ok (.invokevirtual 30, 3) := by decide +kernel
theorem dX8_put_8 : decode cX8_put 8 = .ok (.pop, 1) := by decide +kernel
theorem dX8_put_9 : decode cX8_put 9 = .ok (.aload_n 0, 1) := by decide +kernel
theorem dX8_put_10 : decode cX8_put 10 = .ok (.getfield 10, 3) := by decide +kernel
theorem dX8_put_13 : decode cX8_put 13 = .ok (.invokevirtual 34, 3) := by decide +kernel
theorem dX8_put_16 : decode cX8_put 16 = .ok (.iconst 1, 1) := by decide +kernel
theorem dX8_put_17 : decode cX8_put 17 = .ok (.isub, 1) := by decide +kernel
theorem dX8_put_18 : decode cX8_put 18 = .ok (.istore_n 2, 1) := by decide +kernel
theorem dX8_put_19 : decode cX8_put 19 = .ok (.iload_n 2, 1) := by decide +kernel
theorem dX8_put_20 : decode cX8_put 20 = .ok (.ifCond .le 61, 3) := by decide +kernel
theorem dX8_put_23 : decode cX8_put 23 = .ok (.aload_n 0, 1) := by decide +kernel
theorem dX8_put_24 : decode cX8_put 24 = .ok (.getfield 10, 3) := by decide +kernel
theorem dX8_put_27 : decode cX8_put 27 = .ok (.iload_n 2, 1) := by decide +kernel
theorem dX8_put_28 : decode cX8_put 28 = .ok (.invokevirtual 20, 3) := by decide +kernel
theorem dX8_put_31 : decode cX8_put 31 = .ok (.checkcast 24, 3) := by decide +kernel
theorem dX8_put_34 : decode cX8_put 34 = .ok (.invokeinterface 38 1, 5) := by decide +kernel
theorem dX8_put_39 : decode cX8_put 39 = .ok (.aload_n 0, 1) := by decide +kernel
theorem dX8_put_40 : decode cX8_put 40 = .ok (.getfield 10, 3) := by decide +kernel
theorem dX8_put_43 : decode cX8_put 43 = .ok (.iload_n 2, 1) := by decide +kernel
theorem dX8_put_44 : decode cX8_put 44 = .ok (.iconst 1, 1) := by decide +kernel
theorem dX8_put_45 : decode cX8_put 45 = .ok (.isub, 1) := by decide +kernel
theorem dX8_put_46 : decode cX8_put 46 = .ok (.iconst 2, 1) := by decide +kernel
theorem dX8_put_47 : decode cX8_put 47 = .ok (.idiv, 1) := by decide +kernel
theorem dX8_put_48 : decode cX8_put 48 = .ok (.invokevirtual 20, 3) := by decide +kernel
theorem dX8_put_51 : decode cX8_put 51 = .ok (.checkcast 24, 3) := by decide +kernel
theorem dX8_put_54 : decode cX8_put 54 = .ok (.invokeinterface 38 1, 5) := by decide +kernel
theorem dX8_put_59 : decode cX8_put 59 = .ok (.if_icmp .ge 22, 3) := by decide +kernel
theorem dX8_put_62 : decode cX8_put 62 = .ok (.aload_n 0, 1) := by decide +kernel
theorem dX8_put_63 : decode cX8_put 63 = .ok (.iload_n 2, 1) := by decide +kernel
theorem dX8_put_64 : decode cX8_put 64 = .ok (.iload_n 2, 1) := by decide +kernel
theorem dX8_put_65 : decode cX8_put 65 = .ok (.iconst 1, 1) := by decide +kernel
theorem dX8_put_66 : decode cX8_put 66 = .ok (.isub, 1) := by decide +kernel
theorem dX8_put_67 : decode cX8_put 67 = .ok (.iconst 2, 1) := by decide +kernel
theorem dX8_put_68 : decode cX8_put 68 = .ok (.idiv, 1) := by decide +kernel
theorem dX8_put_69 : decode cX8_put 69 = .ok (.invokevirtual 41, 3) := by decide +kernel
theorem dX8_put_72 : decode cX8_put 72 = .ok (.iload_n 2, 1) := by decide +kernel
theorem dX8_put_73 : decode cX8_put 73 = .ok (.iconst 1, 1) := by decide +kernel
theorem dX8_put_74 : decode cX8_put 74 = .ok (.isub, 1) := by decide +kernel
theorem dX8_put_75 : decode cX8_put 75 = .ok (.iconst 2, 1) := by decide +kernel
theorem dX8_put_76 : decode cX8_put 76 = .ok (.idiv, 1) := by decide +kernel
theorem dX8_put_77 : decode cX8_put 77 = .ok (.istore_n 2, 1) := by decide +kernel
theorem dX8_put_78 : decode cX8_put 78 = .ok (.goto (-59), 3) := by decide +kernel
theorem dX8_put_81 : decode cX8_put 81 = .ok (.return_, 1) := by decide +kernel
abbrev cX8_swap : ByteArray := prog_13_method_3_code
def yX8_swap : MethodName := ⟨RX8, "swap", "(II)V"⟩
theorem dX8_swap_0 : decode cX8_swap 0 = .ok (.aload_n 0, 1) := by decide +kernel
theorem dX8_swap_1 : decode cX8_swap 1 = .ok (.getfield 10, 3) := by decide +kernel
theorem dX8_swap_4 : decode cX8_swap 4 = .ok (.iload_n 1, 1) := by decide +kernel
theorem dX8_swap_5 : decode cX8_swap 5 = .ok (.invokevirtual 20, 3) := by decide +kernel
theorem dX8_swap_8 : decode cX8_swap 8 = .ok (.checkcast 24, 3) := by decide +kernel
theorem dX8_swap_11 : decode cX8_swap 11 = .ok (.astore_n 3, 1) := by decide +kernel
theorem dX8_swap_12 : decode cX8_swap 12 = .ok (.aload_n 0, 1) := by decide +kernel
theorem dX8_swap_13 : decode cX8_swap 13 = .ok (.getfield 10, 3) := by decide +kernel
theorem dX8_swap_16 : decode cX8_swap 16 = .ok (.iload_n 1, 1) := by decide +kernel
theorem dX8_swap_17 : decode cX8_swap 17 = .ok (.aload_n 0, 1) := by decide +kernel
theorem dX8_swap_18 : decode cX8_swap 18 = .ok (.getfield 10, 3) := by decide +kernel
theorem dX8_swap_21 : decode cX8_swap 21 = .ok (.iload_n 2, 1) := by decide +kernel
theorem dX8_swap_22 : decode cX8_swap 22 = .ok (.invokevirtual 20, 3) := by decide +kernel
theorem dX8_swap_25 : decode cX8_swap 25 = .ok (.checkcast 24, 3) := by decide +kernel
theorem dX8_swap_28 : decode cX8_swap 28 = .ok (.invokevirtual 26, 3) := by decide +kernel
theorem dX8_swap_31 : decode cX8_swap 31 = .ok (.pop, 1) := by decide +kernel
theorem dX8_swap_32 : decode cX8_swap 32 = .ok (.aload_n 0, 1) := by decide +kernel
theorem dX8_swap_33 : decode cX8_swap 33 = .ok (.getfield 10, 3) := by decide +kernel
theorem dX8_swap_36 : decode cX8_swap 36 = .ok (.iload_n 2, 1) := by decide +kernel
theorem dX8_swap_37 : decode cX8_swap 37 = .ok (.aload_n 3, 1) := by decide +kernel
theorem dX8_swap_38 : decode cX8_swap 38 = .ok (.invokevirtual 26, 3) := by decide +kernel
theorem dX8_swap_41 : decode cX8_swap 41 = .ok (.pop, 1) := by decide +kernel
theorem dX8_swap_42 : decode cX8_swap 42 = .ok (.return_, 1) := by decide +kernel
abbrev cX8_isEmpty : ByteArray := prog_13_method_2_code
def yX8_isEmpty : MethodName := ⟨RX8, "isEmpty", "()Z"⟩
theorem dX8_isEmpty_0 : decode cX8_isEmpty 0 = .ok (.aload_n 0, 1) := by decide +kernel
theorem dX8_isEmpty_1 : decode cX8_isEmpty 1 = .ok (.getfield 10, 3) := by decide +kernel
theorem dX8_isEmpty_4 : decode cX8_isEmpty 4 = .ok (.invokevirtual 16, 3) := by decide +kernel
theorem dX8_isEmpty_7 : decode cX8_isEmpty 7 = .ok (.ireturn, 1) := by decide +kernel
abbrev cX8_take : ByteArray := prog_13_method_5_code
def yX8_take : MethodName := ⟨RX8, "take", "()LNettedPlans$Ranked;"⟩
theorem dX8_take_0 : decode cX8_take 0 = .ok (.aload_n 0, 1) := by decide +kernel
theorem dX8_take_1 : decode cX8_take 1 = .ok (.getfield 10, 3) := by decide +kernel
theorem dX8_take_4 : decode cX8_take 4 = .ok (.iconst 0, 1) := by decide +kernel
theorem dX8_take_5 : decode cX8_take 5 = .ok (.invokevirtual 20, 3) := by decide +kernel
theorem dX8_take_8 : decode cX8_take 8 = .ok (.checkcast 24, 3) := by decide +kernel
theorem dX8_take_11 : decode cX8_take 11 = .ok (.astore_n 1, 1) := by decide +kernel
theorem dX8_take_12 : decode cX8_take 12 = .ok (.aload_n 0, 1) := by decide +kernel
theorem dX8_take_13 : decode cX8_take 13 = .ok (.getfield 10, 3) := by decide +kernel
theorem dX8_take_16 : decode cX8_take 16 = .ok (.aload_n 0, 1) := by decide +kernel
theorem dX8_take_17 : decode cX8_take 17 = .ok (.getfield 10, 3) := by decide +kernel
theorem dX8_take_20 : decode cX8_take 20 = .ok (.invokevirtual 34, 3) := by decide +kernel
theorem dX8_take_23 : decode cX8_take 23 = .ok (.iconst 1, 1) := by decide +kernel
theorem dX8_take_24 : decode cX8_take 24 = .ok (.isub, 1) := by decide +kernel
theorem dX8_take_25 : decode cX8_take 25 = .ok (.invokevirtual 45, 3) := by decide +kernel
theorem dX8_take_28 : decode cX8_take 28 = .ok (.checkcast 24, 3) := by decide +kernel
theorem dX8_take_31 : decode cX8_take 31 = .ok (.astore_n 2, 1) := by decide +kernel
theorem dX8_take_32 : decode cX8_take 32 = .ok (.aload_n 0, 1) := by decide +kernel
theorem dX8_take_33 : decode cX8_take 33 = .ok (.getfield 10, 3) := by decide +kernel
theorem dX8_take_36 : decode cX8_take 36 = .ok (.invokevirtual 16, 3) := by decide +kernel
theorem dX8_take_39 : decode cX8_take 39 = .ok (.ifCond .eq 5, 3) := by decide +kernel
theorem dX8_take_42 : decode cX8_take 42 = .ok (.aload_n 1, 1) := by decide +kernel
theorem dX8_take_43 : decode cX8_take 43 = .ok (.areturn, 1) := by decide +kernel
theorem dX8_take_44 : decode cX8_take 44 = .ok (.aload_n 0, 1) := by decide +kernel
theorem dX8_take_45 : decode cX8_take 45 = .ok (.getfield 10, 3) := by decide +kernel
theorem dX8_take_48 : decode cX8_take 48 = .ok (.iconst 0, 1) := by decide +kernel
theorem dX8_take_49 : decode cX8_take 49 = .ok (.aload_n 2, 1) := by decide +kernel
theorem dX8_take_50 : decode cX8_take 50 = .ok (.invokevirtual 26, 3) := by decide +kernel
theorem dX8_take_53 : decode cX8_take 53 = .ok (.pop, 1) := by decide +kernel
theorem dX8_take_54 : decode cX8_take 54 = .ok (.iconst 0, 1) := by decide +kernel
theorem dX8_take_55 : decode cX8_take 55 = .ok (.istore_n 3, 1) := by decide +kernel
theorem dX8_take_56 : decode cX8_take 56 = .ok (.aload_n 0, 1) := by decide +kernel
theorem dX8_take_57 : decode cX8_take 57 = .ok (.iload_n 3, 1) := by decide +kernel
theorem dX8_take_58 : decode cX8_take 58 = .ok (.invokevirtual 48, 3) := by decide +kernel
theorem dX8_take_61 : decode cX8_take 61 = .ok (.istore 4, 2) := by decide +kernel
theorem dX8_take_63 : decode cX8_take 63 = .ok (.iload 4, 2) := by decide +kernel
theorem dX8_take_65 : decode cX8_take 65 = .ok (.iload_n 3, 1) := by decide +kernel
theorem dX8_take_66 : decode cX8_take 66 = .ok (.if_icmp .eq 23, 3) := by decide +kernel
theorem dX8_take_69 : decode cX8_take 69 = .ok (.aload_n 0, 1) := by decide +kernel
theorem dX8_take_70 : decode cX8_take 70 = .ok (.iload_n 3, 1) := by decide +kernel
theorem dX8_take_71 : decode cX8_take 71 = .ok (.iload 4, 2) := by decide +kernel
theorem dX8_take_73 : decode cX8_take 73 = .ok (.invokevirtual 41, 3) := by decide +kernel
theorem dX8_take_76 : decode cX8_take 76 = .ok (.iload 4, 2) := by decide +kernel
theorem dX8_take_78 : decode cX8_take 78 = .ok (.istore_n 3, 1) := by decide +kernel
theorem dX8_take_79 : decode cX8_take 79 = .ok (.aload_n 0, 1) := by decide +kernel
theorem dX8_take_80 : decode cX8_take 80 = .ok (.iload_n 3, 1) := by decide +kernel
theorem dX8_take_81 : decode cX8_take 81 = .ok (.invokevirtual 48, 3) := by decide +kernel
theorem dX8_take_84 : decode cX8_take 84 = .ok (.istore 4, 2) := by decide +kernel
theorem dX8_take_86 : decode cX8_take 86 = .ok (.goto (-23), 3) := by decide +kernel
theorem dX8_take_89 : decode cX8_take 89 = .ok (.aload_n 1, 1) := by decide +kernel
theorem dX8_take_90 : decode cX8_take 90 = .ok (.areturn, 1) := by decide +kernel
abbrev cX8_least : ByteArray := prog_13_method_6_code
def yX8_least : MethodName := ⟨RX8, "least", "(I)I"⟩
theorem dX8_least_0 : decode cX8_least 0 = .ok (.iload_n 1, 1) := by decide +kernel
theorem dX8_least_1 : decode cX8_least 1 = .ok (.istore_n 2, 1) := by decide +kernel
theorem dX8_least_2 : decode cX8_least 2 = .ok (.iconst 2, 1) := by decide +kernel
theorem dX8_least_3 : decode cX8_least 3 = .ok (.iload_n 1, 1) := by decide +kernel
theorem dX8_least_4 : decode cX8_least 4 = .ok (.imul, 1) := by decide +kernel
theorem dX8_least_5 : decode cX8_least 5 = .ok (.iconst 1, 1) := by decide +kernel
theorem dX8_least_6 : decode cX8_least 6 = .ok (.iadd, 1) := by decide +kernel
theorem dX8_least_7 : decode cX8_least 7 = .ok (.istore_n 3, 1) := by decide +kernel
theorem dX8_least_8 : decode cX8_least 8 = .ok (.iload_n 3, 1) := by decide +kernel
theorem dX8_least_9 : decode cX8_least 9 = .ok (.iconst 2, 1) := by decide +kernel
theorem dX8_least_10 : decode cX8_least 10 = .ok (.iload_n 1, 1) := by decide +kernel
theorem dX8_least_11 : decode cX8_least 11 = .ok (.imul, 1) := by decide +kernel
theorem dX8_least_12 : decode cX8_least 12 = .ok (.iconst 2, 1) := by decide +kernel
theorem dX8_least_13 : decode cX8_least 13 = .ok (.iadd, 1) := by decide +kernel
theorem dX8_least_14 : decode cX8_least 14 = .ok (.if_icmp .gt 57, 3) := by decide +kernel
theorem dX8_least_17 : decode cX8_least 17 = .ok (.iload_n 3, 1) := by decide +kernel
theorem dX8_least_18 : decode cX8_least 18 = .ok (.aload_n 0, 1) := by decide +kernel
theorem dX8_least_19 : decode cX8_least 19 = .ok (.getfield 10, 3) := by decide +kernel
theorem dX8_least_22 : decode cX8_least 22 = .ok (.invokevirtual 34, 3) := by decide +kernel
theorem dX8_least_25 : decode cX8_least 25 = .ok (.if_icmp .ge 46, 3) := by decide +kernel
theorem dX8_least_28 : decode cX8_least 28 = .ok (.aload_n 0, 1) := by decide +kernel
theorem dX8_least_29 : decode cX8_least 29 = .ok (.getfield 10, 3) := by decide +kernel
theorem dX8_least_32 : decode cX8_least 32 = .ok (.iload_n 3, 1) := by decide +kernel
theorem dX8_least_33 : decode cX8_least 33 = .ok (.invokevirtual 20, 3) := by decide +kernel
theorem dX8_least_36 : decode cX8_least 36 = .ok (.checkcast 24, 3) := by decide +kernel
theorem dX8_least_39 : decode cX8_least 39 = .ok (.invokeinterface 38 1, 5) := by decide +kernel
theorem dX8_least_44 : decode cX8_least 44 = .ok (.aload_n 0, 1) := by decide +kernel
theorem dX8_least_45 : decode cX8_least 45 = .ok (.getfield 10, 3) := by decide +kernel
theorem dX8_least_48 : decode cX8_least 48 = .ok (.iload_n 2, 1) := by decide +kernel
theorem dX8_least_49 : decode cX8_least 49 = .ok (.invokevirtual 20, 3) := by decide +kernel
theorem dX8_least_52 : decode cX8_least 52 = .ok (.checkcast 24, 3) := by decide +kernel
theorem dX8_least_55 : decode cX8_least 55 = .ok (.invokeinterface 38 1, 5) := by decide +kernel
theorem dX8_least_60 : decode cX8_least 60 = .ok (.if_icmp .ge 5, 3) := by decide +kernel
theorem dX8_least_63 : decode cX8_least 63 = .ok (.iload_n 3, 1) := by decide +kernel
theorem dX8_least_64 : decode cX8_least 64 = .ok (.istore_n 2, 1) := by decide +kernel
theorem dX8_least_65 : decode cX8_least 65 = .ok (.iinc 3 1, 3) := by decide +kernel
theorem dX8_least_68 : decode cX8_least 68 = .ok (.goto (-60), 3) := by decide +kernel
theorem dX8_least_71 : decode cX8_least 71 = .ok (.iload_n 2, 1) := by decide +kernel
theorem dX8_least_72 : decode cX8_least 72 = .ok (.ireturn, 1) := by decide +kernel
theorem q57 : (Jvm.Cond.initialized "NettedPlans$Waits") ∈ lw_all := lw_g (lw_at lw_m1 11 rfl) rfl
theorem q167 : (Jvm.Cond.instantiable "NettedPlans$Waits" (1 : Nat)) ∈ lw_all := lw_g (lw_at lw_m1 121 rfl) rfl
theorem q169 : (Jvm.Cond.instanceMethod ({ cls := "NettedPlans$Waits", name := "<init>", desc := "()V" } : Jvm.MethodName)) ∈ lw_all := lw_g (lw_at lw_m1 123 rfl) rfl
theorem q170 : (Jvm.Cond.code ({ cls := "NettedPlans$Waits", name := "<init>", desc := "()V" } : Jvm.MethodName) prog_13_method_1_code (1 : Nat) (Option.none : Option Jvm.ClassFile.FieldType)) ∈ lw_all := lw_g (lw_at lw_m1 124 rfl) rfl
theorem q171 : (Jvm.Cond.methodLink "NettedPlans$Waits" (1 : Nat) ({ cls := "java/lang/Object", name := "<init>", desc := "()V" } : Jvm.MethodName)) ∈ lw_all := lw_g (lw_at lw_m1 125 rfl) rfl
theorem q172 : (Jvm.Cond.classLink "NettedPlans$Waits" (7 : Nat) "java/util/ArrayList") ∈ lw_all := lw_g (lw_at lw_m1 126 rfl) rfl
theorem q173 : (Jvm.Cond.methodLink "NettedPlans$Waits" (9 : Nat) ({ cls := "java/util/ArrayList", name := "<init>", desc := "()V" } : Jvm.MethodName)) ∈ lw_all := lw_g (lw_at lw_m1 127 rfl) rfl
theorem q174 : (Jvm.Cond.fieldLink "NettedPlans$Waits" (10 : Nat) "NettedPlans$Waits" "heap" "Ljava/util/ArrayList;") ∈ lw_all := lw_g (lw_at lw_m1 128 rfl) rfl
theorem q175 : (Jvm.Cond.laysFinal "NettedPlans$Waits" "NettedPlans$Waits" "heap" "Ljava/util/ArrayList;") ∈ lw_all := lw_g (lw_at lw_m1 129 rfl) rfl
theorem q176 : (Jvm.Cond.soleField "NettedPlans$Waits" "heap") ∈ lw_all := lw_g (lw_at lw_m1 130 rfl) rfl
theorem q177 : (Jvm.Cond.superclass "NettedPlans$Waits" "java/lang/Object") ∈ lw_all := lw_g (lw_at lw_m1 131 rfl) rfl
theorem q312 : (Jvm.Cond.instanceMethod ({ cls := "NettedPlans$Waits", name := "put", desc := "(LNettedPlans$Ranked;)V" } : Jvm.MethodName)) ∈ lw_all := lw_g (lw_at lw_m2 26 rfl) rfl
theorem q313 : (Jvm.Cond.selects "NettedPlans$Waits" ({ cls := "NettedPlans$Waits", name := "put", desc := "(LNettedPlans$Ranked;)V" } : Jvm.MethodName) ({ cls := "NettedPlans$Waits", name := "put", desc := "(LNettedPlans$Ranked;)V" } : Jvm.MethodName)) ∈ lw_all := lw_g (lw_at lw_m2 27 rfl) rfl
theorem q314 : (Jvm.Cond.code ({ cls := "NettedPlans$Waits", name := "put", desc := "(LNettedPlans$Ranked;)V" } : Jvm.MethodName) prog_13_method_4_code (3 : Nat) (Option.none : Option Jvm.ClassFile.FieldType)) ∈ lw_all := lw_g (lw_at lw_m2 28 rfl) rfl
theorem q315 : (Jvm.Cond.methodLink "NettedPlans$Waits" (30 : Nat) ({ cls := "java/util/ArrayList", name := "add", desc := "(Ljava/lang/Object;)Z" } : Jvm.MethodName)) ∈ lw_all := lw_g (lw_at lw_m2 29 rfl) rfl
theorem q357 : (Jvm.Cond.selects "NettedPlans$Waits" ({ cls := "java/lang/Object", name := "getClass", desc := "()Ljava/lang/Class;" } : Jvm.MethodName) ({ cls := "java/lang/Object", name := "getClass", desc := "()Ljava/lang/Class;" } : Jvm.MethodName)) ∈ lw_all := lw_g (lw_at lw_m2 71 rfl) rfl
theorem q378 : (Jvm.Cond.methodLink "NettedPlans$Waits" (34 : Nat) ({ cls := "java/util/ArrayList", name := "size", desc := "()I" } : Jvm.MethodName)) ∈ lw_all := lw_g (lw_at lw_m2 92 rfl) rfl
theorem q382 : (Jvm.Cond.methodLink "NettedPlans$Waits" (20 : Nat) ({ cls := "java/util/ArrayList", name := "get", desc := "(I)Ljava/lang/Object;" } : Jvm.MethodName)) ∈ lw_all := lw_g (lw_at lw_m2 96 rfl) rfl
theorem q396 : (Jvm.Cond.classLink "NettedPlans$Waits" (24 : Nat) "NettedPlans$Ranked") ∈ lw_all := lw_g (lw_at lw_m2 110 rfl) rfl
theorem q397 : (Jvm.Cond.interfaceEntry "NettedPlans$Waits" (38 : Nat)) ∈ lw_tbl := lw_at lw_m2 111 rfl
theorem q398 : (Jvm.Cond.methodLink "NettedPlans$Waits" (38 : Nat) ({ cls := "NettedPlans$Ranked", name := "rank", desc := "()I" } : Jvm.MethodName)) ∈ lw_all := lw_g (lw_at lw_m2 112 rfl) rfl
theorem q407 : (Jvm.Cond.methodLink "NettedPlans$Waits" (41 : Nat) ({ cls := "NettedPlans$Waits", name := "swap", desc := "(II)V" } : Jvm.MethodName)) ∈ lw_all := lw_g (lw_at lw_m2 121 rfl) rfl
theorem q408 : (Jvm.Cond.privateMethod ({ cls := "NettedPlans$Waits", name := "swap", desc := "(II)V" } : Jvm.MethodName)) ∈ lw_tbl := lw_at lw_m2 122 rfl
theorem q409 : (Jvm.Cond.instanceMethod ({ cls := "NettedPlans$Waits", name := "swap", desc := "(II)V" } : Jvm.MethodName)) ∈ lw_all := lw_g (lw_at lw_m2 123 rfl) rfl
theorem q410 : (Jvm.Cond.code ({ cls := "NettedPlans$Waits", name := "swap", desc := "(II)V" } : Jvm.MethodName) prog_13_method_3_code (4 : Nat) (Option.none : Option Jvm.ClassFile.FieldType)) ∈ lw_all := lw_g (lw_at lw_m2 124 rfl) rfl
theorem q411 : (Jvm.Cond.methodLink "NettedPlans$Waits" (26 : Nat) ({ cls := "java/util/ArrayList", name := "set", desc := "(ILjava/lang/Object;)Ljava/lang/Object;" } : Jvm.MethodName)) ∈ lw_all := lw_g (lw_at lw_m2 125 rfl) rfl
theorem q416 : (Jvm.Cond.instanceMethod ({ cls := "NettedPlans$Waits", name := "isEmpty", desc := "()Z" } : Jvm.MethodName)) ∈ lw_all := lw_g (lw_at lw_m2 130 rfl) rfl
theorem q417 : (Jvm.Cond.selects "NettedPlans$Waits" ({ cls := "NettedPlans$Waits", name := "isEmpty", desc := "()Z" } : Jvm.MethodName) ({ cls := "NettedPlans$Waits", name := "isEmpty", desc := "()Z" } : Jvm.MethodName)) ∈ lw_all := lw_g (lw_at lw_m2 131 rfl) rfl
theorem q418 : (Jvm.Cond.code ({ cls := "NettedPlans$Waits", name := "isEmpty", desc := "()Z" } : Jvm.MethodName) prog_13_method_2_code (1 : Nat) (Option.some Jvm.ClassFile.FieldType.boolean)) ∈ lw_all := lw_g (lw_at lw_m2 132 rfl) rfl
theorem q419 : (Jvm.Cond.methodLink "NettedPlans$Waits" (16 : Nat) ({ cls := "java/util/ArrayList", name := "isEmpty", desc := "()Z" } : Jvm.MethodName)) ∈ lw_all := lw_g (lw_at lw_m2 133 rfl) rfl
theorem q424 : (Jvm.Cond.instanceMethod ({ cls := "NettedPlans$Waits", name := "take", desc := "()LNettedPlans$Ranked;" } : Jvm.MethodName)) ∈ lw_all := lw_g (lw_at lw_m2 138 rfl) rfl
theorem q425 : (Jvm.Cond.selects "NettedPlans$Waits" ({ cls := "NettedPlans$Waits", name := "take", desc := "()LNettedPlans$Ranked;" } : Jvm.MethodName) ({ cls := "NettedPlans$Waits", name := "take", desc := "()LNettedPlans$Ranked;" } : Jvm.MethodName)) ∈ lw_all := lw_g (lw_at lw_m2 139 rfl) rfl
theorem q426 : (Jvm.Cond.code ({ cls := "NettedPlans$Waits", name := "take", desc := "()LNettedPlans$Ranked;" } : Jvm.MethodName) prog_13_method_5_code (5 : Nat) (Option.some (Jvm.ClassFile.FieldType.object "NettedPlans$Ranked"))) ∈ lw_all := lw_g (lw_at lw_m2 140 rfl) rfl
theorem q427 : (Jvm.Cond.methodLink "NettedPlans$Waits" (45 : Nat) ({ cls := "java/util/ArrayList", name := "remove", desc := "(I)Ljava/lang/Object;" } : Jvm.MethodName)) ∈ lw_all := lw_g (lw_at lw_m2 141 rfl) rfl
theorem q436 : (Jvm.Cond.methodLink "NettedPlans$Waits" (48 : Nat) ({ cls := "NettedPlans$Waits", name := "least", desc := "(I)I" } : Jvm.MethodName)) ∈ lw_all := lw_g (lw_at lw_m2 150 rfl) rfl
theorem q437 : (Jvm.Cond.privateMethod ({ cls := "NettedPlans$Waits", name := "least", desc := "(I)I" } : Jvm.MethodName)) ∈ lw_tbl := lw_at lw_m2 151 rfl
theorem q438 : (Jvm.Cond.instanceMethod ({ cls := "NettedPlans$Waits", name := "least", desc := "(I)I" } : Jvm.MethodName)) ∈ lw_all := lw_g (lw_at lw_m2 152 rfl) rfl
theorem q439 : (Jvm.Cond.code ({ cls := "NettedPlans$Waits", name := "least", desc := "(I)I" } : Jvm.MethodName) prog_13_method_6_code (4 : Nat) (Option.some Jvm.ClassFile.FieldType.int)) ∈ lw_all := lw_g (lw_at lw_m2 153 rfl) rfl
theorem q1171 : (Jvm.Cond.castable "NettedPlans$Waits" "java/lang/Object") ∈ lw_tbl := lw_at lw_m5 165 rfl
theorem in_X8 : ∀ w ∈ wsX80, w ∈ lw_all := lw_in wsX80 [175] (by decide +kernel) (by decide +kernel)
/-! NettedPlans$Item -/
set_option maxRecDepth 100000
def RX9 : String := "NettedPlans$Item"
def TX9 : u_T := fun k => match k with
  | 0 => ("NettedPlans$Item", "number", "I", true)
  | 1 => ("NettedPlans$Item", "rule", "I", false)
  | 2 => ("NettedPlans$Item", "size", "I", false)
  | 3 => ("NettedPlans$Item", "lead", "I", false)
  | 4 => ("NettedPlans$Item", "safety", "I", false)
  | 5 => ("NettedPlans$Item", "scrap", "I", false)
  | 6 => ("NettedPlans$Item", "setup", "I", false)
  | 7 => ("NettedPlans$Item", "hold", "I", false)
  | 8 => ("NettedPlans$Item", "stock", "I", false)
  | 9 => ("NettedPlans$Item", "centre", "I", false)
  | 10 => ("NettedPlans$Item", "hours", "I", false)
  | 11 => ("NettedPlans$Item", "level", "I", false)
  | 12 => ("NettedPlans$Item", "told", "Z", false)
  | 13 => ("NettedPlans$Item", "waits", "Z", false)
  | 14 => ("NettedPlans$Item", "gross", "[J", true)
  | 15 => ("NettedPlans$Item", "asked", "[J", true)
  | 16 => ("NettedPlans$Item", "needs", "[J", true)
  | 17 => ("NettedPlans$Item", "planned", "[J", true)
  | _ => ("NettedPlans$Item", "balance", "[J", true)
def tyX9 : Nat → FieldType := fun k => match k with
  | 0 => .int
  | 1 => .int
  | 2 => .int
  | 3 => .int
  | 4 => .int
  | 5 => .int
  | 6 => .int
  | 7 => .int
  | 8 => .int
  | 9 => .int
  | 10 => .int
  | 11 => .int
  | 12 => .boolean
  | 13 => .boolean
  | 14 => .array .long
  | 15 => .array .long
  | 16 => .array .long
  | 17 => .array .long
  | _ => .array .long
abbrev wsX90 : List Cond := u_ws RX9 TX9 19
set_option maxRecDepth 100000 in
theorem nmX9 : ∀ a, a < 19 → ∀ b, b < 19 → a ≠ b → (TX9 a).2.1 ≠ (TX9 b).2.1 := by decide +kernel
set_option maxRecDepth 100000 in
theorem tyX9_ok : ∀ k, k < 19 → parseFieldDescriptor (TX9 k).2.2.1 = some (tyX9 k) := by decide +kernel
abbrev cX9_init : ByteArray := prog_6_method_1_code
def yX9_init : MethodName := ⟨RX9, "<init>", "(I)V"⟩
theorem dX9_init_0 : decode cX9_init 0 = .ok (.aload_n 0, 1) := by decide +kernel
theorem dX9_init_1 : decode cX9_init 1 = .ok (.invokespecial 1, 3) := by decide +kernel
theorem dX9_init_4 : decode cX9_init 4 = .ok (.aload_n 0, 1) := by decide +kernel
theorem dX9_init_5 : decode cX9_init 5 = .ok (.iconst 1, 1) := by decide +kernel
theorem dX9_init_6 : decode cX9_init 6 = .ok (.putfield 7, 3) := by decide +kernel
theorem dX9_init_9 : decode cX9_init 9 = .ok (.aload_n 0, 1) := by decide +kernel
theorem dX9_init_10 : decode cX9_init 10 = .ok (.iconst 1, 1) := by decide +kernel
theorem dX9_init_11 : decode cX9_init 11 = .ok (.putfield 13, 3) := by decide +kernel
theorem dX9_init_14 : decode cX9_init 14 = .ok (.aload_n 0, 1) := by decide +kernel
theorem dX9_init_15 : decode cX9_init 15 = .ok (.bipush 12, 2) := by decide +kernel
theorem dX9_init_17 : decode cX9_init 17 = .ok (.newarray .long, 2) := by decide +kernel
theorem dX9_init_19 : decode cX9_init 19 = .ok (.putfield 17, 3) := by decide +kernel
theorem dX9_init_22 : decode cX9_init 22 = .ok (.aload_n 0, 1) := by decide +kernel
theorem dX9_init_23 : decode cX9_init 23 = .ok (.bipush 12, 2) := by decide +kernel
theorem dX9_init_25 : decode cX9_init 25 = .ok (.newarray .long, 2) := by decide +kernel
theorem dX9_init_27 : decode cX9_init 27 = .ok (.putfield 21, 3) := by decide +kernel
theorem dX9_init_30 : decode cX9_init 30 = .ok (.aload_n 0, 1) := by decide +kernel
theorem dX9_init_31 : decode cX9_init 31 = .ok (.bipush 13, 2) := by decide +kernel
theorem dX9_init_33 : decode cX9_init 33 = .ok (.newarray .long, 2) := by decide +kernel
theorem dX9_init_35 : decode cX9_init 35 = .ok (.putfield 24, 3) := by decide +kernel
theorem dX9_init_38 : decode cX9_init 38 = .ok (.aload_n 0, 1) := by decide +kernel
theorem dX9_init_39 : decode cX9_init 39 = .ok (.bipush 12, 2) := by decide +kernel
theorem dX9_init_41 : decode cX9_init 41 = .ok (.newarray .long, 2) := by decide +kernel
theorem dX9_init_43 : decode cX9_init 43 = .ok (.putfield 27, 3) := by decide +kernel
theorem dX9_init_46 : decode cX9_init 46 = .ok (.aload_n 0, 1) := by decide +kernel
theorem dX9_init_47 : decode cX9_init 47 = .ok (.bipush 12, 2) := by decide +kernel
theorem dX9_init_49 : decode cX9_init 49 = .ok (.newarray .long, 2) := by decide +kernel
theorem dX9_init_51 : decode cX9_init 51 = .ok (.putfield 30, 3) := by decide +kernel
theorem dX9_init_54 : decode cX9_init 54 = .ok (.aload_n 0, 1) := by decide +kernel
theorem dX9_init_55 : decode cX9_init 55 = .ok (.iload_n 1, 1) := by decide +kernel
theorem dX9_init_56 : decode cX9_init 56 = .ok (.putfield 33, 3) := by decide +kernel
theorem dX9_init_59 : decode cX9_init 59 = .ok (.return_, 1) := by decide +kernel
abbrev cX9_growth : ByteArray := prog_6_method_2_code
def yX9_growth : MethodName := ⟨RX9, "growth", "(I)J"⟩
theorem dX9_growth_0 : decode cX9_growth 0 = .ok (.aload_n 0, 1) := by decide +kernel
theorem dX9_growth_1 : decode cX9_growth 1 = .ok (.getfield 24, 3) := by decide +kernel
theorem dX9_growth_4 : decode cX9_growth 4 = .ok (.iload_n 1, 1) := by decide +kernel
theorem dX9_growth_5 : decode cX9_growth 5 = .ok (.iconst 1, 1) := by decide +kernel
theorem dX9_growth_6 : decode cX9_growth 6 = .ok (.iadd, 1) := by decide +kernel
theorem dX9_growth_7 : decode cX9_growth 7 = .ok (.laload, 1) := by decide +kernel
theorem dX9_growth_8 : decode cX9_growth 8 = .ok (.aload_n 0, 1) := by decide +kernel
theorem dX9_growth_9 : decode cX9_growth 9 = .ok (.getfield 24, 3) := by decide +kernel
theorem dX9_growth_12 : decode cX9_growth 12 = .ok (.iload_n 1, 1) := by decide +kernel
theorem dX9_growth_13 : decode cX9_growth 13 = .ok (.laload, 1) := by decide +kernel
theorem dX9_growth_14 : decode cX9_growth 14 = .ok (.lsub, 1) := by decide +kernel
theorem dX9_growth_15 : decode cX9_growth 15 = .ok (.lreturn, 1) := by decide +kernel
abbrev cX9_need : ByteArray := prog_6_method_3_code
def yX9_need : MethodName := ⟨RX9, "need", "(I)J"⟩
theorem dX9_need_0 : decode cX9_need 0 = .ok (.aload_n 0, 1) := by decide +kernel
theorem dX9_need_1 : decode cX9_need 1 = .ok (.getfield 24, 3) := by decide +kernel
theorem dX9_need_4 : decode cX9_need 4 = .ok (.iload_n 1, 1) := by decide +kernel
theorem dX9_need_5 : decode cX9_need 5 = .ok (.iconst 1, 1) := by decide +kernel
theorem dX9_need_6 : decode cX9_need 6 = .ok (.iadd, 1) := by decide +kernel
theorem dX9_need_7 : decode cX9_need 7 = .ok (.laload, 1) := by decide +kernel
theorem dX9_need_8 : decode cX9_need 8 = .ok (.lreturn, 1) := by decide +kernel
abbrev cX9_isShort : ByteArray := prog_6_method_4_code
def yX9_isShort : MethodName := ⟨RX9, "isShort", "()Z"⟩
theorem dX9_isShort_0 : decode cX9_isShort 0 = .ok (.iconst 0, 1) := by decide +kernel
theorem dX9_isShort_1 : decode cX9_isShort 1 = .ok (.istore_n 1, 1) := by decide +kernel
theorem dX9_isShort_2 : decode cX9_isShort 2 = .ok (.aload_n 0, 1) := by decide +kernel
theorem dX9_isShort_3 : decode cX9_isShort 3 = .ok (.getfield 30, 3) := by decide +kernel
theorem dX9_isShort_6 : decode cX9_isShort 6 = .ok (.astore_n 2, 1) := by decide +kernel
theorem dX9_isShort_7 : decode cX9_isShort 7 = .ok (.aload_n 2, 1) := by decide +kernel
theorem dX9_isShort_8 : decode cX9_isShort 8 = .ok (.arraylength, 1) := by decide +kernel
theorem dX9_isShort_9 : decode cX9_isShort 9 = .ok (.istore_n 3, 1) := by decide +kernel
theorem dX9_isShort_10 : decode cX9_isShort 10 = .ok (.iconst 0, 1) := by decide +kernel
theorem dX9_isShort_11 : decode cX9_isShort 11 = .ok (.istore 4, 2) := by decide +kernel
theorem dX9_isShort_13 : decode cX9_isShort 13 = .ok (.iload 4, 2) := by decide +kernel
theorem dX9_isShort_15 : decode cX9_isShort 15 = .ok (.iload_n 3, 1) := by decide +kernel
theorem dX9_isShort_16 : decode cX9_isShort 16 = .ok (.if_icmp .ge 32, 3) := by decide +kernel
theorem dX9_isShort_19 : decode cX9_isShort 19 = .ok (.aload_n 2, 1) := by decide +kernel
theorem dX9_isShort_20 : decode cX9_isShort 20 = .ok (.iload 4, 2) := by decide +kernel
theorem dX9_isShort_22 : decode cX9_isShort 22 = .ok (.laload, 1) := by decide +kernel
theorem dX9_isShort_23 : decode cX9_isShort 23 = .ok (.lstore 5, 2) := by decide +kernel
theorem dX9_isShort_25 : decode cX9_isShort 25 = .ok (.iload_n 1, 1) := by decide +kernel
theorem dX9_isShort_26 : decode cX9_isShort 26 = .ok (.ifCond .ne 10, 3) := by decide +kernel
theorem dX9_isShort_29 : decode cX9_isShort 29 = .ok (.lload 5, 2) := by decide +kernel
theorem dX9_isShort_31 : decode cX9_isShort 31 = .ok (.lconst 0, 1) := by decide +kernel
theorem dX9_isShort_32 : decode cX9_isShort 32 = .ok (.lcmp, 1) := by decide +kernel
theorem dX9_isShort_33 : decode cX9_isShort 33 = .ok (.ifCond .ge 7, 3) := by decide +kernel
theorem dX9_isShort_36 : decode cX9_isShort 36 = .ok (.iconst 1, 1) := by decide +kernel
theorem dX9_isShort_37 : decode cX9_isShort 37 = .ok (.goto 4, 3) := by decide +kernel
theorem dX9_isShort_40 : decode cX9_isShort 40 = .ok (.iconst 0, 1) := by decide +kernel
theorem dX9_isShort_41 : decode cX9_isShort 41 = .ok (.istore_n 1, 1) := by decide +kernel
theorem dX9_isShort_42 : decode cX9_isShort 42 = .ok (.iinc 4 1, 3) := by decide +kernel
theorem dX9_isShort_45 : decode cX9_isShort 45 = .ok (.goto (-32), 3) := by decide +kernel
theorem dX9_isShort_48 : decode cX9_isShort 48 = .ok (.iload_n 1, 1) := by decide +kernel
theorem dX9_isShort_49 : decode cX9_isShort 49 = .ok (.ireturn, 1) := by decide +kernel
theorem q58 : (Jvm.Cond.initialized "NettedPlans$Item") ∈ lw_all := lw_g (lw_at lw_m1 12 rfl) rfl
theorem q180 : (Jvm.Cond.instantiable "NettedPlans$Item" (19 : Nat)) ∈ lw_all := lw_g (lw_at lw_m1 134 rfl) rfl
theorem q182 : (Jvm.Cond.instanceMethod ({ cls := "NettedPlans$Item", name := "<init>", desc := "(I)V" } : Jvm.MethodName)) ∈ lw_all := lw_g (lw_at lw_m1 136 rfl) rfl
theorem q183 : (Jvm.Cond.code ({ cls := "NettedPlans$Item", name := "<init>", desc := "(I)V" } : Jvm.MethodName) prog_6_method_1_code (2 : Nat) (Option.none : Option Jvm.ClassFile.FieldType)) ∈ lw_all := lw_g (lw_at lw_m1 137 rfl) rfl
theorem q184 : (Jvm.Cond.methodLink "NettedPlans$Item" (1 : Nat) ({ cls := "java/lang/Object", name := "<init>", desc := "()V" } : Jvm.MethodName)) ∈ lw_all := lw_g (lw_at lw_m1 138 rfl) rfl
theorem q185 : (Jvm.Cond.fieldLink "NettedPlans$Item" (33 : Nat) "NettedPlans$Item" "number" "I") ∈ lw_all := lw_g (lw_at lw_m1 139 rfl) rfl
theorem q189 : (Jvm.Cond.fieldLink "NettedPlans$Item" (7 : Nat) "NettedPlans$Item" "size" "I") ∈ lw_all := lw_g (lw_at lw_m1 143 rfl) rfl
theorem q208 : (Jvm.Cond.fieldLink "NettedPlans$Item" (13 : Nat) "NettedPlans$Item" "told" "Z") ∈ lw_all := lw_g (lw_at lw_m1 162 rfl) rfl
theorem q211 : (Jvm.Cond.fieldLink "NettedPlans$Item" (17 : Nat) "NettedPlans$Item" "gross" "[J") ∈ lw_all := lw_g (lw_at lw_m1 165 rfl) rfl
theorem q213 : (Jvm.Cond.fieldLink "NettedPlans$Item" (21 : Nat) "NettedPlans$Item" "asked" "[J") ∈ lw_all := lw_g (lw_at lw_m1 167 rfl) rfl
theorem q214 : (Jvm.Cond.fieldLink "NettedPlans$Item" (24 : Nat) "NettedPlans$Item" "needs" "[J") ∈ lw_all := lw_g (lw_at lw_m1 168 rfl) rfl
theorem q216 : (Jvm.Cond.fieldLink "NettedPlans$Item" (27 : Nat) "NettedPlans$Item" "planned" "[J") ∈ lw_all := lw_g (lw_at lw_m1 170 rfl) rfl
theorem q219 : (Jvm.Cond.fieldLink "NettedPlans$Item" (30 : Nat) "NettedPlans$Item" "balance" "[J") ∈ lw_all := lw_g (lw_at lw_m1 173 rfl) rfl
theorem q221 : (Jvm.Cond.laysFinal "NettedPlans$Item" "NettedPlans$Item" "number" "I") ∈ lw_all := lw_g (lw_at lw_m1 175 rfl) rfl
theorem q222 : (Jvm.Cond.soleField "NettedPlans$Item" "number") ∈ lw_all := lw_g (lw_at lw_m1 176 rfl) rfl
theorem q223 : (Jvm.Cond.lays "NettedPlans$Item" "NettedPlans$Item" "rule" "I") ∈ lw_all := lw_g (lw_at lw_m1 177 rfl) rfl
theorem q224 : (Jvm.Cond.soleField "NettedPlans$Item" "rule") ∈ lw_all := lw_g (lw_at lw_m1 178 rfl) rfl
theorem q225 : (Jvm.Cond.lays "NettedPlans$Item" "NettedPlans$Item" "size" "I") ∈ lw_all := lw_g (lw_at lw_m1 179 rfl) rfl
theorem q226 : (Jvm.Cond.soleField "NettedPlans$Item" "size") ∈ lw_all := lw_g (lw_at lw_m1 180 rfl) rfl
theorem q227 : (Jvm.Cond.lays "NettedPlans$Item" "NettedPlans$Item" "lead" "I") ∈ lw_all := lw_g (lw_at lw_m1 181 rfl) rfl
theorem q228 : (Jvm.Cond.soleField "NettedPlans$Item" "lead") ∈ lw_all := lw_g (lw_at lw_m1 182 rfl) rfl
theorem q229 : (Jvm.Cond.lays "NettedPlans$Item" "NettedPlans$Item" "safety" "I") ∈ lw_all := lw_g (lw_at lw_m1 183 rfl) rfl
theorem q230 : (Jvm.Cond.soleField "NettedPlans$Item" "safety") ∈ lw_all := lw_g (lw_at lw_m1 184 rfl) rfl
theorem q231 : (Jvm.Cond.lays "NettedPlans$Item" "NettedPlans$Item" "scrap" "I") ∈ lw_all := lw_g (lw_at lw_m1 185 rfl) rfl
theorem q232 : (Jvm.Cond.soleField "NettedPlans$Item" "scrap") ∈ lw_all := lw_g (lw_at lw_m1 186 rfl) rfl
theorem q233 : (Jvm.Cond.lays "NettedPlans$Item" "NettedPlans$Item" "setup" "I") ∈ lw_all := lw_g (lw_at lw_m1 187 rfl) rfl
theorem q234 : (Jvm.Cond.soleField "NettedPlans$Item" "setup") ∈ lw_all := lw_g (lw_at lw_m1 188 rfl) rfl
theorem q235 : (Jvm.Cond.lays "NettedPlans$Item" "NettedPlans$Item" "hold" "I") ∈ lw_all := lw_g (lw_at lw_m1 189 rfl) rfl
theorem q236 : (Jvm.Cond.soleField "NettedPlans$Item" "hold") ∈ lw_all := lw_g (lw_at lw_m1 190 rfl) rfl
theorem q237 : (Jvm.Cond.lays "NettedPlans$Item" "NettedPlans$Item" "stock" "I") ∈ lw_all := lw_g (lw_at lw_m1 191 rfl) rfl
theorem q238 : (Jvm.Cond.soleField "NettedPlans$Item" "stock") ∈ lw_all := lw_g (lw_at lw_m1 192 rfl) rfl
theorem q239 : (Jvm.Cond.lays "NettedPlans$Item" "NettedPlans$Item" "centre" "I") ∈ lw_all := lw_g (lw_at lw_m1 193 rfl) rfl
theorem q240 : (Jvm.Cond.soleField "NettedPlans$Item" "centre") ∈ lw_all := lw_g (lw_at lw_m1 194 rfl) rfl
theorem q241 : (Jvm.Cond.lays "NettedPlans$Item" "NettedPlans$Item" "hours" "I") ∈ lw_all := lw_g (lw_at lw_m1 195 rfl) rfl
theorem q242 : (Jvm.Cond.soleField "NettedPlans$Item" "hours") ∈ lw_all := lw_g (lw_at lw_m1 196 rfl) rfl
theorem q243 : (Jvm.Cond.lays "NettedPlans$Item" "NettedPlans$Item" "level" "I") ∈ lw_all := lw_g (lw_at lw_m1 197 rfl) rfl
theorem q244 : (Jvm.Cond.soleField "NettedPlans$Item" "level") ∈ lw_all := lw_g (lw_at lw_m1 198 rfl) rfl
theorem q245 : (Jvm.Cond.lays "NettedPlans$Item" "NettedPlans$Item" "told" "Z") ∈ lw_all := lw_g (lw_at lw_m1 199 rfl) rfl
theorem q246 : (Jvm.Cond.soleField "NettedPlans$Item" "told") ∈ lw_all := lw_g (lw_at lw_m1 200 rfl) rfl
theorem q247 : (Jvm.Cond.lays "NettedPlans$Item" "NettedPlans$Item" "waits" "Z") ∈ lw_all := lw_g (lw_at lw_m1 201 rfl) rfl
theorem q248 : (Jvm.Cond.soleField "NettedPlans$Item" "waits") ∈ lw_all := lw_g (lw_at lw_m1 202 rfl) rfl
theorem q249 : (Jvm.Cond.laysFinal "NettedPlans$Item" "NettedPlans$Item" "gross" "[J") ∈ lw_all := lw_g (lw_at lw_m1 203 rfl) rfl
theorem q250 : (Jvm.Cond.soleField "NettedPlans$Item" "gross") ∈ lw_all := lw_g (lw_at lw_m1 204 rfl) rfl
theorem q251 : (Jvm.Cond.laysFinal "NettedPlans$Item" "NettedPlans$Item" "asked" "[J") ∈ lw_all := lw_g (lw_at lw_m1 205 rfl) rfl
theorem q252 : (Jvm.Cond.soleField "NettedPlans$Item" "asked") ∈ lw_all := lw_g (lw_at lw_m1 206 rfl) rfl
theorem q253 : (Jvm.Cond.laysFinal "NettedPlans$Item" "NettedPlans$Item" "needs" "[J") ∈ lw_all := lw_g (lw_at lw_m1 207 rfl) rfl
theorem q254 : (Jvm.Cond.soleField "NettedPlans$Item" "needs") ∈ lw_all := lw_g (lw_at lw_m1 208 rfl) rfl
theorem q255 : (Jvm.Cond.laysFinal "NettedPlans$Item" "NettedPlans$Item" "planned" "[J") ∈ lw_all := lw_g (lw_at lw_m1 209 rfl) rfl
theorem q256 : (Jvm.Cond.soleField "NettedPlans$Item" "planned") ∈ lw_all := lw_g (lw_at lw_m1 210 rfl) rfl
theorem q257 : (Jvm.Cond.laysFinal "NettedPlans$Item" "NettedPlans$Item" "balance" "[J") ∈ lw_all := lw_g (lw_at lw_m1 211 rfl) rfl
theorem q258 : (Jvm.Cond.soleField "NettedPlans$Item" "balance") ∈ lw_all := lw_g (lw_at lw_m1 212 rfl) rfl
theorem q259 : (Jvm.Cond.superclass "NettedPlans$Item" "java/lang/Object") ∈ lw_all := lw_g (lw_at lw_m1 213 rfl) rfl
theorem q352 : (Jvm.Cond.selects "NettedPlans$Item" ({ cls := "java/lang/Object", name := "getClass", desc := "()Ljava/lang/Class;" } : Jvm.MethodName) ({ cls := "java/lang/Object", name := "getClass", desc := "()Ljava/lang/Class;" } : Jvm.MethodName)) ∈ lw_all := lw_g (lw_at lw_m2 66 rfl) rfl
theorem q499 : (Jvm.Cond.instanceMethod ({ cls := "NettedPlans$Item", name := "growth", desc := "(I)J" } : Jvm.MethodName)) ∈ lw_all := lw_g (lw_at lw_m2 213 rfl) rfl
theorem q500 : (Jvm.Cond.selects "NettedPlans$Item" ({ cls := "NettedPlans$Item", name := "growth", desc := "(I)J" } : Jvm.MethodName) ({ cls := "NettedPlans$Item", name := "growth", desc := "(I)J" } : Jvm.MethodName)) ∈ lw_all := lw_g (lw_at lw_m2 214 rfl) rfl
theorem q501 : (Jvm.Cond.code ({ cls := "NettedPlans$Item", name := "growth", desc := "(I)J" } : Jvm.MethodName) prog_6_method_2_code (2 : Nat) (Option.some Jvm.ClassFile.FieldType.long)) ∈ lw_all := lw_g (lw_at lw_m2 215 rfl) rfl
theorem q506 : (Jvm.Cond.instanceMethod ({ cls := "NettedPlans$Item", name := "need", desc := "(I)J" } : Jvm.MethodName)) ∈ lw_all := lw_g (lw_at lw_m2 220 rfl) rfl
theorem q507 : (Jvm.Cond.selects "NettedPlans$Item" ({ cls := "NettedPlans$Item", name := "need", desc := "(I)J" } : Jvm.MethodName) ({ cls := "NettedPlans$Item", name := "need", desc := "(I)J" } : Jvm.MethodName)) ∈ lw_all := lw_g (lw_at lw_m2 221 rfl) rfl
theorem q508 : (Jvm.Cond.code ({ cls := "NettedPlans$Item", name := "need", desc := "(I)J" } : Jvm.MethodName) prog_6_method_3_code (2 : Nat) (Option.some Jvm.ClassFile.FieldType.long)) ∈ lw_all := lw_g (lw_at lw_m2 222 rfl) rfl
theorem q877 : (Jvm.Cond.instanceMethod ({ cls := "NettedPlans$Item", name := "isShort", desc := "()Z" } : Jvm.MethodName)) ∈ lw_all := lw_g (lw_at lw_m4 111 rfl) rfl
theorem q878 : (Jvm.Cond.selects "NettedPlans$Item" ({ cls := "NettedPlans$Item", name := "isShort", desc := "()Z" } : Jvm.MethodName) ({ cls := "NettedPlans$Item", name := "isShort", desc := "()Z" } : Jvm.MethodName)) ∈ lw_all := lw_g (lw_at lw_m4 112 rfl) rfl
theorem q879 : (Jvm.Cond.code ({ cls := "NettedPlans$Item", name := "isShort", desc := "()Z" } : Jvm.MethodName) prog_6_method_4_code (7 : Nat) (Option.some Jvm.ClassFile.FieldType.boolean)) ∈ lw_all := lw_g (lw_at lw_m4 113 rfl) rfl
theorem q1154 : (Jvm.Cond.castable "NettedPlans$Item" "java/lang/Object") ∈ lw_tbl := lw_at lw_m5 148 rfl
theorem in_X9 : ∀ w ∈ wsX90, w ∈ lw_all := lw_in wsX90 [221, 223, 225, 227, 229, 231, 233, 235, 237, 239, 241, 243, 245, 247, 249, 251, 253, 255, 257] (by decide +kernel) (by decide +kernel)
/-! NettedPlans$Turn -/
set_option maxRecDepth 100000
def RX10 : String := "NettedPlans$Turn"
def TX10 : u_T := fun k => match k with
  | _ => ("NettedPlans$Turn", "whose", "LNettedPlans$Item;", true)
def tyX10 : Nat → FieldType := fun k => match k with
  | _ => .object "NettedPlans$Item"
abbrev wsX100 : List Cond := u_ws RX10 TX10 1
theorem nmX10 : ∀ a, a < 1 → ∀ b, b < 1 → a ≠ b → (TX10 a).2.1 ≠ (TX10 b).2.1 := by decide +kernel
theorem tyX10_ok : ∀ k, k < 1 → parseFieldDescriptor (TX10 k).2.2.1 = some (tyX10 k) := by decide +kernel
abbrev cX10_init : ByteArray := prog_12_method_1_code
def yX10_init : MethodName := ⟨RX10, "<init>", "(LNettedPlans$Item;)V"⟩
theorem dX10_init_0 : decode cX10_init 0 = .ok (.aload_n 0, 1) := by decide +kernel
theorem dX10_init_1 : decode cX10_init 1 = .ok (.invokespecial 3, 3) := by decide +kernel
theorem dX10_init_4 : decode cX10_init 4 = .ok (.aload_n 0, 1) := by decide +kernel
theorem dX10_init_5 : decode cX10_init 5 = .ok (.aload_n 1, 1) := by decide +kernel
theorem dX10_init_6 : decode cX10_init 6 = .ok (.putfield 9, 3) := by decide +kernel
theorem dX10_init_9 : decode cX10_init 9 = .ok (.return_, 1) := by decide +kernel
abbrev cX10_rank : ByteArray := prog_12_method_2_code
def yX10_rank : MethodName := ⟨RX10, "rank", "()I"⟩
theorem dX10_rank_0 : decode cX10_rank 0 = .ok (.bipush 12, 2) := by decide +kernel
theorem dX10_rank_2 : decode cX10_rank 2 = .ok (.aload_n 0, 1) := by decide +kernel
theorem dX10_rank_3 : decode cX10_rank 3 = .ok (.getfield 9, 3) := by decide +kernel
theorem dX10_rank_6 : decode cX10_rank 6 = .ok (.getfield 15, 3) := by decide +kernel
theorem dX10_rank_9 : decode cX10_rank 9 = .ok (.imul, 1) := by decide +kernel
theorem dX10_rank_10 : decode cX10_rank 10 = .ok (.aload_n 0, 1) := by decide +kernel
theorem dX10_rank_11 : decode cX10_rank 11 = .ok (.getfield 9, 3) := by decide +kernel
theorem dX10_rank_14 : decode cX10_rank 14 = .ok (.getfield 21, 3) := by decide +kernel
theorem dX10_rank_17 : decode cX10_rank 17 = .ok (.iadd, 1) := by decide +kernel
theorem dX10_rank_18 : decode cX10_rank 18 = .ok (.ireturn, 1) := by decide +kernel
abbrev cX10_whose : ByteArray := prog_12_method_6_code
def yX10_whose : MethodName := ⟨RX10, "whose", "()LNettedPlans$Item;"⟩
theorem dX10_whose_0 : decode cX10_whose 0 = .ok (.aload_n 0, 1) := by decide +kernel
theorem dX10_whose_1 : decode cX10_whose 1 = .ok (.getfield 9, 3) := by decide +kernel
theorem dX10_whose_4 : decode cX10_whose 4 = .ok (.areturn, 1) := by decide +kernel
theorem q60 : (Jvm.Cond.initialized "NettedPlans$Turn") ∈ lw_all := lw_g (lw_at lw_m1 14 rfl) rfl
theorem q186 : (Jvm.Cond.fieldLinkNest "NettedPlans$Turn" (21 : Nat) "NettedPlans$Item" "number" "I" "NettedPlans") ∈ lw_tbl := lw_at lw_m1 140 rfl
theorem q206 : (Jvm.Cond.fieldLinkNest "NettedPlans$Turn" (15 : Nat) "NettedPlans$Item" "level" "I" "NettedPlans") ∈ lw_tbl := lw_at lw_m1 160 rfl
theorem q260 : (Jvm.Cond.instantiable "NettedPlans$Turn" (1 : Nat)) ∈ lw_all := lw_g (lw_at lw_m1 214 rfl) rfl
theorem q262 : (Jvm.Cond.instanceMethod ({ cls := "NettedPlans$Turn", name := "<init>", desc := "(LNettedPlans$Item;)V" } : Jvm.MethodName)) ∈ lw_all := lw_g (lw_at lw_m1 216 rfl) rfl
theorem q263 : (Jvm.Cond.code ({ cls := "NettedPlans$Turn", name := "<init>", desc := "(LNettedPlans$Item;)V" } : Jvm.MethodName) prog_12_method_1_code (2 : Nat) (Option.none : Option Jvm.ClassFile.FieldType)) ∈ lw_all := lw_g (lw_at lw_m1 217 rfl) rfl
theorem q264 : (Jvm.Cond.methodLink "NettedPlans$Turn" (3 : Nat) ({ cls := "java/lang/Record", name := "<init>", desc := "()V" } : Jvm.MethodName)) ∈ lw_all := lw_g (lw_at lw_m1 218 rfl) rfl
theorem q268 : (Jvm.Cond.fieldLink "NettedPlans$Turn" (9 : Nat) "NettedPlans$Turn" "whose" "LNettedPlans$Item;") ∈ lw_all := lw_g (lw_at lw_m1 222 rfl) rfl
theorem q269 : (Jvm.Cond.laysFinal "NettedPlans$Turn" "NettedPlans$Turn" "whose" "LNettedPlans$Item;") ∈ lw_all := lw_g (lw_at lw_m1 223 rfl) rfl
theorem q270 : (Jvm.Cond.soleField "NettedPlans$Turn" "whose") ∈ lw_all := lw_g (lw_at lw_m1 224 rfl) rfl
theorem q271 : (Jvm.Cond.superclass "NettedPlans$Turn" "java/lang/Record") ∈ lw_all := lw_g (lw_at lw_m1 225 rfl) rfl
theorem q356 : (Jvm.Cond.selects "NettedPlans$Turn" ({ cls := "java/lang/Object", name := "getClass", desc := "()Ljava/lang/Class;" } : Jvm.MethodName) ({ cls := "java/lang/Object", name := "getClass", desc := "()Ljava/lang/Class;" } : Jvm.MethodName)) ∈ lw_all := lw_g (lw_at lw_m2 70 rfl) rfl
theorem q401 : (Jvm.Cond.castable "NettedPlans$Turn" "NettedPlans$Ranked") ∈ lw_tbl := lw_at lw_m2 115 rfl
theorem q402 : (Jvm.Cond.selects "NettedPlans$Turn" ({ cls := "NettedPlans$Ranked", name := "rank", desc := "()I" } : Jvm.MethodName) ({ cls := "NettedPlans$Turn", name := "rank", desc := "()I" } : Jvm.MethodName)) ∈ lw_all := lw_g (lw_at lw_m2 116 rfl) rfl
theorem q403 : (Jvm.Cond.unhidden "NettedPlans$Turn" "rank" "()I") ∈ lw_tbl := lw_at lw_m2 117 rfl
theorem q404 : (Jvm.Cond.instanceMethod ({ cls := "NettedPlans$Turn", name := "rank", desc := "()I" } : Jvm.MethodName)) ∈ lw_all := lw_g (lw_at lw_m2 118 rfl) rfl
theorem q405 : (Jvm.Cond.publicMethod ({ cls := "NettedPlans$Turn", name := "rank", desc := "()I" } : Jvm.MethodName)) ∈ lw_tbl := lw_at lw_m2 119 rfl
theorem q406 : (Jvm.Cond.code ({ cls := "NettedPlans$Turn", name := "rank", desc := "()I" } : Jvm.MethodName) prog_12_method_2_code (1 : Nat) (Option.some Jvm.ClassFile.FieldType.int)) ∈ lw_all := lw_g (lw_at lw_m2 120 rfl) rfl
theorem q441 : (Jvm.Cond.instanceMethod ({ cls := "NettedPlans$Turn", name := "whose", desc := "()LNettedPlans$Item;" } : Jvm.MethodName)) ∈ lw_all := lw_g (lw_at lw_m2 155 rfl) rfl
theorem q442 : (Jvm.Cond.selects "NettedPlans$Turn" ({ cls := "NettedPlans$Turn", name := "whose", desc := "()LNettedPlans$Item;" } : Jvm.MethodName) ({ cls := "NettedPlans$Turn", name := "whose", desc := "()LNettedPlans$Item;" } : Jvm.MethodName)) ∈ lw_all := lw_g (lw_at lw_m2 156 rfl) rfl
theorem q443 : (Jvm.Cond.code ({ cls := "NettedPlans$Turn", name := "whose", desc := "()LNettedPlans$Item;" } : Jvm.MethodName) prog_12_method_6_code (1 : Nat) (Option.some (Jvm.ClassFile.FieldType.object "NettedPlans$Item"))) ∈ lw_all := lw_g (lw_at lw_m2 157 rfl) rfl
theorem q1156 : (Jvm.Cond.castable "NettedPlans$Turn" "java/lang/Object") ∈ lw_tbl := lw_at lw_m5 150 rfl
theorem in_X10 : ∀ w ∈ wsX100, w ∈ lw_all := lw_in wsX100 [269] (by decide +kernel) (by decide +kernel)
/-! NettedPlans$Line -/
set_option maxRecDepth 100000
def RX12 : String := "NettedPlans$Line"
def TX12 : u_T := fun k => match k with
  | 0 => ("NettedPlans$Line", "parent", "LNettedPlans$Item;", true)
  | 1 => ("NettedPlans$Line", "child", "LNettedPlans$Item;", true)
  | 2 => ("NettedPlans$Line", "per", "I", true)
  | 3 => ("NettedPlans$Line", "from", "I", true)
  | _ => ("NettedPlans$Line", "to", "I", true)
def tyX12 : Nat → FieldType := fun k => match k with
  | 0 => .object "NettedPlans$Item"
  | 1 => .object "NettedPlans$Item"
  | 2 => .int
  | 3 => .int
  | _ => .int
abbrev wsX120 : List Cond := u_ws RX12 TX12 5
theorem nmX12 : ∀ a, a < 5 → ∀ b, b < 5 → a ≠ b → (TX12 a).2.1 ≠ (TX12 b).2.1 := by decide +kernel
theorem tyX12_ok : ∀ k, k < 5 → parseFieldDescriptor (TX12 k).2.2.1 = some (tyX12 k) := by decide +kernel
abbrev cX12_parent : ByteArray := prog_8_method_7_code
def yX12_parent : MethodName := ⟨RX12, "parent", "()LNettedPlans$Item;"⟩
theorem dX12_parent_0 : decode cX12_parent 0 = .ok (.aload_n 0, 1) := by decide +kernel
theorem dX12_parent_1 : decode cX12_parent 1 = .ok (.getfield 9, 3) := by decide +kernel
theorem dX12_parent_4 : decode cX12_parent 4 = .ok (.areturn, 1) := by decide +kernel
abbrev cX12_child : ByteArray := prog_8_method_8_code
def yX12_child : MethodName := ⟨RX12, "child", "()LNettedPlans$Item;"⟩
theorem dX12_child_0 : decode cX12_child 0 = .ok (.aload_n 0, 1) := by decide +kernel
theorem dX12_child_1 : decode cX12_child 1 = .ok (.getfield 15, 3) := by decide +kernel
theorem dX12_child_4 : decode cX12_child 4 = .ok (.areturn, 1) := by decide +kernel
abbrev cX12_isIn : ByteArray := prog_8_method_2_code
def yX12_isIn : MethodName := ⟨RX12, "isIn", "(I)Z"⟩
theorem dX12_isIn_0 : decode cX12_isIn 0 = .ok (.iload_n 1, 1) := by decide +kernel
theorem dX12_isIn_1 : decode cX12_isIn 1 = .ok (.aload_n 0, 1) := by decide +kernel
theorem dX12_isIn_2 : decode cX12_isIn 2 = .ok (.getfield 22, 3) := by decide +kernel
theorem dX12_isIn_5 : decode cX12_isIn 5 = .ok (.if_icmp .lt 15, 3) := by decide +kernel
theorem dX12_isIn_8 : decode cX12_isIn 8 = .ok (.iload_n 1, 1) := by decide +kernel
theorem dX12_isIn_9 : decode cX12_isIn 9 = .ok (.aload_n 0, 1) := by decide +kernel
theorem dX12_isIn_10 : decode cX12_isIn 10 = .ok (.getfield 25, 3) := by decide +kernel
theorem dX12_isIn_13 : decode cX12_isIn 13 = .ok (.if_icmp .gt 7, 3) := by decide +kernel
theorem dX12_isIn_16 : decode cX12_isIn 16 = .ok (.iconst 1, 1) := by decide +kernel
theorem dX12_isIn_17 : decode cX12_isIn 17 = .ok (.goto 4, 3) := by decide +kernel
theorem dX12_isIn_20 : decode cX12_isIn 20 = .ok (.iconst 0, 1) := by decide +kernel
theorem dX12_isIn_21 : decode cX12_isIn 21 = .ok (.ireturn, 1) := by decide +kernel
abbrev cX12_of : ByteArray := prog_8_method_3_code
def yX12_of : MethodName := ⟨RX12, "of", "(J)J"⟩
theorem dX12_of_0 : decode cX12_of 0 = .ok (.lload_n 1, 1) := by decide +kernel
theorem dX12_of_1 : decode cX12_of 1 = .ok (.aload_n 0, 1) := by decide +kernel
theorem dX12_of_2 : decode cX12_of 2 = .ok (.getfield 18, 3) := by decide +kernel
theorem dX12_of_5 : decode cX12_of 5 = .ok (.i2l, 1) := by decide +kernel
theorem dX12_of_6 : decode cX12_of 6 = .ok (.lmul, 1) := by decide +kernel
theorem dX12_of_7 : decode cX12_of 7 = .ok (.sipush 1000, 3) := by decide +kernel
theorem dX12_of_10 : decode cX12_of 10 = .ok (.aload_n 0, 1) := by decide +kernel
theorem dX12_of_11 : decode cX12_of 11 = .ok (.getfield 15, 3) := by decide +kernel
theorem dX12_of_14 : decode cX12_of 14 = .ok (.getfield 28, 3) := by decide +kernel
theorem dX12_of_17 : decode cX12_of 17 = .ok (.iadd, 1) := by decide +kernel
theorem dX12_of_18 : decode cX12_of 18 = .ok (.i2l, 1) := by decide +kernel
theorem dX12_of_19 : decode cX12_of 19 = .ok (.lmul, 1) := by decide +kernel
theorem dX12_of_20 : decode cX12_of 20 = .ok (.ldc2_w 33, 3) := by decide +kernel
theorem dX12_of_23 : decode cX12_of 23 = .ok (.ladd, 1) := by decide +kernel
theorem dX12_of_24 : decode cX12_of 24 = .ok (.lconst 1, 1) := by decide +kernel
theorem dX12_of_25 : decode cX12_of 25 = .ok (.lsub, 1) := by decide +kernel
theorem dX12_of_26 : decode cX12_of 26 = .ok (.ldc2_w 33, 3) := by decide +kernel
theorem dX12_of_29 : decode cX12_of 29 = .ok (.ldiv, 1) := by decide +kernel
theorem dX12_of_30 : decode cX12_of 30 = .ok (.lreturn, 1) := by decide +kernel
abbrev cX12_init : ByteArray := prog_8_method_1_code
def yX12_init : MethodName := ⟨RX12, "<init>", "(LNettedPlans$Item;LNettedPlans$Item;III)V"⟩
theorem dX12_init_0 : decode cX12_init 0 = .ok (.aload_n 0, 1) := by decide +kernel
theorem dX12_init_1 : decode cX12_init 1 = .ok (.invokespecial 3, 3) := by decide +kernel
theorem dX12_init_4 : decode cX12_init 4 = .ok (.aload_n 0, 1) := by decide +kernel
theorem dX12_init_5 : decode cX12_init 5 = .ok (.aload_n 1, 1) := by decide +kernel
theorem dX12_init_6 : decode cX12_init 6 = .ok (.putfield 9, 3) := by decide +kernel
theorem dX12_init_9 : decode cX12_init 9 = .ok (.aload_n 0, 1) := by decide +kernel
theorem dX12_init_10 : decode cX12_init 10 = .ok (.aload_n 2, 1) := by decide +kernel
theorem dX12_init_11 : decode cX12_init 11 = .ok (.putfield 15, 3) := by decide +kernel
theorem dX12_init_14 : decode cX12_init 14 = .ok (.aload_n 0, 1) := by decide +kernel
theorem dX12_init_15 : decode cX12_init 15 = .ok (.iload_n 3, 1) := by decide +kernel
theorem dX12_init_16 : decode cX12_init 16 = .ok (.putfield 18, 3) := by decide +kernel
theorem dX12_init_19 : decode cX12_init 19 = .ok (.aload_n 0, 1) := by decide +kernel
theorem dX12_init_20 : decode cX12_init 20 = .ok (.iload 4, 2) := by decide +kernel
theorem dX12_init_22 : decode cX12_init 22 = .ok (.putfield 22, 3) := by decide +kernel
theorem dX12_init_25 : decode cX12_init 25 = .ok (.aload_n 0, 1) := by decide +kernel
theorem dX12_init_26 : decode cX12_init 26 = .ok (.iload 5, 2) := by decide +kernel
theorem dX12_init_28 : decode cX12_init 28 = .ok (.putfield 25, 3) := by decide +kernel
theorem dX12_init_31 : decode cX12_init 31 = .ok (.return_, 1) := by decide +kernel
theorem q71 : (Jvm.Cond.initialized "NettedPlans$Line") ∈ lw_all := lw_g (lw_at lw_m1 25 rfl) rfl
theorem q197 : (Jvm.Cond.fieldLinkNest "NettedPlans$Line" (28 : Nat) "NettedPlans$Item" "scrap" "I" "NettedPlans") ∈ lw_tbl := lw_at lw_m1 151 rfl
theorem q354 : (Jvm.Cond.selects "NettedPlans$Line" ({ cls := "java/lang/Object", name := "getClass", desc := "()Ljava/lang/Class;" } : Jvm.MethodName) ({ cls := "java/lang/Object", name := "getClass", desc := "()Ljava/lang/Class;" } : Jvm.MethodName)) ∈ lw_all := lw_g (lw_at lw_m2 68 rfl) rfl
theorem q463 : (Jvm.Cond.instanceMethod ({ cls := "NettedPlans$Line", name := "parent", desc := "()LNettedPlans$Item;" } : Jvm.MethodName)) ∈ lw_all := lw_g (lw_at lw_m2 177 rfl) rfl
theorem q464 : (Jvm.Cond.selects "NettedPlans$Line" ({ cls := "NettedPlans$Line", name := "parent", desc := "()LNettedPlans$Item;" } : Jvm.MethodName) ({ cls := "NettedPlans$Line", name := "parent", desc := "()LNettedPlans$Item;" } : Jvm.MethodName)) ∈ lw_all := lw_g (lw_at lw_m2 178 rfl) rfl
theorem q465 : (Jvm.Cond.code ({ cls := "NettedPlans$Line", name := "parent", desc := "()LNettedPlans$Item;" } : Jvm.MethodName) prog_8_method_7_code (1 : Nat) (Option.some (Jvm.ClassFile.FieldType.object "NettedPlans$Item"))) ∈ lw_all := lw_g (lw_at lw_m2 179 rfl) rfl
theorem q467 : (Jvm.Cond.instanceMethod ({ cls := "NettedPlans$Line", name := "child", desc := "()LNettedPlans$Item;" } : Jvm.MethodName)) ∈ lw_all := lw_g (lw_at lw_m2 181 rfl) rfl
theorem q468 : (Jvm.Cond.selects "NettedPlans$Line" ({ cls := "NettedPlans$Line", name := "child", desc := "()LNettedPlans$Item;" } : Jvm.MethodName) ({ cls := "NettedPlans$Line", name := "child", desc := "()LNettedPlans$Item;" } : Jvm.MethodName)) ∈ lw_all := lw_g (lw_at lw_m2 182 rfl) rfl
theorem q469 : (Jvm.Cond.code ({ cls := "NettedPlans$Line", name := "child", desc := "()LNettedPlans$Item;" } : Jvm.MethodName) prog_8_method_8_code (1 : Nat) (Option.some (Jvm.ClassFile.FieldType.object "NettedPlans$Item"))) ∈ lw_all := lw_g (lw_at lw_m2 183 rfl) rfl
theorem q471 : (Jvm.Cond.instanceMethod ({ cls := "NettedPlans$Line", name := "isIn", desc := "(I)Z" } : Jvm.MethodName)) ∈ lw_all := lw_g (lw_at lw_m2 185 rfl) rfl
theorem q472 : (Jvm.Cond.selects "NettedPlans$Line" ({ cls := "NettedPlans$Line", name := "isIn", desc := "(I)Z" } : Jvm.MethodName) ({ cls := "NettedPlans$Line", name := "isIn", desc := "(I)Z" } : Jvm.MethodName)) ∈ lw_all := lw_g (lw_at lw_m2 186 rfl) rfl
theorem q473 : (Jvm.Cond.code ({ cls := "NettedPlans$Line", name := "isIn", desc := "(I)Z" } : Jvm.MethodName) prog_8_method_2_code (2 : Nat) (Option.some Jvm.ClassFile.FieldType.boolean)) ∈ lw_all := lw_g (lw_at lw_m2 187 rfl) rfl
theorem q475 : (Jvm.Cond.instanceMethod ({ cls := "NettedPlans$Line", name := "of", desc := "(J)J" } : Jvm.MethodName)) ∈ lw_all := lw_g (lw_at lw_m2 189 rfl) rfl
theorem q476 : (Jvm.Cond.selects "NettedPlans$Line" ({ cls := "NettedPlans$Line", name := "of", desc := "(J)J" } : Jvm.MethodName) ({ cls := "NettedPlans$Line", name := "of", desc := "(J)J" } : Jvm.MethodName)) ∈ lw_all := lw_g (lw_at lw_m2 190 rfl) rfl
theorem q477 : (Jvm.Cond.code ({ cls := "NettedPlans$Line", name := "of", desc := "(J)J" } : Jvm.MethodName) prog_8_method_3_code (3 : Nat) (Option.some Jvm.ClassFile.FieldType.long)) ∈ lw_all := lw_g (lw_at lw_m2 191 rfl) rfl
theorem q478 : (Jvm.Cond.constantLong "NettedPlans$Line" (33 : Nat) (1000 : Int64)) ∈ lw_all := lw_g (lw_at lw_m2 192 rfl) rfl
theorem q685 : (Jvm.Cond.instantiable "NettedPlans$Line" (5 : Nat)) ∈ lw_all := lw_g (lw_at lw_m3 159 rfl) rfl
theorem q687 : (Jvm.Cond.instanceMethod ({ cls := "NettedPlans$Line", name := "<init>", desc := "(LNettedPlans$Item;LNettedPlans$Item;III)V" } : Jvm.MethodName)) ∈ lw_all := lw_g (lw_at lw_m3 161 rfl) rfl
theorem q688 : (Jvm.Cond.code ({ cls := "NettedPlans$Line", name := "<init>", desc := "(LNettedPlans$Item;LNettedPlans$Item;III)V" } : Jvm.MethodName) prog_8_method_1_code (6 : Nat) (Option.none : Option Jvm.ClassFile.FieldType)) ∈ lw_all := lw_g (lw_at lw_m3 162 rfl) rfl
theorem q689 : (Jvm.Cond.methodLink "NettedPlans$Line" (3 : Nat) ({ cls := "java/lang/Record", name := "<init>", desc := "()V" } : Jvm.MethodName)) ∈ lw_all := lw_g (lw_at lw_m3 163 rfl) rfl
theorem q690 : (Jvm.Cond.fieldLink "NettedPlans$Line" (9 : Nat) "NettedPlans$Line" "parent" "LNettedPlans$Item;") ∈ lw_all := lw_g (lw_at lw_m3 164 rfl) rfl
theorem q691 : (Jvm.Cond.fieldLink "NettedPlans$Line" (15 : Nat) "NettedPlans$Line" "child" "LNettedPlans$Item;") ∈ lw_all := lw_g (lw_at lw_m3 165 rfl) rfl
theorem q692 : (Jvm.Cond.fieldLink "NettedPlans$Line" (18 : Nat) "NettedPlans$Line" "per" "I") ∈ lw_all := lw_g (lw_at lw_m3 166 rfl) rfl
theorem q693 : (Jvm.Cond.fieldLink "NettedPlans$Line" (22 : Nat) "NettedPlans$Line" "from" "I") ∈ lw_all := lw_g (lw_at lw_m3 167 rfl) rfl
theorem q694 : (Jvm.Cond.fieldLink "NettedPlans$Line" (25 : Nat) "NettedPlans$Line" "to" "I") ∈ lw_all := lw_g (lw_at lw_m3 168 rfl) rfl
theorem q695 : (Jvm.Cond.laysFinal "NettedPlans$Line" "NettedPlans$Line" "parent" "LNettedPlans$Item;") ∈ lw_all := lw_g (lw_at lw_m3 169 rfl) rfl
theorem q696 : (Jvm.Cond.soleField "NettedPlans$Line" "parent") ∈ lw_all := lw_g (lw_at lw_m3 170 rfl) rfl
theorem q697 : (Jvm.Cond.laysFinal "NettedPlans$Line" "NettedPlans$Line" "child" "LNettedPlans$Item;") ∈ lw_all := lw_g (lw_at lw_m3 171 rfl) rfl
theorem q698 : (Jvm.Cond.soleField "NettedPlans$Line" "child") ∈ lw_all := lw_g (lw_at lw_m3 172 rfl) rfl
theorem q699 : (Jvm.Cond.laysFinal "NettedPlans$Line" "NettedPlans$Line" "per" "I") ∈ lw_all := lw_g (lw_at lw_m3 173 rfl) rfl
theorem q700 : (Jvm.Cond.soleField "NettedPlans$Line" "per") ∈ lw_all := lw_g (lw_at lw_m3 174 rfl) rfl
theorem q701 : (Jvm.Cond.laysFinal "NettedPlans$Line" "NettedPlans$Line" "from" "I") ∈ lw_all := lw_g (lw_at lw_m3 175 rfl) rfl
theorem q702 : (Jvm.Cond.soleField "NettedPlans$Line" "from") ∈ lw_all := lw_g (lw_at lw_m3 176 rfl) rfl
theorem q703 : (Jvm.Cond.laysFinal "NettedPlans$Line" "NettedPlans$Line" "to" "I") ∈ lw_all := lw_g (lw_at lw_m3 177 rfl) rfl
theorem q704 : (Jvm.Cond.soleField "NettedPlans$Line" "to") ∈ lw_all := lw_g (lw_at lw_m3 178 rfl) rfl
theorem q705 : (Jvm.Cond.superclass "NettedPlans$Line" "java/lang/Record") ∈ lw_all := lw_g (lw_at lw_m3 179 rfl) rfl
theorem q1176 : (Jvm.Cond.castable "NettedPlans$Line" "java/lang/Object") ∈ lw_tbl := lw_at lw_m5 170 rfl
theorem in_X12 : ∀ w ∈ wsX120, w ∈ lw_all := lw_in wsX120 [695, 697, 699, 701, 703] (by decide +kernel) (by decide +kernel)
/-! NettedPlans$Entry -/
set_option maxRecDepth 100000
def RX13 : String := "NettedPlans$Entry"
def TX13 : u_T := fun k => match k with
  | 0 => ("NettedPlans$Entry", "item", "I", true)
  | 1 => ("NettedPlans$Entry", "week", "I", true)
  | _ => ("NettedPlans$Entry", "n", "I", false)
def tyX13 : Nat → FieldType := fun k => match k with
  | 0 => .int
  | 1 => .int
  | _ => .int
abbrev wsX130 : List Cond := u_ws RX13 TX13 3
theorem nmX13 : ∀ a, a < 3 → ∀ b, b < 3 → a ≠ b → (TX13 a).2.1 ≠ (TX13 b).2.1 := by decide +kernel
theorem tyX13_ok : ∀ k, k < 3 → parseFieldDescriptor (TX13 k).2.2.1 = some (tyX13 k) := by decide +kernel
abbrev cX13_init : ByteArray := prog_5_method_1_code
def yX13_init : MethodName := ⟨RX13, "<init>", "(III)V"⟩
theorem dX13_init_0 : decode cX13_init 0 = .ok (.aload_n 0, 1) := by decide +kernel
theorem dX13_init_1 : decode cX13_init 1 = .ok (.invokespecial 1, 3) := by decide +kernel
theorem dX13_init_4 : decode cX13_init 4 = .ok (.aload_n 0, 1) := by decide +kernel
theorem dX13_init_5 : decode cX13_init 5 = .ok (.iload_n 1, 1) := by decide +kernel
theorem dX13_init_6 : decode cX13_init 6 = .ok (.putfield 7, 3) := by decide +kernel
theorem dX13_init_9 : decode cX13_init 9 = .ok (.aload_n 0, 1) := by decide +kernel
theorem dX13_init_10 : decode cX13_init 10 = .ok (.iload_n 2, 1) := by decide +kernel
theorem dX13_init_11 : decode cX13_init 11 = .ok (.putfield 13, 3) := by decide +kernel
theorem dX13_init_14 : decode cX13_init 14 = .ok (.aload_n 0, 1) := by decide +kernel
theorem dX13_init_15 : decode cX13_init 15 = .ok (.iload_n 3, 1) := by decide +kernel
theorem dX13_init_16 : decode cX13_init 16 = .ok (.putfield 16, 3) := by decide +kernel
theorem dX13_init_19 : decode cX13_init 19 = .ok (.return_, 1) := by decide +kernel
theorem q75 : (Jvm.Cond.initialized "NettedPlans$Entry") ∈ lw_all := lw_g (lw_at lw_m1 29 rfl) rfl
theorem q351 : (Jvm.Cond.selects "NettedPlans$Entry" ({ cls := "java/lang/Object", name := "getClass", desc := "()Ljava/lang/Class;" } : Jvm.MethodName) ({ cls := "java/lang/Object", name := "getClass", desc := "()Ljava/lang/Class;" } : Jvm.MethodName)) ∈ lw_all := lw_g (lw_at lw_m2 65 rfl) rfl
theorem q737 : (Jvm.Cond.instantiable "NettedPlans$Entry" (3 : Nat)) ∈ lw_all := lw_g (lw_at lw_m3 211 rfl) rfl
theorem q739 : (Jvm.Cond.instanceMethod ({ cls := "NettedPlans$Entry", name := "<init>", desc := "(III)V" } : Jvm.MethodName)) ∈ lw_all := lw_g (lw_at lw_m3 213 rfl) rfl
theorem q740 : (Jvm.Cond.code ({ cls := "NettedPlans$Entry", name := "<init>", desc := "(III)V" } : Jvm.MethodName) prog_5_method_1_code (4 : Nat) (Option.none : Option Jvm.ClassFile.FieldType)) ∈ lw_all := lw_g (lw_at lw_m3 214 rfl) rfl
theorem q741 : (Jvm.Cond.methodLink "NettedPlans$Entry" (1 : Nat) ({ cls := "java/lang/Object", name := "<init>", desc := "()V" } : Jvm.MethodName)) ∈ lw_all := lw_g (lw_at lw_m3 215 rfl) rfl
theorem q742 : (Jvm.Cond.fieldLink "NettedPlans$Entry" (7 : Nat) "NettedPlans$Entry" "item" "I") ∈ lw_all := lw_g (lw_at lw_m3 216 rfl) rfl
theorem q745 : (Jvm.Cond.fieldLink "NettedPlans$Entry" (13 : Nat) "NettedPlans$Entry" "week" "I") ∈ lw_all := lw_g (lw_at lw_m3 219 rfl) rfl
theorem q748 : (Jvm.Cond.fieldLink "NettedPlans$Entry" (16 : Nat) "NettedPlans$Entry" "n" "I") ∈ lw_all := lw_g (lw_at lw_m3 222 rfl) rfl
theorem q751 : (Jvm.Cond.laysFinal "NettedPlans$Entry" "NettedPlans$Entry" "item" "I") ∈ lw_all := lw_g (lw_at lw_m3 225 rfl) rfl
theorem q752 : (Jvm.Cond.soleField "NettedPlans$Entry" "item") ∈ lw_all := lw_g (lw_at lw_m3 226 rfl) rfl
theorem q753 : (Jvm.Cond.laysFinal "NettedPlans$Entry" "NettedPlans$Entry" "week" "I") ∈ lw_all := lw_g (lw_at lw_m3 227 rfl) rfl
theorem q754 : (Jvm.Cond.soleField "NettedPlans$Entry" "week") ∈ lw_all := lw_g (lw_at lw_m3 228 rfl) rfl
theorem q755 : (Jvm.Cond.lays "NettedPlans$Entry" "NettedPlans$Entry" "n" "I") ∈ lw_all := lw_g (lw_at lw_m3 229 rfl) rfl
theorem q756 : (Jvm.Cond.soleField "NettedPlans$Entry" "n") ∈ lw_all := lw_g (lw_at lw_m3 230 rfl) rfl
theorem q757 : (Jvm.Cond.superclass "NettedPlans$Entry" "java/lang/Object") ∈ lw_all := lw_g (lw_at lw_m3 231 rfl) rfl
theorem q1177 : (Jvm.Cond.castable "NettedPlans$Entry" "java/lang/Object") ∈ lw_tbl := lw_at lw_m5 171 rfl
theorem in_X13 : ∀ w ∈ wsX130, w ∈ lw_all := lw_in wsX130 [751, 753, 755] (by decide +kernel) (by decide +kernel)
