/-! NettedPlansLaw -/
set_option maxRecDepth 100000
def RX0 : String := "NettedPlansLaw"
abbrev cX0_item : ByteArray := method_3_code
def yX0_item : MethodName := ⟨RX0, "item", "(LNettedPlans;IIIII)I"⟩
abbrev cX0_costs : ByteArray := method_4_code
def yX0_costs : MethodName := ⟨RX0, "costs", "(LNettedPlans;IIII)I"⟩
abbrev cX0_made : ByteArray := method_5_code
def yX0_made : MethodName := ⟨RX0, "made", "(LNettedPlans;III)I"⟩
abbrev cX0_line : ByteArray := method_6_code
def yX0_line : MethodName := ⟨RX0, "line", "(LNettedPlans;IIIII)I"⟩
abbrev cX0_stock : ByteArray := method_7_code
def yX0_stock : MethodName := ⟨RX0, "stock", "(LNettedPlans;II[J)I"⟩
abbrev cX0_demand : ByteArray := method_8_code
def yX0_demand : MethodName := ⟨RX0, "demand", "(LNettedPlans;III[J)I"⟩
abbrev cX0_change : ByteArray := method_9_code
def yX0_change : MethodName := ⟨RX0, "change", "(LNettedPlans;III[J)I"⟩
abbrev cX0_order : ByteArray := method_10_code
def yX0_order : MethodName := ⟨RX0, "order", "(LNettedPlans;III[J)I"⟩
abbrev cX0_level : ByteArray := method_11_code
def yX0_level : MethodName := ⟨RX0, "level", "(LNettedPlans;I[J)I"⟩
abbrev cX0_gross : ByteArray := method_12_code
def yX0_gross : MethodName := ⟨RX0, "gross", "(LNettedPlans;II[J)I"⟩
abbrev cX0_planned : ByteArray := method_13_code
def yX0_planned : MethodName := ⟨RX0, "planned", "(LNettedPlans;II[J)I"⟩
abbrev cX0_balance : ByteArray := method_14_code
def yX0_balance : MethodName := ⟨RX0, "balance", "(LNettedPlans;II[J)I"⟩
abbrev cX0_peg : ByteArray := method_15_code
def yX0_peg : MethodName := ⟨RX0, "peg", "(LNettedPlans;III[J)I"⟩
abbrev cX0_promise : ByteArray := method_16_code
def yX0_promise : MethodName := ⟨RX0, "promise", "(LNettedPlans;III[J)I"⟩
abbrev cX0_reserve : ByteArray := method_17_code
def yX0_reserve : MethodName := ⟨RX0, "reserve", "(LNettedPlans;III[J)I"⟩
abbrev cX0_giveBack : ByteArray := method_18_code
def yX0_giveBack : MethodName := ⟨RX0, "giveBack", "(LNettedPlans;I[J)I"⟩
abbrev cX0_load : ByteArray := method_19_code
def yX0_load : MethodName := ⟨RX0, "load", "(LNettedPlans;II[J)I"⟩
abbrev cX0_count : ByteArray := method_20_code
def yX0_count : MethodName := ⟨RX0, "count", "(LNettedPlans;I[J)I"⟩
theorem q46 : (Jvm.Cond.initialized "NettedPlansLaw") ∈ lw_all := lw_g (lw_at lw_m1 0 rfl) rfl
theorem q76 : (Jvm.Cond.classLink "NettedPlansLaw" (8 : Nat) "NettedPlans") ∈ lw_all := lw_g (lw_at lw_m1 30 rfl) rfl
theorem q78 : (Jvm.Cond.methodLink "NettedPlansLaw" (77 : Nat) ({ cls := "NettedPlans", name := "<init>", desc := "()V" } : Jvm.MethodName)) ∈ lw_all := lw_g (lw_at lw_m1 32 rfl) rfl
theorem q303 : (Jvm.Cond.methodLink "NettedPlansLaw" (116 : Nat) ({ cls := "NettedPlans", name := "replan", desc := "()I" } : Jvm.MethodName)) ∈ lw_all := lw_g (lw_at lw_m2 17 rfl) rfl
theorem q527 : (Jvm.Cond.methodLink "NettedPlansLaw" (81 : Nat) ({ cls := "NettedPlansLaw", name := "item", desc := "(LNettedPlans;IIIII)I" } : Jvm.MethodName)) ∈ lw_all := lw_g (lw_at lw_m3 1 rfl) rfl
theorem q528 : (Jvm.Cond.static ({ cls := "NettedPlansLaw", name := "item", desc := "(LNettedPlans;IIIII)I" } : Jvm.MethodName)) ∈ lw_all := lw_g (lw_at lw_m3 2 rfl) rfl
theorem q529 : (Jvm.Cond.codeWith ({ cls := "NettedPlansLaw", name := "item", desc := "(LNettedPlans;IIIII)I" } : Jvm.MethodName) method_3_code (7 : Nat) (Option.some Jvm.ClassFile.FieldType.int) [((0 : Nat), (11 : Nat), (14 : Nat), (13 : Nat)), ((0 : Nat), (11 : Nat), (18 : Nat), (15 : Nat))]) ∈ lw_all := lw_g (lw_at lw_m3 3 rfl) rfl
theorem q530 : (Jvm.Cond.classLink "NettedPlansLaw" (13 : Nat) "java/lang/IndexOutOfBoundsException") ∈ lw_all := lw_g (lw_at lw_m3 4 rfl) rfl
theorem q531 : (Jvm.Cond.classLink "NettedPlansLaw" (15 : Nat) "java/lang/IllegalArgumentException") ∈ lw_all := lw_g (lw_at lw_m3 5 rfl) rfl
theorem q532 : (Jvm.Cond.methodLink "NettedPlansLaw" (7 : Nat) ({ cls := "NettedPlans", name := "item", desc := "(IIIII)V" } : Jvm.MethodName)) ∈ lw_all := lw_g (lw_at lw_m3 6 rfl) rfl
theorem q631 : (Jvm.Cond.methodLink "NettedPlansLaw" (91 : Nat) ({ cls := "NettedPlansLaw", name := "costs", desc := "(LNettedPlans;IIII)I" } : Jvm.MethodName)) ∈ lw_all := lw_g (lw_at lw_m3 105 rfl) rfl
theorem q632 : (Jvm.Cond.static ({ cls := "NettedPlansLaw", name := "costs", desc := "(LNettedPlans;IIII)I" } : Jvm.MethodName)) ∈ lw_all := lw_g (lw_at lw_m3 106 rfl) rfl
theorem q633 : (Jvm.Cond.codeWith ({ cls := "NettedPlansLaw", name := "costs", desc := "(LNettedPlans;IIII)I" } : Jvm.MethodName) method_4_code (6 : Nat) (Option.some Jvm.ClassFile.FieldType.int) [((0 : Nat), (9 : Nat), (12 : Nat), (13 : Nat)), ((0 : Nat), (9 : Nat), (16 : Nat), (15 : Nat))]) ∈ lw_all := lw_g (lw_at lw_m3 107 rfl) rfl
theorem q634 : (Jvm.Cond.methodLink "NettedPlansLaw" (17 : Nat) ({ cls := "NettedPlans", name := "costs", desc := "(IIII)V" } : Jvm.MethodName)) ∈ lw_all := lw_g (lw_at lw_m3 108 rfl) rfl
theorem q639 : (Jvm.Cond.methodLink "NettedPlansLaw" (95 : Nat) ({ cls := "NettedPlansLaw", name := "made", desc := "(LNettedPlans;III)I" } : Jvm.MethodName)) ∈ lw_all := lw_g (lw_at lw_m3 113 rfl) rfl
theorem q640 : (Jvm.Cond.static ({ cls := "NettedPlansLaw", name := "made", desc := "(LNettedPlans;III)I" } : Jvm.MethodName)) ∈ lw_all := lw_g (lw_at lw_m3 114 rfl) rfl
theorem q641 : (Jvm.Cond.codeWith ({ cls := "NettedPlansLaw", name := "made", desc := "(LNettedPlans;III)I" } : Jvm.MethodName) method_5_code (5 : Nat) (Option.some Jvm.ClassFile.FieldType.int) [((0 : Nat), (7 : Nat), (10 : Nat), (13 : Nat)), ((0 : Nat), (7 : Nat), (14 : Nat), (15 : Nat))]) ∈ lw_all := lw_g (lw_at lw_m3 115 rfl) rfl
theorem q642 : (Jvm.Cond.methodLink "NettedPlansLaw" (21 : Nat) ({ cls := "NettedPlans", name := "made", desc := "(III)V" } : Jvm.MethodName)) ∈ lw_all := lw_g (lw_at lw_m3 116 rfl) rfl
theorem q646 : (Jvm.Cond.methodLink "NettedPlansLaw" (99 : Nat) ({ cls := "NettedPlansLaw", name := "line", desc := "(LNettedPlans;IIIII)I" } : Jvm.MethodName)) ∈ lw_all := lw_g (lw_at lw_m3 120 rfl) rfl
theorem q647 : (Jvm.Cond.static ({ cls := "NettedPlansLaw", name := "line", desc := "(LNettedPlans;IIIII)I" } : Jvm.MethodName)) ∈ lw_all := lw_g (lw_at lw_m3 121 rfl) rfl
theorem q648 : (Jvm.Cond.codeWith ({ cls := "NettedPlansLaw", name := "line", desc := "(LNettedPlans;IIIII)I" } : Jvm.MethodName) method_6_code (7 : Nat) (Option.some Jvm.ClassFile.FieldType.int) [((0 : Nat), (11 : Nat), (14 : Nat), (13 : Nat)), ((0 : Nat), (11 : Nat), (18 : Nat), (15 : Nat)), ((0 : Nat), (11 : Nat), (22 : Nat), (28 : Nat))]) ∈ lw_all := lw_g (lw_at lw_m3 122 rfl) rfl
theorem q649 : (Jvm.Cond.classLink "NettedPlansLaw" (28 : Nat) "java/lang/IllegalStateException") ∈ lw_all := lw_g (lw_at lw_m3 123 rfl) rfl
theorem q650 : (Jvm.Cond.methodLink "NettedPlansLaw" (25 : Nat) ({ cls := "NettedPlans", name := "line", desc := "(IIIII)V" } : Jvm.MethodName)) ∈ lw_all := lw_g (lw_at lw_m3 124 rfl) rfl
theorem q711 : (Jvm.Cond.methodLink "NettedPlansLaw" (102 : Nat) ({ cls := "NettedPlansLaw", name := "stock", desc := "(LNettedPlans;II[J)I" } : Jvm.MethodName)) ∈ lw_all := lw_g (lw_at lw_m3 185 rfl) rfl
theorem q712 : (Jvm.Cond.static ({ cls := "NettedPlansLaw", name := "stock", desc := "(LNettedPlans;II[J)I" } : Jvm.MethodName)) ∈ lw_all := lw_g (lw_at lw_m3 186 rfl) rfl
theorem q713 : (Jvm.Cond.codeWith ({ cls := "NettedPlansLaw", name := "stock", desc := "(LNettedPlans;II[J)I" } : Jvm.MethodName) method_7_code (5 : Nat) (Option.some Jvm.ClassFile.FieldType.int) [((0 : Nat), (10 : Nat), (13 : Nat), (13 : Nat)), ((0 : Nat), (10 : Nat), (17 : Nat), (15 : Nat))]) ∈ lw_all := lw_g (lw_at lw_m3 187 rfl) rfl
theorem q714 : (Jvm.Cond.methodLink "NettedPlansLaw" (30 : Nat) ({ cls := "NettedPlans", name := "stock", desc := "(II)I" } : Jvm.MethodName)) ∈ lw_all := lw_g (lw_at lw_m3 188 rfl) rfl
theorem q718 : (Jvm.Cond.methodLink "NettedPlansLaw" (106 : Nat) ({ cls := "NettedPlansLaw", name := "demand", desc := "(LNettedPlans;III[J)I" } : Jvm.MethodName)) ∈ lw_all := lw_g (lw_at lw_m3 192 rfl) rfl
theorem q719 : (Jvm.Cond.static ({ cls := "NettedPlansLaw", name := "demand", desc := "(LNettedPlans;III[J)I" } : Jvm.MethodName)) ∈ lw_all := lw_g (lw_at lw_m3 193 rfl) rfl
theorem q720 : (Jvm.Cond.codeWith ({ cls := "NettedPlansLaw", name := "demand", desc := "(LNettedPlans;III[J)I" } : Jvm.MethodName) method_8_code (6 : Nat) (Option.some Jvm.ClassFile.FieldType.int) [((0 : Nat), (12 : Nat), (15 : Nat), (13 : Nat)), ((0 : Nat), (12 : Nat), (19 : Nat), (15 : Nat)), ((0 : Nat), (12 : Nat), (23 : Nat), (28 : Nat))]) ∈ lw_all := lw_g (lw_at lw_m3 194 rfl) rfl
theorem q721 : (Jvm.Cond.methodLink "NettedPlansLaw" (34 : Nat) ({ cls := "NettedPlans", name := "demand", desc := "(III)I" } : Jvm.MethodName)) ∈ lw_all := lw_g (lw_at lw_m3 195 rfl) rfl
theorem q763 : (Jvm.Cond.methodLink "NettedPlansLaw" (110 : Nat) ({ cls := "NettedPlansLaw", name := "change", desc := "(LNettedPlans;III[J)I" } : Jvm.MethodName)) ∈ lw_all := lw_g (lw_at lw_m3 237 rfl) rfl
theorem q764 : (Jvm.Cond.static ({ cls := "NettedPlansLaw", name := "change", desc := "(LNettedPlans;III[J)I" } : Jvm.MethodName)) ∈ lw_all := lw_g (lw_at lw_m3 238 rfl) rfl
theorem q765 : (Jvm.Cond.codeWith ({ cls := "NettedPlansLaw", name := "change", desc := "(LNettedPlans;III[J)I" } : Jvm.MethodName) method_9_code (6 : Nat) (Option.some Jvm.ClassFile.FieldType.int) [((0 : Nat), (12 : Nat), (15 : Nat), (15 : Nat)), ((0 : Nat), (12 : Nat), (19 : Nat), (13 : Nat))]) ∈ lw_all := lw_g (lw_at lw_m3 239 rfl) rfl
theorem q766 : (Jvm.Cond.methodLink "NettedPlansLaw" (38 : Nat) ({ cls := "NettedPlans", name := "change", desc := "(III)I" } : Jvm.MethodName)) ∈ lw_all := lw_g (lw_at lw_m4 0 rfl) rfl
theorem q773 : (Jvm.Cond.methodLink "NettedPlansLaw" (113 : Nat) ({ cls := "NettedPlansLaw", name := "order", desc := "(LNettedPlans;III[J)I" } : Jvm.MethodName)) ∈ lw_all := lw_g (lw_at lw_m4 7 rfl) rfl
theorem q774 : (Jvm.Cond.static ({ cls := "NettedPlansLaw", name := "order", desc := "(LNettedPlans;III[J)I" } : Jvm.MethodName)) ∈ lw_all := lw_g (lw_at lw_m4 8 rfl) rfl
theorem q775 : (Jvm.Cond.codeWith ({ cls := "NettedPlansLaw", name := "order", desc := "(LNettedPlans;III[J)I" } : Jvm.MethodName) method_10_code (6 : Nat) (Option.some Jvm.ClassFile.FieldType.int) [((0 : Nat), (12 : Nat), (15 : Nat), (13 : Nat)), ((0 : Nat), (12 : Nat), (19 : Nat), (15 : Nat)), ((0 : Nat), (12 : Nat), (23 : Nat), (28 : Nat))]) ∈ lw_all := lw_g (lw_at lw_m4 9 rfl) rfl
theorem q776 : (Jvm.Cond.methodLink "NettedPlansLaw" (41 : Nat) ({ cls := "NettedPlans", name := "order", desc := "(III)I" } : Jvm.MethodName)) ∈ lw_all := lw_g (lw_at lw_m4 10 rfl) rfl
theorem q780 : (Jvm.Cond.methodLink "NettedPlansLaw" (120 : Nat) ({ cls := "NettedPlansLaw", name := "level", desc := "(LNettedPlans;I[J)I" } : Jvm.MethodName)) ∈ lw_all := lw_g (lw_at lw_m4 14 rfl) rfl
theorem q781 : (Jvm.Cond.static ({ cls := "NettedPlansLaw", name := "level", desc := "(LNettedPlans;I[J)I" } : Jvm.MethodName)) ∈ lw_all := lw_g (lw_at lw_m4 15 rfl) rfl
theorem q782 : (Jvm.Cond.codeWith ({ cls := "NettedPlansLaw", name := "level", desc := "(LNettedPlans;I[J)I" } : Jvm.MethodName) method_11_code (4 : Nat) (Option.some Jvm.ClassFile.FieldType.int) [((0 : Nat), (9 : Nat), (12 : Nat), (13 : Nat))]) ∈ lw_all := lw_g (lw_at lw_m4 16 rfl) rfl
theorem q783 : (Jvm.Cond.methodLink "NettedPlansLaw" (44 : Nat) ({ cls := "NettedPlans", name := "level", desc := "(I)I" } : Jvm.MethodName)) ∈ lw_all := lw_g (lw_at lw_m4 17 rfl) rfl
theorem q787 : (Jvm.Cond.methodLink "NettedPlansLaw" (124 : Nat) ({ cls := "NettedPlansLaw", name := "gross", desc := "(LNettedPlans;II[J)I" } : Jvm.MethodName)) ∈ lw_all := lw_g (lw_at lw_m4 21 rfl) rfl
theorem q788 : (Jvm.Cond.static ({ cls := "NettedPlansLaw", name := "gross", desc := "(LNettedPlans;II[J)I" } : Jvm.MethodName)) ∈ lw_all := lw_g (lw_at lw_m4 22 rfl) rfl
theorem q789 : (Jvm.Cond.codeWith ({ cls := "NettedPlansLaw", name := "gross", desc := "(LNettedPlans;II[J)I" } : Jvm.MethodName) method_12_code (5 : Nat) (Option.some Jvm.ClassFile.FieldType.int) [((0 : Nat), (9 : Nat), (12 : Nat), (13 : Nat)), ((0 : Nat), (9 : Nat), (16 : Nat), (28 : Nat))]) ∈ lw_all := lw_g (lw_at lw_m4 23 rfl) rfl
theorem q790 : (Jvm.Cond.methodLink "NettedPlansLaw" (48 : Nat) ({ cls := "NettedPlans", name := "gross", desc := "(II)J" } : Jvm.MethodName)) ∈ lw_all := lw_g (lw_at lw_m4 24 rfl) rfl
theorem q798 : (Jvm.Cond.methodLink "NettedPlansLaw" (127 : Nat) ({ cls := "NettedPlansLaw", name := "planned", desc := "(LNettedPlans;II[J)I" } : Jvm.MethodName)) ∈ lw_all := lw_g (lw_at lw_m4 32 rfl) rfl
theorem q799 : (Jvm.Cond.static ({ cls := "NettedPlansLaw", name := "planned", desc := "(LNettedPlans;II[J)I" } : Jvm.MethodName)) ∈ lw_all := lw_g (lw_at lw_m4 33 rfl) rfl
theorem q800 : (Jvm.Cond.codeWith ({ cls := "NettedPlansLaw", name := "planned", desc := "(LNettedPlans;II[J)I" } : Jvm.MethodName) method_13_code (5 : Nat) (Option.some Jvm.ClassFile.FieldType.int) [((0 : Nat), (9 : Nat), (12 : Nat), (13 : Nat)), ((0 : Nat), (9 : Nat), (16 : Nat), (28 : Nat))]) ∈ lw_all := lw_g (lw_at lw_m4 34 rfl) rfl
theorem q801 : (Jvm.Cond.methodLink "NettedPlansLaw" (52 : Nat) ({ cls := "NettedPlans", name := "planned", desc := "(II)J" } : Jvm.MethodName)) ∈ lw_all := lw_g (lw_at lw_m4 35 rfl) rfl
theorem q805 : (Jvm.Cond.methodLink "NettedPlansLaw" (130 : Nat) ({ cls := "NettedPlansLaw", name := "balance", desc := "(LNettedPlans;II[J)I" } : Jvm.MethodName)) ∈ lw_all := lw_g (lw_at lw_m4 39 rfl) rfl
theorem q806 : (Jvm.Cond.static ({ cls := "NettedPlansLaw", name := "balance", desc := "(LNettedPlans;II[J)I" } : Jvm.MethodName)) ∈ lw_all := lw_g (lw_at lw_m4 40 rfl) rfl
theorem q807 : (Jvm.Cond.codeWith ({ cls := "NettedPlansLaw", name := "balance", desc := "(LNettedPlans;II[J)I" } : Jvm.MethodName) method_14_code (5 : Nat) (Option.some Jvm.ClassFile.FieldType.int) [((0 : Nat), (9 : Nat), (12 : Nat), (13 : Nat)), ((0 : Nat), (9 : Nat), (16 : Nat), (28 : Nat))]) ∈ lw_all := lw_g (lw_at lw_m4 41 rfl) rfl
theorem q808 : (Jvm.Cond.methodLink "NettedPlansLaw" (55 : Nat) ({ cls := "NettedPlans", name := "balance", desc := "(II)J" } : Jvm.MethodName)) ∈ lw_all := lw_g (lw_at lw_m4 42 rfl) rfl
theorem q812 : (Jvm.Cond.methodLink "NettedPlansLaw" (133 : Nat) ({ cls := "NettedPlansLaw", name := "peg", desc := "(LNettedPlans;III[J)I" } : Jvm.MethodName)) ∈ lw_all := lw_g (lw_at lw_m4 46 rfl) rfl
theorem q813 : (Jvm.Cond.static ({ cls := "NettedPlansLaw", name := "peg", desc := "(LNettedPlans;III[J)I" } : Jvm.MethodName)) ∈ lw_all := lw_g (lw_at lw_m4 47 rfl) rfl
theorem q814 : (Jvm.Cond.codeWith ({ cls := "NettedPlansLaw", name := "peg", desc := "(LNettedPlans;III[J)I" } : Jvm.MethodName) method_15_code (6 : Nat) (Option.some Jvm.ClassFile.FieldType.int) [((0 : Nat), (11 : Nat), (14 : Nat), (13 : Nat)), ((0 : Nat), (11 : Nat), (18 : Nat), (15 : Nat)), ((0 : Nat), (11 : Nat), (22 : Nat), (28 : Nat))]) ∈ lw_all := lw_g (lw_at lw_m4 48 rfl) rfl
theorem q815 : (Jvm.Cond.methodLink "NettedPlansLaw" (58 : Nat) ({ cls := "NettedPlans", name := "peg", desc := "(III)J" } : Jvm.MethodName)) ∈ lw_all := lw_g (lw_at lw_m4 49 rfl) rfl
theorem q837 : (Jvm.Cond.methodLink "NettedPlansLaw" (136 : Nat) ({ cls := "NettedPlansLaw", name := "promise", desc := "(LNettedPlans;III[J)I" } : Jvm.MethodName)) ∈ lw_all := lw_g (lw_at lw_m4 71 rfl) rfl
theorem q838 : (Jvm.Cond.static ({ cls := "NettedPlansLaw", name := "promise", desc := "(LNettedPlans;III[J)I" } : Jvm.MethodName)) ∈ lw_all := lw_g (lw_at lw_m4 72 rfl) rfl
theorem q839 : (Jvm.Cond.codeWith ({ cls := "NettedPlansLaw", name := "promise", desc := "(LNettedPlans;III[J)I" } : Jvm.MethodName) method_16_code (6 : Nat) (Option.some Jvm.ClassFile.FieldType.int) [((0 : Nat), (12 : Nat), (15 : Nat), (13 : Nat)), ((0 : Nat), (12 : Nat), (19 : Nat), (15 : Nat)), ((0 : Nat), (12 : Nat), (23 : Nat), (28 : Nat))]) ∈ lw_all := lw_g (lw_at lw_m4 73 rfl) rfl
theorem q840 : (Jvm.Cond.methodLink "NettedPlansLaw" (62 : Nat) ({ cls := "NettedPlans", name := "promise", desc := "(III)I" } : Jvm.MethodName)) ∈ lw_all := lw_g (lw_at lw_m4 74 rfl) rfl
theorem q848 : (Jvm.Cond.methodLink "NettedPlansLaw" (139 : Nat) ({ cls := "NettedPlansLaw", name := "reserve", desc := "(LNettedPlans;III[J)I" } : Jvm.MethodName)) ∈ lw_all := lw_g (lw_at lw_m4 82 rfl) rfl
theorem q849 : (Jvm.Cond.static ({ cls := "NettedPlansLaw", name := "reserve", desc := "(LNettedPlans;III[J)I" } : Jvm.MethodName)) ∈ lw_all := lw_g (lw_at lw_m4 83 rfl) rfl
theorem q850 : (Jvm.Cond.codeWith ({ cls := "NettedPlansLaw", name := "reserve", desc := "(LNettedPlans;III[J)I" } : Jvm.MethodName) method_17_code (6 : Nat) (Option.some Jvm.ClassFile.FieldType.int) [((0 : Nat), (12 : Nat), (15 : Nat), (13 : Nat)), ((0 : Nat), (12 : Nat), (19 : Nat), (15 : Nat)), ((0 : Nat), (12 : Nat), (23 : Nat), (28 : Nat))]) ∈ lw_all := lw_g (lw_at lw_m4 84 rfl) rfl
theorem q851 : (Jvm.Cond.methodLink "NettedPlansLaw" (65 : Nat) ({ cls := "NettedPlans", name := "reserve", desc := "(III)I" } : Jvm.MethodName)) ∈ lw_all := lw_g (lw_at lw_m4 85 rfl) rfl
theorem q855 : (Jvm.Cond.methodLink "NettedPlansLaw" (142 : Nat) ({ cls := "NettedPlansLaw", name := "giveBack", desc := "(LNettedPlans;I[J)I" } : Jvm.MethodName)) ∈ lw_all := lw_g (lw_at lw_m4 89 rfl) rfl
theorem q856 : (Jvm.Cond.static ({ cls := "NettedPlansLaw", name := "giveBack", desc := "(LNettedPlans;I[J)I" } : Jvm.MethodName)) ∈ lw_all := lw_g (lw_at lw_m4 90 rfl) rfl
theorem q857 : (Jvm.Cond.codeWith ({ cls := "NettedPlansLaw", name := "giveBack", desc := "(LNettedPlans;I[J)I" } : Jvm.MethodName) method_18_code (4 : Nat) (Option.some Jvm.ClassFile.FieldType.int) [((0 : Nat), (9 : Nat), (12 : Nat), (13 : Nat))]) ∈ lw_all := lw_g (lw_at lw_m4 91 rfl) rfl
theorem q858 : (Jvm.Cond.methodLink "NettedPlansLaw" (68 : Nat) ({ cls := "NettedPlans", name := "giveBack", desc := "(I)I" } : Jvm.MethodName)) ∈ lw_all := lw_g (lw_at lw_m4 92 rfl) rfl
theorem q862 : (Jvm.Cond.methodLink "NettedPlansLaw" (145 : Nat) ({ cls := "NettedPlansLaw", name := "load", desc := "(LNettedPlans;II[J)I" } : Jvm.MethodName)) ∈ lw_all := lw_g (lw_at lw_m4 96 rfl) rfl
theorem q863 : (Jvm.Cond.static ({ cls := "NettedPlansLaw", name := "load", desc := "(LNettedPlans;II[J)I" } : Jvm.MethodName)) ∈ lw_all := lw_g (lw_at lw_m4 97 rfl) rfl
theorem q864 : (Jvm.Cond.codeWith ({ cls := "NettedPlansLaw", name := "load", desc := "(LNettedPlans;II[J)I" } : Jvm.MethodName) method_19_code (5 : Nat) (Option.some Jvm.ClassFile.FieldType.int) [((0 : Nat), (9 : Nat), (12 : Nat), (13 : Nat)), ((0 : Nat), (9 : Nat), (16 : Nat), (28 : Nat))]) ∈ lw_all := lw_g (lw_at lw_m4 98 rfl) rfl
theorem q865 : (Jvm.Cond.methodLink "NettedPlansLaw" (71 : Nat) ({ cls := "NettedPlans", name := "load", desc := "(II)J" } : Jvm.MethodName)) ∈ lw_all := lw_g (lw_at lw_m4 99 rfl) rfl
theorem q869 : (Jvm.Cond.methodLink "NettedPlansLaw" (148 : Nat) ({ cls := "NettedPlansLaw", name := "count", desc := "(LNettedPlans;I[J)I" } : Jvm.MethodName)) ∈ lw_all := lw_g (lw_at lw_m4 103 rfl) rfl
theorem q870 : (Jvm.Cond.static ({ cls := "NettedPlansLaw", name := "count", desc := "(LNettedPlans;I[J)I" } : Jvm.MethodName)) ∈ lw_all := lw_g (lw_at lw_m4 104 rfl) rfl
theorem q871 : (Jvm.Cond.codeWith ({ cls := "NettedPlansLaw", name := "count", desc := "(LNettedPlans;I[J)I" } : Jvm.MethodName) method_20_code (4 : Nat) (Option.some Jvm.ClassFile.FieldType.int) [((0 : Nat), (9 : Nat), (12 : Nat), (28 : Nat))]) ∈ lw_all := lw_g (lw_at lw_m4 105 rfl) rfl
theorem q872 : (Jvm.Cond.methodLink "NettedPlansLaw" (74 : Nat) ({ cls := "NettedPlans", name := "count", desc := "(I)I" } : Jvm.MethodName)) ∈ lw_all := lw_g (lw_at lw_m4 106 rfl) rfl
theorem q880 : (Jvm.Cond.classLink "NettedPlansLaw" (78 : Nat) "NettedPlansModel") ∈ lw_all := lw_g (lw_at lw_m4 114 rfl) rfl
theorem q882 : (Jvm.Cond.methodLink "NettedPlansLaw" (80 : Nat) ({ cls := "NettedPlansModel", name := "<init>", desc := "()V" } : Jvm.MethodName)) ∈ lw_all := lw_g (lw_at lw_m4 116 rfl) rfl
theorem q969 : (Jvm.Cond.methodLink "NettedPlansLaw" (87 : Nat) ({ cls := "NettedPlansModel", name := "thrown", desc := "()I" } : Jvm.MethodName)) ∈ lw_all := lw_g (lw_at lw_m4 203 rfl) rfl
theorem q973 : (Jvm.Cond.methodLink "NettedPlansLaw" (86 : Nat) ({ cls := "NettedPlansModel", name := "item", desc := "(IIIII)V" } : Jvm.MethodName)) ∈ lw_all := lw_g (lw_at lw_m4 207 rfl) rfl
theorem q991 : (Jvm.Cond.methodLink "NettedPlansLaw" (94 : Nat) ({ cls := "NettedPlansModel", name := "costs", desc := "(IIII)V" } : Jvm.MethodName)) ∈ lw_all := lw_g (lw_at lw_m4 225 rfl) rfl
theorem q996 : (Jvm.Cond.methodLink "NettedPlansLaw" (98 : Nat) ({ cls := "NettedPlansModel", name := "made", desc := "(III)V" } : Jvm.MethodName)) ∈ lw_all := lw_g (lw_at lw_m4 230 rfl) rfl
theorem q1000 : (Jvm.Cond.methodLink "NettedPlansLaw" (101 : Nat) ({ cls := "NettedPlansModel", name := "line", desc := "(IIIII)V" } : Jvm.MethodName)) ∈ lw_all := lw_g (lw_at lw_m4 234 rfl) rfl
theorem q1016 : (Jvm.Cond.methodLink "NettedPlansLaw" (105 : Nat) ({ cls := "NettedPlansModel", name := "stock", desc := "(II)I" } : Jvm.MethodName)) ∈ lw_all := lw_g (lw_at lw_m5 10 rfl) rfl
theorem q1020 : (Jvm.Cond.methodLink "NettedPlansLaw" (109 : Nat) ({ cls := "NettedPlansModel", name := "demand", desc := "(III)I" } : Jvm.MethodName)) ∈ lw_all := lw_g (lw_at lw_m5 14 rfl) rfl
theorem q1032 : (Jvm.Cond.methodLink "NettedPlansLaw" (115 : Nat) ({ cls := "NettedPlansModel", name := "order", desc := "(III)I" } : Jvm.MethodName)) ∈ lw_all := lw_g (lw_at lw_m5 26 rfl) rfl
theorem q1036 : (Jvm.Cond.methodLink "NettedPlansLaw" (112 : Nat) ({ cls := "NettedPlansModel", name := "change", desc := "(III)I" } : Jvm.MethodName)) ∈ lw_all := lw_g (lw_at lw_m5 30 rfl) rfl
theorem q1040 : (Jvm.Cond.methodLink "NettedPlansLaw" (119 : Nat) ({ cls := "NettedPlansModel", name := "replan", desc := "()I" } : Jvm.MethodName)) ∈ lw_all := lw_g (lw_at lw_m5 34 rfl) rfl
theorem q1097 : (Jvm.Cond.methodLink "NettedPlansLaw" (123 : Nat) ({ cls := "NettedPlansModel", name := "level", desc := "(I)I" } : Jvm.MethodName)) ∈ lw_all := lw_g (lw_at lw_m5 91 rfl) rfl
theorem q1101 : (Jvm.Cond.methodLink "NettedPlansLaw" (126 : Nat) ({ cls := "NettedPlansModel", name := "gross", desc := "(II)J" } : Jvm.MethodName)) ∈ lw_all := lw_g (lw_at lw_m5 95 rfl) rfl
theorem q1109 : (Jvm.Cond.methodLink "NettedPlansLaw" (129 : Nat) ({ cls := "NettedPlansModel", name := "planned", desc := "(II)J" } : Jvm.MethodName)) ∈ lw_all := lw_g (lw_at lw_m5 103 rfl) rfl
theorem q1113 : (Jvm.Cond.methodLink "NettedPlansLaw" (132 : Nat) ({ cls := "NettedPlansModel", name := "balance", desc := "(II)J" } : Jvm.MethodName)) ∈ lw_all := lw_g (lw_at lw_m5 107 rfl) rfl
theorem q1117 : (Jvm.Cond.methodLink "NettedPlansLaw" (135 : Nat) ({ cls := "NettedPlansModel", name := "peg", desc := "(III)J" } : Jvm.MethodName)) ∈ lw_all := lw_g (lw_at lw_m5 111 rfl) rfl
theorem q1125 : (Jvm.Cond.methodLink "NettedPlansLaw" (138 : Nat) ({ cls := "NettedPlansModel", name := "promise", desc := "(III)I" } : Jvm.MethodName)) ∈ lw_all := lw_g (lw_at lw_m5 119 rfl) rfl
theorem q1133 : (Jvm.Cond.methodLink "NettedPlansLaw" (141 : Nat) ({ cls := "NettedPlansModel", name := "reserve", desc := "(III)I" } : Jvm.MethodName)) ∈ lw_all := lw_g (lw_at lw_m5 127 rfl) rfl
theorem q1137 : (Jvm.Cond.methodLink "NettedPlansLaw" (144 : Nat) ({ cls := "NettedPlansModel", name := "giveBack", desc := "(I)I" } : Jvm.MethodName)) ∈ lw_all := lw_g (lw_at lw_m5 131 rfl) rfl
theorem q1141 : (Jvm.Cond.methodLink "NettedPlansLaw" (147 : Nat) ({ cls := "NettedPlansModel", name := "load", desc := "(II)J" } : Jvm.MethodName)) ∈ lw_all := lw_g (lw_at lw_m5 135 rfl) rfl
theorem q1145 : (Jvm.Cond.methodLink "NettedPlansLaw" (150 : Nat) ({ cls := "NettedPlansModel", name := "count", desc := "(I)I" } : Jvm.MethodName)) ∈ lw_all := lw_g (lw_at lw_m5 139 rfl) rfl
