/-! NettedPlansModel -/
set_option maxRecDepth 100000
def RX11 : String := "NettedPlansModel"
def TX11 : u_T := fun k => match k with
  | 0 => ("NettedPlansModel", "fault", "I", false)
  | 1 => ("NettedPlansModel", "rule", "[I", true)
  | 2 => ("NettedPlansModel", "size", "[I", true)
  | 3 => ("NettedPlansModel", "lead", "[I", true)
  | 4 => ("NettedPlansModel", "safety", "[I", true)
  | 5 => ("NettedPlansModel", "scrap", "[I", true)
  | 6 => ("NettedPlansModel", "setup", "[I", true)
  | 7 => ("NettedPlansModel", "hold", "[I", true)
  | 8 => ("NettedPlansModel", "stock", "[I", true)
  | 9 => ("NettedPlansModel", "centre", "[I", true)
  | 10 => ("NettedPlansModel", "hours", "[I", true)
  | 11 => ("NettedPlansModel", "per", "[I", true)
  | 12 => ("NettedPlansModel", "from", "[I", true)
  | 13 => ("NettedPlansModel", "to", "[I", true)
  | 14 => ("NettedPlansModel", "lines", "I", false)
  | 15 => ("NettedPlansModel", "counts", "[I", true)
  | 16 => ("NettedPlansModel", "itemOf", "[I", true)
  | 17 => ("NettedPlansModel", "weekOf", "[I", true)
  | 18 => ("NettedPlansModel", "many", "[I", true)
  | 19 => ("NettedPlansModel", "isPlanned", "Z", false)
  | 20 => ("NettedPlansModel", "isTold", "Z", false)
  | 21 => ("NettedPlansModel", "told", "[Z", true)
  | 22 => ("NettedPlansModel", "gross", "[J", true)
  | 23 => ("NettedPlansModel", "planned", "[J", true)
  | 24 => ("NettedPlansModel", "fresh", "[J", true)
  | 25 => ("NettedPlansModel", "need", "[J", true)
  | _ => ("NettedPlansModel", "best", "[J", true)
def tyX11 : Nat → FieldType := fun k => match k with
  | 0 => .int
  | 1 => .array .int
  | 2 => .array .int
  | 3 => .array .int
  | 4 => .array .int
  | 5 => .array .int
  | 6 => .array .int
  | 7 => .array .int
  | 8 => .array .int
  | 9 => .array .int
  | 10 => .array .int
  | 11 => .array .int
  | 12 => .array .int
  | 13 => .array .int
  | 14 => .int
  | 15 => .array .int
  | 16 => .array .int
  | 17 => .array .int
  | 18 => .array .int
  | 19 => .boolean
  | 20 => .boolean
  | 21 => .array .boolean
  | 22 => .array .long
  | 23 => .array .long
  | 24 => .array .long
  | 25 => .array .long
  | _ => .array .long
abbrev wsX110 : List Cond := u_ws RX11 TX11 27
set_option maxRecDepth 100000 in
theorem nmX11 : ∀ a, a < 27 → ∀ b, b < 27 → a ≠ b → (TX11 a).2.1 ≠ (TX11 b).2.1 := by decide +kernel
set_option maxRecDepth 100000 in
theorem tyX11_ok : ∀ k, k < 27 → parseFieldDescriptor (TX11 k).2.2.1 = some (tyX11 k) := by decide +kernel
abbrev cX11_init : ByteArray := prog_15_method_1_code
def yX11_init : MethodName := ⟨RX11, "<init>", "()V"⟩
abbrev cX11_thrown : ByteArray := prog_15_method_2_code
def yX11_thrown : MethodName := ⟨RX11, "thrown", "()I"⟩
abbrev cX11_item : ByteArray := prog_15_method_7_code
def yX11_item : MethodName := ⟨RX11, "item", "(IIIII)V"⟩
abbrev cX11_isIn : ByteArray := prog_15_method_4_code
def yX11_isIn : MethodName := ⟨RX11, "isIn", "(III)Z"⟩
abbrev cX11_isTwelve : ByteArray := prog_15_method_5_code
def yX11_isTwelve : MethodName := ⟨RX11, "isTwelve", "(I)Z"⟩
abbrev cX11_refused : ByteArray := prog_15_method_3_code
def yX11_refused : MethodName := ⟨RX11, "refused", "(I)Z"⟩
abbrev cX11_tell : ByteArray := prog_15_method_6_code
def yX11_tell : MethodName := ⟨RX11, "tell", "(I)V"⟩
abbrev cX11_costs : ByteArray := prog_15_method_8_code
def yX11_costs : MethodName := ⟨RX11, "costs", "(IIII)V"⟩
abbrev cX11_made : ByteArray := prog_15_method_9_code
def yX11_made : MethodName := ⟨RX11, "made", "(III)V"⟩
abbrev cX11_line : ByteArray := prog_15_method_13_code
def yX11_line : MethodName := ⟨RX11, "line", "(IIIII)V"⟩
abbrev cX11_setLine : ByteArray := prog_15_method_12_code
def yX11_setLine : MethodName := ⟨RX11, "setLine", "(IIII)V"⟩
abbrev cX11_isSound : ByteArray := prog_15_method_11_code
def yX11_isSound : MethodName := ⟨RX11, "isSound", "()Z"⟩
abbrev cX11_levelOf : ByteArray := prog_15_method_10_code
def yX11_levelOf : MethodName := ⟨RX11, "levelOf", "(I)I"⟩
abbrev cX11_stock : ByteArray := prog_15_method_14_code
def yX11_stock : MethodName := ⟨RX11, "stock", "(II)I"⟩
abbrev cX11_demand : ByteArray := prog_15_method_17_code
def yX11_demand : MethodName := ⟨RX11, "demand", "(III)I"⟩
abbrev cX11_addTold : ByteArray := prog_15_method_16_code
def yX11_addTold : MethodName := ⟨RX11, "addTold", "(IIII)I"⟩
abbrev cX11_add : ByteArray := prog_15_method_15_code
def yX11_add : MethodName := ⟨RX11, "add", "(IIII)I"⟩
abbrev cX11_order : ByteArray := prog_15_method_18_code
def yX11_order : MethodName := ⟨RX11, "order", "(III)I"⟩
abbrev cX11_change : ByteArray := prog_15_method_19_code
def yX11_change : MethodName := ⟨RX11, "change", "(III)I"⟩
abbrev cX11_replan : ByteArray := prog_15_method_33_code
def yX11_replan : MethodName := ⟨RX11, "replan", "()I"⟩
abbrev cX11_net : ByteArray := prog_15_method_32_code
def yX11_net : MethodName := ⟨RX11, "net", "(I)Z"⟩
abbrev cX11_grossOf : ByteArray := prog_15_method_24_code
def yX11_grossOf : MethodName := ⟨RX11, "grossOf", "(II)J"⟩
abbrev cX11_sumOf : ByteArray := prog_15_method_20_code
def yX11_sumOf : MethodName := ⟨RX11, "sumOf", "(III)J"⟩
abbrev cX11_asks : ByteArray := prog_15_method_23_code
def yX11_asks : MethodName := ⟨RX11, "asks", "(II)J"⟩
abbrev cX11_plan : ByteArray := prog_15_method_31_code
def yX11_plan : MethodName := ⟨RX11, "plan", "(I)V"⟩
abbrev cX11_findNeeds : ByteArray := prog_15_method_25_code
def yX11_findNeeds : MethodName := ⟨RX11, "findNeeds", "(I)V"⟩
abbrev cX11_bare : ByteArray := prog_15_method_22_code
def yX11_bare : MethodName := ⟨RX11, "bare", "(II)J"⟩
abbrev cX11_upTo : ByteArray := prog_15_method_21_code
def yX11_upTo : MethodName := ⟨RX11, "upTo", "([JII)J"⟩
abbrev cX11_findBest : ByteArray := prog_15_method_29_code
def yX11_findBest : MethodName := ⟨RX11, "findBest", "(I)V"⟩
abbrev cX11_lastOf : ByteArray := prog_15_method_28_code
def yX11_lastOf : MethodName := ⟨RX11, "lastOf", "(II)I"⟩
abbrev cX11_cost : ByteArray := prog_15_method_27_code
def yX11_cost : MethodName := ⟨RX11, "cost", "(III)J"⟩
abbrev cX11_needOf : ByteArray := prog_15_method_26_code
def yX11_needOf : MethodName := ⟨RX11, "needOf", "(I)J"⟩
abbrev cX11_lot : ByteArray := prog_15_method_30_code
def yX11_lot : MethodName := ⟨RX11, "lot", "(IIJ)J"⟩
abbrev cX11_level : ByteArray := prog_15_method_34_code
def yX11_level : MethodName := ⟨RX11, "level", "(I)I"⟩
abbrev cX11_gross : ByteArray := prog_15_method_36_code
def yX11_gross : MethodName := ⟨RX11, "gross", "(II)J"⟩
abbrev cX11_isWrong : ByteArray := prog_15_method_35_code
def yX11_isWrong : MethodName := ⟨RX11, "isWrong", "(II)Z"⟩
abbrev cX11_planned : ByteArray := prog_15_method_37_code
def yX11_planned : MethodName := ⟨RX11, "planned", "(II)J"⟩
abbrev cX11_balance : ByteArray := prog_15_method_38_code
def yX11_balance : MethodName := ⟨RX11, "balance", "(II)J"⟩
abbrev cX11_peg : ByteArray := prog_15_method_40_code
def yX11_peg : MethodName := ⟨RX11, "peg", "(III)J"⟩
abbrev cX11_supplied : ByteArray := prog_15_method_39_code
def yX11_supplied : MethodName := ⟨RX11, "supplied", "(III)J"⟩
abbrev cX11_promise : ByteArray := prog_15_method_42_code
def yX11_promise : MethodName := ⟨RX11, "promise", "(III)I"⟩
abbrev cX11_isTrue : ByteArray := prog_15_method_41_code
def yX11_isTrue : MethodName := ⟨RX11, "isTrue", "(III)Z"⟩
abbrev cX11_reserve : ByteArray := prog_15_method_43_code
def yX11_reserve : MethodName := ⟨RX11, "reserve", "(III)I"⟩
abbrev cX11_giveBack : ByteArray := prog_15_method_44_code
def yX11_giveBack : MethodName := ⟨RX11, "giveBack", "(I)I"⟩
abbrev cX11_load : ByteArray := prog_15_method_45_code
def yX11_load : MethodName := ⟨RX11, "load", "(II)J"⟩
abbrev cX11_count : ByteArray := prog_15_method_47_code
def yX11_count : MethodName := ⟨RX11, "count", "(I)I"⟩
abbrev cX11_shortItems : ByteArray := prog_15_method_46_code
def yX11_shortItems : MethodName := ⟨RX11, "shortItems", "()I"⟩
theorem q61 : (Jvm.Cond.initialized "NettedPlansModel") ∈ lw_all := lw_g (lw_at lw_m1 15 rfl) rfl
theorem q358 : (Jvm.Cond.selects "NettedPlansModel" ({ cls := "java/lang/Object", name := "getClass", desc := "()Ljava/lang/Class;" } : Jvm.MethodName) ({ cls := "java/lang/Object", name := "getClass", desc := "()Ljava/lang/Class;" } : Jvm.MethodName)) ∈ lw_all := lw_g (lw_at lw_m2 72 rfl) rfl
theorem q881 : (Jvm.Cond.instantiable "NettedPlansModel" (27 : Nat)) ∈ lw_all := lw_g (lw_at lw_m4 115 rfl) rfl
theorem q883 : (Jvm.Cond.instanceMethod ({ cls := "NettedPlansModel", name := "<init>", desc := "()V" } : Jvm.MethodName)) ∈ lw_all := lw_g (lw_at lw_m4 117 rfl) rfl
theorem q884 : (Jvm.Cond.code ({ cls := "NettedPlansModel", name := "<init>", desc := "()V" } : Jvm.MethodName) prog_15_method_1_code (2 : Nat) (Option.none : Option Jvm.ClassFile.FieldType)) ∈ lw_all := lw_g (lw_at lw_m4 118 rfl) rfl
theorem q885 : (Jvm.Cond.methodLink "NettedPlansModel" (1 : Nat) ({ cls := "java/lang/Object", name := "<init>", desc := "()V" } : Jvm.MethodName)) ∈ lw_all := lw_g (lw_at lw_m4 119 rfl) rfl
theorem q886 : (Jvm.Cond.fieldLink "NettedPlansModel" (85 : Nat) "NettedPlansModel" "fault" "I") ∈ lw_all := lw_g (lw_at lw_m4 120 rfl) rfl
theorem q887 : (Jvm.Cond.fieldLink "NettedPlansModel" (7 : Nat) "NettedPlansModel" "rule" "[I") ∈ lw_all := lw_g (lw_at lw_m4 121 rfl) rfl
theorem q888 : (Jvm.Cond.fieldLink "NettedPlansModel" (13 : Nat) "NettedPlansModel" "size" "[I") ∈ lw_all := lw_g (lw_at lw_m4 122 rfl) rfl
theorem q889 : (Jvm.Cond.fieldLink "NettedPlansModel" (16 : Nat) "NettedPlansModel" "lead" "[I") ∈ lw_all := lw_g (lw_at lw_m4 123 rfl) rfl
theorem q890 : (Jvm.Cond.fieldLink "NettedPlansModel" (19 : Nat) "NettedPlansModel" "safety" "[I") ∈ lw_all := lw_g (lw_at lw_m4 124 rfl) rfl
theorem q891 : (Jvm.Cond.fieldLink "NettedPlansModel" (22 : Nat) "NettedPlansModel" "scrap" "[I") ∈ lw_all := lw_g (lw_at lw_m4 125 rfl) rfl
theorem q892 : (Jvm.Cond.fieldLink "NettedPlansModel" (25 : Nat) "NettedPlansModel" "setup" "[I") ∈ lw_all := lw_g (lw_at lw_m4 126 rfl) rfl
theorem q893 : (Jvm.Cond.fieldLink "NettedPlansModel" (28 : Nat) "NettedPlansModel" "hold" "[I") ∈ lw_all := lw_g (lw_at lw_m4 127 rfl) rfl
theorem q894 : (Jvm.Cond.fieldLink "NettedPlansModel" (31 : Nat) "NettedPlansModel" "stock" "[I") ∈ lw_all := lw_g (lw_at lw_m4 128 rfl) rfl
theorem q895 : (Jvm.Cond.fieldLink "NettedPlansModel" (34 : Nat) "NettedPlansModel" "centre" "[I") ∈ lw_all := lw_g (lw_at lw_m4 129 rfl) rfl
theorem q896 : (Jvm.Cond.fieldLink "NettedPlansModel" (37 : Nat) "NettedPlansModel" "hours" "[I") ∈ lw_all := lw_g (lw_at lw_m4 130 rfl) rfl
theorem q897 : (Jvm.Cond.fieldLink "NettedPlansModel" (40 : Nat) "NettedPlansModel" "per" "[I") ∈ lw_all := lw_g (lw_at lw_m4 131 rfl) rfl
theorem q898 : (Jvm.Cond.fieldLink "NettedPlansModel" (43 : Nat) "NettedPlansModel" "from" "[I") ∈ lw_all := lw_g (lw_at lw_m4 132 rfl) rfl
theorem q899 : (Jvm.Cond.fieldLink "NettedPlansModel" (46 : Nat) "NettedPlansModel" "to" "[I") ∈ lw_all := lw_g (lw_at lw_m4 133 rfl) rfl
theorem q900 : (Jvm.Cond.fieldLink "NettedPlansModel" (109 : Nat) "NettedPlansModel" "lines" "I") ∈ lw_all := lw_g (lw_at lw_m4 134 rfl) rfl
theorem q901 : (Jvm.Cond.fieldLink "NettedPlansModel" (49 : Nat) "NettedPlansModel" "counts" "[I") ∈ lw_all := lw_g (lw_at lw_m4 135 rfl) rfl
theorem q902 : (Jvm.Cond.fieldLink "NettedPlansModel" (52 : Nat) "NettedPlansModel" "itemOf" "[I") ∈ lw_all := lw_g (lw_at lw_m4 136 rfl) rfl
theorem q903 : (Jvm.Cond.fieldLink "NettedPlansModel" (55 : Nat) "NettedPlansModel" "weekOf" "[I") ∈ lw_all := lw_g (lw_at lw_m4 137 rfl) rfl
theorem q904 : (Jvm.Cond.fieldLink "NettedPlansModel" (58 : Nat) "NettedPlansModel" "many" "[I") ∈ lw_all := lw_g (lw_at lw_m4 138 rfl) rfl
theorem q905 : (Jvm.Cond.fieldLink "NettedPlansModel" (167 : Nat) "NettedPlansModel" "isPlanned" "Z") ∈ lw_all := lw_g (lw_at lw_m4 139 rfl) rfl
theorem q906 : (Jvm.Cond.fieldLink "NettedPlansModel" (61 : Nat) "NettedPlansModel" "isTold" "Z") ∈ lw_all := lw_g (lw_at lw_m4 140 rfl) rfl
theorem q907 : (Jvm.Cond.fieldLink "NettedPlansModel" (65 : Nat) "NettedPlansModel" "told" "[Z") ∈ lw_all := lw_g (lw_at lw_m4 141 rfl) rfl
theorem q908 : (Jvm.Cond.fieldLink "NettedPlansModel" (69 : Nat) "NettedPlansModel" "gross" "[J") ∈ lw_all := lw_g (lw_at lw_m4 142 rfl) rfl
theorem q909 : (Jvm.Cond.fieldLink "NettedPlansModel" (73 : Nat) "NettedPlansModel" "planned" "[J") ∈ lw_all := lw_g (lw_at lw_m4 143 rfl) rfl
theorem q910 : (Jvm.Cond.fieldLink "NettedPlansModel" (76 : Nat) "NettedPlansModel" "fresh" "[J") ∈ lw_all := lw_g (lw_at lw_m4 144 rfl) rfl
theorem q911 : (Jvm.Cond.fieldLink "NettedPlansModel" (79 : Nat) "NettedPlansModel" "need" "[J") ∈ lw_all := lw_g (lw_at lw_m4 145 rfl) rfl
theorem q912 : (Jvm.Cond.fieldLink "NettedPlansModel" (82 : Nat) "NettedPlansModel" "best" "[J") ∈ lw_all := lw_g (lw_at lw_m4 146 rfl) rfl
theorem q913 : (Jvm.Cond.lays "NettedPlansModel" "NettedPlansModel" "fault" "I") ∈ lw_all := lw_g (lw_at lw_m4 147 rfl) rfl
theorem q914 : (Jvm.Cond.soleField "NettedPlansModel" "fault") ∈ lw_all := lw_g (lw_at lw_m4 148 rfl) rfl
theorem q915 : (Jvm.Cond.laysFinal "NettedPlansModel" "NettedPlansModel" "rule" "[I") ∈ lw_all := lw_g (lw_at lw_m4 149 rfl) rfl
theorem q916 : (Jvm.Cond.soleField "NettedPlansModel" "rule") ∈ lw_all := lw_g (lw_at lw_m4 150 rfl) rfl
theorem q917 : (Jvm.Cond.laysFinal "NettedPlansModel" "NettedPlansModel" "size" "[I") ∈ lw_all := lw_g (lw_at lw_m4 151 rfl) rfl
theorem q918 : (Jvm.Cond.soleField "NettedPlansModel" "size") ∈ lw_all := lw_g (lw_at lw_m4 152 rfl) rfl
theorem q919 : (Jvm.Cond.laysFinal "NettedPlansModel" "NettedPlansModel" "lead" "[I") ∈ lw_all := lw_g (lw_at lw_m4 153 rfl) rfl
theorem q920 : (Jvm.Cond.soleField "NettedPlansModel" "lead") ∈ lw_all := lw_g (lw_at lw_m4 154 rfl) rfl
theorem q921 : (Jvm.Cond.laysFinal "NettedPlansModel" "NettedPlansModel" "safety" "[I") ∈ lw_all := lw_g (lw_at lw_m4 155 rfl) rfl
theorem q922 : (Jvm.Cond.soleField "NettedPlansModel" "safety") ∈ lw_all := lw_g (lw_at lw_m4 156 rfl) rfl
theorem q923 : (Jvm.Cond.laysFinal "NettedPlansModel" "NettedPlansModel" "scrap" "[I") ∈ lw_all := lw_g (lw_at lw_m4 157 rfl) rfl
theorem q924 : (Jvm.Cond.soleField "NettedPlansModel" "scrap") ∈ lw_all := lw_g (lw_at lw_m4 158 rfl) rfl
theorem q925 : (Jvm.Cond.laysFinal "NettedPlansModel" "NettedPlansModel" "setup" "[I") ∈ lw_all := lw_g (lw_at lw_m4 159 rfl) rfl
theorem q926 : (Jvm.Cond.soleField "NettedPlansModel" "setup") ∈ lw_all := lw_g (lw_at lw_m4 160 rfl) rfl
theorem q927 : (Jvm.Cond.laysFinal "NettedPlansModel" "NettedPlansModel" "hold" "[I") ∈ lw_all := lw_g (lw_at lw_m4 161 rfl) rfl
theorem q928 : (Jvm.Cond.soleField "NettedPlansModel" "hold") ∈ lw_all := lw_g (lw_at lw_m4 162 rfl) rfl
theorem q929 : (Jvm.Cond.laysFinal "NettedPlansModel" "NettedPlansModel" "stock" "[I") ∈ lw_all := lw_g (lw_at lw_m4 163 rfl) rfl
theorem q930 : (Jvm.Cond.soleField "NettedPlansModel" "stock") ∈ lw_all := lw_g (lw_at lw_m4 164 rfl) rfl
theorem q931 : (Jvm.Cond.laysFinal "NettedPlansModel" "NettedPlansModel" "centre" "[I") ∈ lw_all := lw_g (lw_at lw_m4 165 rfl) rfl
theorem q932 : (Jvm.Cond.soleField "NettedPlansModel" "centre") ∈ lw_all := lw_g (lw_at lw_m4 166 rfl) rfl
theorem q933 : (Jvm.Cond.laysFinal "NettedPlansModel" "NettedPlansModel" "hours" "[I") ∈ lw_all := lw_g (lw_at lw_m4 167 rfl) rfl
theorem q934 : (Jvm.Cond.soleField "NettedPlansModel" "hours") ∈ lw_all := lw_g (lw_at lw_m4 168 rfl) rfl
theorem q935 : (Jvm.Cond.laysFinal "NettedPlansModel" "NettedPlansModel" "per" "[I") ∈ lw_all := lw_g (lw_at lw_m4 169 rfl) rfl
theorem q936 : (Jvm.Cond.soleField "NettedPlansModel" "per") ∈ lw_all := lw_g (lw_at lw_m4 170 rfl) rfl
theorem q937 : (Jvm.Cond.laysFinal "NettedPlansModel" "NettedPlansModel" "from" "[I") ∈ lw_all := lw_g (lw_at lw_m4 171 rfl) rfl
theorem q938 : (Jvm.Cond.soleField "NettedPlansModel" "from") ∈ lw_all := lw_g (lw_at lw_m4 172 rfl) rfl
theorem q939 : (Jvm.Cond.laysFinal "NettedPlansModel" "NettedPlansModel" "to" "[I") ∈ lw_all := lw_g (lw_at lw_m4 173 rfl) rfl
theorem q940 : (Jvm.Cond.soleField "NettedPlansModel" "to") ∈ lw_all := lw_g (lw_at lw_m4 174 rfl) rfl
theorem q941 : (Jvm.Cond.lays "NettedPlansModel" "NettedPlansModel" "lines" "I") ∈ lw_all := lw_g (lw_at lw_m4 175 rfl) rfl
theorem q942 : (Jvm.Cond.soleField "NettedPlansModel" "lines") ∈ lw_all := lw_g (lw_at lw_m4 176 rfl) rfl
theorem q943 : (Jvm.Cond.laysFinal "NettedPlansModel" "NettedPlansModel" "counts" "[I") ∈ lw_all := lw_g (lw_at lw_m4 177 rfl) rfl
theorem q944 : (Jvm.Cond.soleField "NettedPlansModel" "counts") ∈ lw_all := lw_g (lw_at lw_m4 178 rfl) rfl
theorem q945 : (Jvm.Cond.laysFinal "NettedPlansModel" "NettedPlansModel" "itemOf" "[I") ∈ lw_all := lw_g (lw_at lw_m4 179 rfl) rfl
theorem q946 : (Jvm.Cond.soleField "NettedPlansModel" "itemOf") ∈ lw_all := lw_g (lw_at lw_m4 180 rfl) rfl
theorem q947 : (Jvm.Cond.laysFinal "NettedPlansModel" "NettedPlansModel" "weekOf" "[I") ∈ lw_all := lw_g (lw_at lw_m4 181 rfl) rfl
theorem q948 : (Jvm.Cond.soleField "NettedPlansModel" "weekOf") ∈ lw_all := lw_g (lw_at lw_m4 182 rfl) rfl
theorem q949 : (Jvm.Cond.laysFinal "NettedPlansModel" "NettedPlansModel" "many" "[I") ∈ lw_all := lw_g (lw_at lw_m4 183 rfl) rfl
theorem q950 : (Jvm.Cond.soleField "NettedPlansModel" "many") ∈ lw_all := lw_g (lw_at lw_m4 184 rfl) rfl
theorem q951 : (Jvm.Cond.lays "NettedPlansModel" "NettedPlansModel" "isPlanned" "Z") ∈ lw_all := lw_g (lw_at lw_m4 185 rfl) rfl
theorem q952 : (Jvm.Cond.soleField "NettedPlansModel" "isPlanned") ∈ lw_all := lw_g (lw_at lw_m4 186 rfl) rfl
theorem q953 : (Jvm.Cond.lays "NettedPlansModel" "NettedPlansModel" "isTold" "Z") ∈ lw_all := lw_g (lw_at lw_m4 187 rfl) rfl
theorem q954 : (Jvm.Cond.soleField "NettedPlansModel" "isTold") ∈ lw_all := lw_g (lw_at lw_m4 188 rfl) rfl
theorem q955 : (Jvm.Cond.laysFinal "NettedPlansModel" "NettedPlansModel" "told" "[Z") ∈ lw_all := lw_g (lw_at lw_m4 189 rfl) rfl
theorem q956 : (Jvm.Cond.soleField "NettedPlansModel" "told") ∈ lw_all := lw_g (lw_at lw_m4 190 rfl) rfl
theorem q957 : (Jvm.Cond.laysFinal "NettedPlansModel" "NettedPlansModel" "gross" "[J") ∈ lw_all := lw_g (lw_at lw_m4 191 rfl) rfl
theorem q958 : (Jvm.Cond.soleField "NettedPlansModel" "gross") ∈ lw_all := lw_g (lw_at lw_m4 192 rfl) rfl
theorem q959 : (Jvm.Cond.laysFinal "NettedPlansModel" "NettedPlansModel" "planned" "[J") ∈ lw_all := lw_g (lw_at lw_m4 193 rfl) rfl
theorem q960 : (Jvm.Cond.soleField "NettedPlansModel" "planned") ∈ lw_all := lw_g (lw_at lw_m4 194 rfl) rfl
theorem q961 : (Jvm.Cond.laysFinal "NettedPlansModel" "NettedPlansModel" "fresh" "[J") ∈ lw_all := lw_g (lw_at lw_m4 195 rfl) rfl
theorem q962 : (Jvm.Cond.soleField "NettedPlansModel" "fresh") ∈ lw_all := lw_g (lw_at lw_m4 196 rfl) rfl
theorem q963 : (Jvm.Cond.laysFinal "NettedPlansModel" "NettedPlansModel" "need" "[J") ∈ lw_all := lw_g (lw_at lw_m4 197 rfl) rfl
theorem q964 : (Jvm.Cond.soleField "NettedPlansModel" "need") ∈ lw_all := lw_g (lw_at lw_m4 198 rfl) rfl
theorem q965 : (Jvm.Cond.laysFinal "NettedPlansModel" "NettedPlansModel" "best" "[J") ∈ lw_all := lw_g (lw_at lw_m4 199 rfl) rfl
theorem q966 : (Jvm.Cond.soleField "NettedPlansModel" "best") ∈ lw_all := lw_g (lw_at lw_m4 200 rfl) rfl
theorem q967 : (Jvm.Cond.superclass "NettedPlansModel" "java/lang/Object") ∈ lw_all := lw_g (lw_at lw_m4 201 rfl) rfl
theorem q970 : (Jvm.Cond.instanceMethod ({ cls := "NettedPlansModel", name := "thrown", desc := "()I" } : Jvm.MethodName)) ∈ lw_all := lw_g (lw_at lw_m4 204 rfl) rfl
theorem q971 : (Jvm.Cond.selects "NettedPlansModel" ({ cls := "NettedPlansModel", name := "thrown", desc := "()I" } : Jvm.MethodName) ({ cls := "NettedPlansModel", name := "thrown", desc := "()I" } : Jvm.MethodName)) ∈ lw_all := lw_g (lw_at lw_m4 205 rfl) rfl
theorem q972 : (Jvm.Cond.code ({ cls := "NettedPlansModel", name := "thrown", desc := "()I" } : Jvm.MethodName) prog_15_method_2_code (1 : Nat) (Option.some Jvm.ClassFile.FieldType.int)) ∈ lw_all := lw_g (lw_at lw_m4 206 rfl) rfl
theorem q974 : (Jvm.Cond.instanceMethod ({ cls := "NettedPlansModel", name := "item", desc := "(IIIII)V" } : Jvm.MethodName)) ∈ lw_all := lw_g (lw_at lw_m4 208 rfl) rfl
theorem q975 : (Jvm.Cond.selects "NettedPlansModel" ({ cls := "NettedPlansModel", name := "item", desc := "(IIIII)V" } : Jvm.MethodName) ({ cls := "NettedPlansModel", name := "item", desc := "(IIIII)V" } : Jvm.MethodName)) ∈ lw_all := lw_g (lw_at lw_m4 209 rfl) rfl
theorem q976 : (Jvm.Cond.code ({ cls := "NettedPlansModel", name := "item", desc := "(IIIII)V" } : Jvm.MethodName) prog_15_method_7_code (7 : Nat) (Option.none : Option Jvm.ClassFile.FieldType)) ∈ lw_all := lw_g (lw_at lw_m4 210 rfl) rfl
theorem q977 : (Jvm.Cond.methodLink "NettedPlansModel" (89 : Nat) ({ cls := "NettedPlansModel", name := "isIn", desc := "(III)Z" } : Jvm.MethodName)) ∈ lw_all := lw_g (lw_at lw_m4 211 rfl) rfl
theorem q978 : (Jvm.Cond.static ({ cls := "NettedPlansModel", name := "isIn", desc := "(III)Z" } : Jvm.MethodName)) ∈ lw_all := lw_g (lw_at lw_m4 212 rfl) rfl
theorem q979 : (Jvm.Cond.code ({ cls := "NettedPlansModel", name := "isIn", desc := "(III)Z" } : Jvm.MethodName) prog_15_method_4_code (3 : Nat) (Option.some Jvm.ClassFile.FieldType.boolean)) ∈ lw_all := lw_g (lw_at lw_m4 213 rfl) rfl
theorem q980 : (Jvm.Cond.methodLink "NettedPlansModel" (93 : Nat) ({ cls := "NettedPlansModel", name := "isTwelve", desc := "(I)Z" } : Jvm.MethodName)) ∈ lw_all := lw_g (lw_at lw_m4 214 rfl) rfl
theorem q981 : (Jvm.Cond.static ({ cls := "NettedPlansModel", name := "isTwelve", desc := "(I)Z" } : Jvm.MethodName)) ∈ lw_all := lw_g (lw_at lw_m4 215 rfl) rfl
theorem q982 : (Jvm.Cond.code ({ cls := "NettedPlansModel", name := "isTwelve", desc := "(I)Z" } : Jvm.MethodName) prog_15_method_5_code (1 : Nat) (Option.some Jvm.ClassFile.FieldType.boolean)) ∈ lw_all := lw_g (lw_at lw_m4 216 rfl) rfl
theorem q983 : (Jvm.Cond.methodLink "NettedPlansModel" (97 : Nat) ({ cls := "NettedPlansModel", name := "refused", desc := "(I)Z" } : Jvm.MethodName)) ∈ lw_all := lw_g (lw_at lw_m4 217 rfl) rfl
theorem q984 : (Jvm.Cond.privateMethod ({ cls := "NettedPlansModel", name := "refused", desc := "(I)Z" } : Jvm.MethodName)) ∈ lw_tbl := lw_at lw_m4 218 rfl
theorem q985 : (Jvm.Cond.instanceMethod ({ cls := "NettedPlansModel", name := "refused", desc := "(I)Z" } : Jvm.MethodName)) ∈ lw_all := lw_g (lw_at lw_m4 219 rfl) rfl
theorem q986 : (Jvm.Cond.code ({ cls := "NettedPlansModel", name := "refused", desc := "(I)Z" } : Jvm.MethodName) prog_15_method_3_code (2 : Nat) (Option.some Jvm.ClassFile.FieldType.boolean)) ∈ lw_all := lw_g (lw_at lw_m4 220 rfl) rfl
theorem q987 : (Jvm.Cond.methodLink "NettedPlansModel" (100 : Nat) ({ cls := "NettedPlansModel", name := "tell", desc := "(I)V" } : Jvm.MethodName)) ∈ lw_all := lw_g (lw_at lw_m4 221 rfl) rfl
theorem q988 : (Jvm.Cond.privateMethod ({ cls := "NettedPlansModel", name := "tell", desc := "(I)V" } : Jvm.MethodName)) ∈ lw_tbl := lw_at lw_m4 222 rfl
theorem q989 : (Jvm.Cond.instanceMethod ({ cls := "NettedPlansModel", name := "tell", desc := "(I)V" } : Jvm.MethodName)) ∈ lw_all := lw_g (lw_at lw_m4 223 rfl) rfl
theorem q990 : (Jvm.Cond.code ({ cls := "NettedPlansModel", name := "tell", desc := "(I)V" } : Jvm.MethodName) prog_15_method_6_code (2 : Nat) (Option.none : Option Jvm.ClassFile.FieldType)) ∈ lw_all := lw_g (lw_at lw_m4 224 rfl) rfl
theorem q992 : (Jvm.Cond.instanceMethod ({ cls := "NettedPlansModel", name := "costs", desc := "(IIII)V" } : Jvm.MethodName)) ∈ lw_all := lw_g (lw_at lw_m4 226 rfl) rfl
theorem q993 : (Jvm.Cond.selects "NettedPlansModel" ({ cls := "NettedPlansModel", name := "costs", desc := "(IIII)V" } : Jvm.MethodName) ({ cls := "NettedPlansModel", name := "costs", desc := "(IIII)V" } : Jvm.MethodName)) ∈ lw_all := lw_g (lw_at lw_m4 227 rfl) rfl
theorem q994 : (Jvm.Cond.code ({ cls := "NettedPlansModel", name := "costs", desc := "(IIII)V" } : Jvm.MethodName) prog_15_method_8_code (6 : Nat) (Option.none : Option Jvm.ClassFile.FieldType)) ∈ lw_all := lw_g (lw_at lw_m4 228 rfl) rfl
theorem q995 : (Jvm.Cond.constant "NettedPlansModel" (104 : Nat) (100000 : Int32)) ∈ lw_all := lw_g (lw_at lw_m4 229 rfl) rfl
theorem q997 : (Jvm.Cond.instanceMethod ({ cls := "NettedPlansModel", name := "made", desc := "(III)V" } : Jvm.MethodName)) ∈ lw_all := lw_g (lw_at lw_m4 231 rfl) rfl
theorem q998 : (Jvm.Cond.selects "NettedPlansModel" ({ cls := "NettedPlansModel", name := "made", desc := "(III)V" } : Jvm.MethodName) ({ cls := "NettedPlansModel", name := "made", desc := "(III)V" } : Jvm.MethodName)) ∈ lw_all := lw_g (lw_at lw_m4 232 rfl) rfl
theorem q999 : (Jvm.Cond.code ({ cls := "NettedPlansModel", name := "made", desc := "(III)V" } : Jvm.MethodName) prog_15_method_9_code (4 : Nat) (Option.none : Option Jvm.ClassFile.FieldType)) ∈ lw_all := lw_g (lw_at lw_m4 233 rfl) rfl
theorem q1001 : (Jvm.Cond.instanceMethod ({ cls := "NettedPlansModel", name := "line", desc := "(IIIII)V" } : Jvm.MethodName)) ∈ lw_all := lw_g (lw_at lw_m4 235 rfl) rfl
theorem q1002 : (Jvm.Cond.selects "NettedPlansModel" ({ cls := "NettedPlansModel", name := "line", desc := "(IIIII)V" } : Jvm.MethodName) ({ cls := "NettedPlansModel", name := "line", desc := "(IIIII)V" } : Jvm.MethodName)) ∈ lw_all := lw_g (lw_at lw_m4 236 rfl) rfl
theorem q1003 : (Jvm.Cond.code ({ cls := "NettedPlansModel", name := "line", desc := "(IIIII)V" } : Jvm.MethodName) prog_15_method_13_code (11 : Nat) (Option.none : Option Jvm.ClassFile.FieldType)) ∈ lw_all := lw_g (lw_at lw_m4 237 rfl) rfl
theorem q1004 : (Jvm.Cond.methodLink "NettedPlansModel" (112 : Nat) ({ cls := "NettedPlansModel", name := "setLine", desc := "(IIII)V" } : Jvm.MethodName)) ∈ lw_all := lw_g (lw_at lw_m4 238 rfl) rfl
theorem q1005 : (Jvm.Cond.privateMethod ({ cls := "NettedPlansModel", name := "setLine", desc := "(IIII)V" } : Jvm.MethodName)) ∈ lw_tbl := lw_at lw_m4 239 rfl
theorem q1006 : (Jvm.Cond.instanceMethod ({ cls := "NettedPlansModel", name := "setLine", desc := "(IIII)V" } : Jvm.MethodName)) ∈ lw_all := lw_g (lw_at lw_m5 0 rfl) rfl
theorem q1007 : (Jvm.Cond.code ({ cls := "NettedPlansModel", name := "setLine", desc := "(IIII)V" } : Jvm.MethodName) prog_15_method_12_code (5 : Nat) (Option.none : Option Jvm.ClassFile.FieldType)) ∈ lw_all := lw_g (lw_at lw_m5 1 rfl) rfl
theorem q1008 : (Jvm.Cond.methodLink "NettedPlansModel" (116 : Nat) ({ cls := "NettedPlansModel", name := "isSound", desc := "()Z" } : Jvm.MethodName)) ∈ lw_all := lw_g (lw_at lw_m5 2 rfl) rfl
theorem q1009 : (Jvm.Cond.privateMethod ({ cls := "NettedPlansModel", name := "isSound", desc := "()Z" } : Jvm.MethodName)) ∈ lw_tbl := lw_at lw_m5 3 rfl
theorem q1010 : (Jvm.Cond.instanceMethod ({ cls := "NettedPlansModel", name := "isSound", desc := "()Z" } : Jvm.MethodName)) ∈ lw_all := lw_g (lw_at lw_m5 4 rfl) rfl
theorem q1011 : (Jvm.Cond.code ({ cls := "NettedPlansModel", name := "isSound", desc := "()Z" } : Jvm.MethodName) prog_15_method_11_code (3 : Nat) (Option.some Jvm.ClassFile.FieldType.boolean)) ∈ lw_all := lw_g (lw_at lw_m5 5 rfl) rfl
theorem q1012 : (Jvm.Cond.methodLink "NettedPlansModel" (105 : Nat) ({ cls := "NettedPlansModel", name := "levelOf", desc := "(I)I" } : Jvm.MethodName)) ∈ lw_all := lw_g (lw_at lw_m5 6 rfl) rfl
theorem q1013 : (Jvm.Cond.privateMethod ({ cls := "NettedPlansModel", name := "levelOf", desc := "(I)I" } : Jvm.MethodName)) ∈ lw_tbl := lw_at lw_m5 7 rfl
theorem q1014 : (Jvm.Cond.instanceMethod ({ cls := "NettedPlansModel", name := "levelOf", desc := "(I)I" } : Jvm.MethodName)) ∈ lw_all := lw_g (lw_at lw_m5 8 rfl) rfl
theorem q1015 : (Jvm.Cond.code ({ cls := "NettedPlansModel", name := "levelOf", desc := "(I)I" } : Jvm.MethodName) prog_15_method_10_code (7 : Nat) (Option.some Jvm.ClassFile.FieldType.int)) ∈ lw_all := lw_g (lw_at lw_m5 9 rfl) rfl
theorem q1017 : (Jvm.Cond.instanceMethod ({ cls := "NettedPlansModel", name := "stock", desc := "(II)I" } : Jvm.MethodName)) ∈ lw_all := lw_g (lw_at lw_m5 11 rfl) rfl
theorem q1018 : (Jvm.Cond.selects "NettedPlansModel" ({ cls := "NettedPlansModel", name := "stock", desc := "(II)I" } : Jvm.MethodName) ({ cls := "NettedPlansModel", name := "stock", desc := "(II)I" } : Jvm.MethodName)) ∈ lw_all := lw_g (lw_at lw_m5 12 rfl) rfl
theorem q1019 : (Jvm.Cond.code ({ cls := "NettedPlansModel", name := "stock", desc := "(II)I" } : Jvm.MethodName) prog_15_method_14_code (4 : Nat) (Option.some Jvm.ClassFile.FieldType.int)) ∈ lw_all := lw_g (lw_at lw_m5 13 rfl) rfl
theorem q1021 : (Jvm.Cond.instanceMethod ({ cls := "NettedPlansModel", name := "demand", desc := "(III)I" } : Jvm.MethodName)) ∈ lw_all := lw_g (lw_at lw_m5 15 rfl) rfl
theorem q1022 : (Jvm.Cond.selects "NettedPlansModel" ({ cls := "NettedPlansModel", name := "demand", desc := "(III)I" } : Jvm.MethodName) ({ cls := "NettedPlansModel", name := "demand", desc := "(III)I" } : Jvm.MethodName)) ∈ lw_all := lw_g (lw_at lw_m5 16 rfl) rfl
theorem q1023 : (Jvm.Cond.code ({ cls := "NettedPlansModel", name := "demand", desc := "(III)I" } : Jvm.MethodName) prog_15_method_17_code (4 : Nat) (Option.some Jvm.ClassFile.FieldType.int)) ∈ lw_all := lw_g (lw_at lw_m5 17 rfl) rfl
theorem q1024 : (Jvm.Cond.methodLink "NettedPlansModel" (124 : Nat) ({ cls := "NettedPlansModel", name := "addTold", desc := "(IIII)I" } : Jvm.MethodName)) ∈ lw_all := lw_g (lw_at lw_m5 18 rfl) rfl
theorem q1025 : (Jvm.Cond.privateMethod ({ cls := "NettedPlansModel", name := "addTold", desc := "(IIII)I" } : Jvm.MethodName)) ∈ lw_tbl := lw_at lw_m5 19 rfl
theorem q1026 : (Jvm.Cond.instanceMethod ({ cls := "NettedPlansModel", name := "addTold", desc := "(IIII)I" } : Jvm.MethodName)) ∈ lw_all := lw_g (lw_at lw_m5 20 rfl) rfl
theorem q1027 : (Jvm.Cond.code ({ cls := "NettedPlansModel", name := "addTold", desc := "(IIII)I" } : Jvm.MethodName) prog_15_method_16_code (5 : Nat) (Option.some Jvm.ClassFile.FieldType.int)) ∈ lw_all := lw_g (lw_at lw_m5 21 rfl) rfl
theorem q1028 : (Jvm.Cond.methodLink "NettedPlansModel" (120 : Nat) ({ cls := "NettedPlansModel", name := "add", desc := "(IIII)I" } : Jvm.MethodName)) ∈ lw_all := lw_g (lw_at lw_m5 22 rfl) rfl
theorem q1029 : (Jvm.Cond.privateMethod ({ cls := "NettedPlansModel", name := "add", desc := "(IIII)I" } : Jvm.MethodName)) ∈ lw_tbl := lw_at lw_m5 23 rfl
theorem q1030 : (Jvm.Cond.instanceMethod ({ cls := "NettedPlansModel", name := "add", desc := "(IIII)I" } : Jvm.MethodName)) ∈ lw_all := lw_g (lw_at lw_m5 24 rfl) rfl
theorem q1031 : (Jvm.Cond.code ({ cls := "NettedPlansModel", name := "add", desc := "(IIII)I" } : Jvm.MethodName) prog_15_method_15_code (6 : Nat) (Option.some Jvm.ClassFile.FieldType.int)) ∈ lw_all := lw_g (lw_at lw_m5 25 rfl) rfl
theorem q1033 : (Jvm.Cond.instanceMethod ({ cls := "NettedPlansModel", name := "order", desc := "(III)I" } : Jvm.MethodName)) ∈ lw_all := lw_g (lw_at lw_m5 27 rfl) rfl
theorem q1034 : (Jvm.Cond.selects "NettedPlansModel" ({ cls := "NettedPlansModel", name := "order", desc := "(III)I" } : Jvm.MethodName) ({ cls := "NettedPlansModel", name := "order", desc := "(III)I" } : Jvm.MethodName)) ∈ lw_all := lw_g (lw_at lw_m5 28 rfl) rfl
theorem q1035 : (Jvm.Cond.code ({ cls := "NettedPlansModel", name := "order", desc := "(III)I" } : Jvm.MethodName) prog_15_method_18_code (4 : Nat) (Option.some Jvm.ClassFile.FieldType.int)) ∈ lw_all := lw_g (lw_at lw_m5 29 rfl) rfl
theorem q1037 : (Jvm.Cond.instanceMethod ({ cls := "NettedPlansModel", name := "change", desc := "(III)I" } : Jvm.MethodName)) ∈ lw_all := lw_g (lw_at lw_m5 31 rfl) rfl
theorem q1038 : (Jvm.Cond.selects "NettedPlansModel" ({ cls := "NettedPlansModel", name := "change", desc := "(III)I" } : Jvm.MethodName) ({ cls := "NettedPlansModel", name := "change", desc := "(III)I" } : Jvm.MethodName)) ∈ lw_all := lw_g (lw_at lw_m5 32 rfl) rfl
theorem q1039 : (Jvm.Cond.code ({ cls := "NettedPlansModel", name := "change", desc := "(III)I" } : Jvm.MethodName) prog_15_method_19_code (7 : Nat) (Option.some Jvm.ClassFile.FieldType.int)) ∈ lw_all := lw_g (lw_at lw_m5 33 rfl) rfl
theorem q1041 : (Jvm.Cond.instanceMethod ({ cls := "NettedPlansModel", name := "replan", desc := "()I" } : Jvm.MethodName)) ∈ lw_all := lw_g (lw_at lw_m5 35 rfl) rfl
theorem q1042 : (Jvm.Cond.selects "NettedPlansModel" ({ cls := "NettedPlansModel", name := "replan", desc := "()I" } : Jvm.MethodName) ({ cls := "NettedPlansModel", name := "replan", desc := "()I" } : Jvm.MethodName)) ∈ lw_all := lw_g (lw_at lw_m5 36 rfl) rfl
theorem q1043 : (Jvm.Cond.code ({ cls := "NettedPlansModel", name := "replan", desc := "()I" } : Jvm.MethodName) prog_15_method_33_code (4 : Nat) (Option.some Jvm.ClassFile.FieldType.int)) ∈ lw_all := lw_g (lw_at lw_m5 37 rfl) rfl
theorem q1044 : (Jvm.Cond.methodLink "NettedPlansModel" (176 : Nat) ({ cls := "NettedPlansModel", name := "net", desc := "(I)Z" } : Jvm.MethodName)) ∈ lw_all := lw_g (lw_at lw_m5 38 rfl) rfl
theorem q1045 : (Jvm.Cond.privateMethod ({ cls := "NettedPlansModel", name := "net", desc := "(I)Z" } : Jvm.MethodName)) ∈ lw_tbl := lw_at lw_m5 39 rfl
theorem q1046 : (Jvm.Cond.instanceMethod ({ cls := "NettedPlansModel", name := "net", desc := "(I)Z" } : Jvm.MethodName)) ∈ lw_all := lw_g (lw_at lw_m5 40 rfl) rfl
theorem q1047 : (Jvm.Cond.code ({ cls := "NettedPlansModel", name := "net", desc := "(I)Z" } : Jvm.MethodName) prog_15_method_32_code (4 : Nat) (Option.some Jvm.ClassFile.FieldType.boolean)) ∈ lw_all := lw_g (lw_at lw_m5 41 rfl) rfl
theorem q1048 : (Jvm.Cond.methodLink "NettedPlansModel" (170 : Nat) ({ cls := "NettedPlansModel", name := "grossOf", desc := "(II)J" } : Jvm.MethodName)) ∈ lw_all := lw_g (lw_at lw_m5 42 rfl) rfl
theorem q1049 : (Jvm.Cond.privateMethod ({ cls := "NettedPlansModel", name := "grossOf", desc := "(II)J" } : Jvm.MethodName)) ∈ lw_tbl := lw_at lw_m5 43 rfl
theorem q1050 : (Jvm.Cond.instanceMethod ({ cls := "NettedPlansModel", name := "grossOf", desc := "(II)J" } : Jvm.MethodName)) ∈ lw_all := lw_g (lw_at lw_m5 44 rfl) rfl
theorem q1051 : (Jvm.Cond.code ({ cls := "NettedPlansModel", name := "grossOf", desc := "(II)J" } : Jvm.MethodName) prog_15_method_24_code (6 : Nat) (Option.some Jvm.ClassFile.FieldType.long)) ∈ lw_all := lw_g (lw_at lw_m5 45 rfl) rfl
theorem q1052 : (Jvm.Cond.methodLink "NettedPlansModel" (127 : Nat) ({ cls := "NettedPlansModel", name := "sumOf", desc := "(III)J" } : Jvm.MethodName)) ∈ lw_all := lw_g (lw_at lw_m5 46 rfl) rfl
theorem q1053 : (Jvm.Cond.privateMethod ({ cls := "NettedPlansModel", name := "sumOf", desc := "(III)J" } : Jvm.MethodName)) ∈ lw_tbl := lw_at lw_m5 47 rfl
theorem q1054 : (Jvm.Cond.instanceMethod ({ cls := "NettedPlansModel", name := "sumOf", desc := "(III)J" } : Jvm.MethodName)) ∈ lw_all := lw_g (lw_at lw_m5 48 rfl) rfl
theorem q1055 : (Jvm.Cond.code ({ cls := "NettedPlansModel", name := "sumOf", desc := "(III)J" } : Jvm.MethodName) prog_15_method_20_code (7 : Nat) (Option.some Jvm.ClassFile.FieldType.long)) ∈ lw_all := lw_g (lw_at lw_m5 49 rfl) rfl
theorem q1056 : (Jvm.Cond.methodLink "NettedPlansModel" (139 : Nat) ({ cls := "NettedPlansModel", name := "asks", desc := "(II)J" } : Jvm.MethodName)) ∈ lw_all := lw_g (lw_at lw_m5 50 rfl) rfl
theorem q1057 : (Jvm.Cond.privateMethod ({ cls := "NettedPlansModel", name := "asks", desc := "(II)J" } : Jvm.MethodName)) ∈ lw_tbl := lw_at lw_m5 51 rfl
theorem q1058 : (Jvm.Cond.instanceMethod ({ cls := "NettedPlansModel", name := "asks", desc := "(II)J" } : Jvm.MethodName)) ∈ lw_all := lw_g (lw_at lw_m5 52 rfl) rfl
theorem q1059 : (Jvm.Cond.code ({ cls := "NettedPlansModel", name := "asks", desc := "(II)J" } : Jvm.MethodName) prog_15_method_23_code (8 : Nat) (Option.some Jvm.ClassFile.FieldType.long)) ∈ lw_all := lw_g (lw_at lw_m5 53 rfl) rfl
theorem q1060 : (Jvm.Cond.constantLong "NettedPlansModel" (135 : Nat) (1000 : Int64)) ∈ lw_all := lw_g (lw_at lw_m5 54 rfl) rfl
theorem q1061 : (Jvm.Cond.constantLong "NettedPlansModel" (137 : Nat) (999 : Int64)) ∈ lw_all := lw_g (lw_at lw_m5 55 rfl) rfl
theorem q1062 : (Jvm.Cond.methodLink "NettedPlansModel" (173 : Nat) ({ cls := "NettedPlansModel", name := "plan", desc := "(I)V" } : Jvm.MethodName)) ∈ lw_all := lw_g (lw_at lw_m5 56 rfl) rfl
theorem q1063 : (Jvm.Cond.privateMethod ({ cls := "NettedPlansModel", name := "plan", desc := "(I)V" } : Jvm.MethodName)) ∈ lw_tbl := lw_at lw_m5 57 rfl
theorem q1064 : (Jvm.Cond.instanceMethod ({ cls := "NettedPlansModel", name := "plan", desc := "(I)V" } : Jvm.MethodName)) ∈ lw_all := lw_g (lw_at lw_m5 58 rfl) rfl
theorem q1065 : (Jvm.Cond.code ({ cls := "NettedPlansModel", name := "plan", desc := "(I)V" } : Jvm.MethodName) prog_15_method_31_code (7 : Nat) (Option.none : Option Jvm.ClassFile.FieldType)) ∈ lw_all := lw_g (lw_at lw_m5 59 rfl) rfl
theorem q1066 : (Jvm.Cond.methodLink "NettedPlansModel" (157 : Nat) ({ cls := "NettedPlansModel", name := "findNeeds", desc := "(I)V" } : Jvm.MethodName)) ∈ lw_all := lw_g (lw_at lw_m5 60 rfl) rfl
theorem q1067 : (Jvm.Cond.privateMethod ({ cls := "NettedPlansModel", name := "findNeeds", desc := "(I)V" } : Jvm.MethodName)) ∈ lw_tbl := lw_at lw_m5 61 rfl
theorem q1068 : (Jvm.Cond.instanceMethod ({ cls := "NettedPlansModel", name := "findNeeds", desc := "(I)V" } : Jvm.MethodName)) ∈ lw_all := lw_g (lw_at lw_m5 62 rfl) rfl
theorem q1069 : (Jvm.Cond.code ({ cls := "NettedPlansModel", name := "findNeeds", desc := "(I)V" } : Jvm.MethodName) prog_15_method_25_code (8 : Nat) (Option.none : Option Jvm.ClassFile.FieldType)) ∈ lw_all := lw_g (lw_at lw_m5 63 rfl) rfl
theorem q1070 : (Jvm.Cond.methodLink "NettedPlansModel" (143 : Nat) ({ cls := "NettedPlansModel", name := "bare", desc := "(II)J" } : Jvm.MethodName)) ∈ lw_all := lw_g (lw_at lw_m5 64 rfl) rfl
theorem q1071 : (Jvm.Cond.privateMethod ({ cls := "NettedPlansModel", name := "bare", desc := "(II)J" } : Jvm.MethodName)) ∈ lw_tbl := lw_at lw_m5 65 rfl
theorem q1072 : (Jvm.Cond.instanceMethod ({ cls := "NettedPlansModel", name := "bare", desc := "(II)J" } : Jvm.MethodName)) ∈ lw_all := lw_g (lw_at lw_m5 66 rfl) rfl
theorem q1073 : (Jvm.Cond.code ({ cls := "NettedPlansModel", name := "bare", desc := "(II)J" } : Jvm.MethodName) prog_15_method_22_code (3 : Nat) (Option.some Jvm.ClassFile.FieldType.long)) ∈ lw_all := lw_g (lw_at lw_m5 67 rfl) rfl
theorem q1074 : (Jvm.Cond.methodLink "NettedPlansModel" (131 : Nat) ({ cls := "NettedPlansModel", name := "upTo", desc := "([JII)J" } : Jvm.MethodName)) ∈ lw_all := lw_g (lw_at lw_m5 68 rfl) rfl
theorem q1075 : (Jvm.Cond.static ({ cls := "NettedPlansModel", name := "upTo", desc := "([JII)J" } : Jvm.MethodName)) ∈ lw_all := lw_g (lw_at lw_m5 69 rfl) rfl
theorem q1076 : (Jvm.Cond.code ({ cls := "NettedPlansModel", name := "upTo", desc := "([JII)J" } : Jvm.MethodName) prog_15_method_21_code (6 : Nat) (Option.some Jvm.ClassFile.FieldType.long)) ∈ lw_all := lw_g (lw_at lw_m5 70 rfl) rfl
theorem q1077 : (Jvm.Cond.methodLink "NettedPlansModel" (160 : Nat) ({ cls := "NettedPlansModel", name := "findBest", desc := "(I)V" } : Jvm.MethodName)) ∈ lw_all := lw_g (lw_at lw_m5 71 rfl) rfl
theorem q1078 : (Jvm.Cond.privateMethod ({ cls := "NettedPlansModel", name := "findBest", desc := "(I)V" } : Jvm.MethodName)) ∈ lw_tbl := lw_at lw_m5 72 rfl
theorem q1079 : (Jvm.Cond.instanceMethod ({ cls := "NettedPlansModel", name := "findBest", desc := "(I)V" } : Jvm.MethodName)) ∈ lw_all := lw_g (lw_at lw_m5 73 rfl) rfl
theorem q1080 : (Jvm.Cond.code ({ cls := "NettedPlansModel", name := "findBest", desc := "(I)V" } : Jvm.MethodName) prog_15_method_29_code (4 : Nat) (Option.none : Option Jvm.ClassFile.FieldType)) ∈ lw_all := lw_g (lw_at lw_m5 74 rfl) rfl
theorem q1081 : (Jvm.Cond.methodLink "NettedPlansModel" (153 : Nat) ({ cls := "NettedPlansModel", name := "lastOf", desc := "(II)I" } : Jvm.MethodName)) ∈ lw_all := lw_g (lw_at lw_m5 75 rfl) rfl
theorem q1082 : (Jvm.Cond.privateMethod ({ cls := "NettedPlansModel", name := "lastOf", desc := "(II)I" } : Jvm.MethodName)) ∈ lw_tbl := lw_at lw_m5 76 rfl
theorem q1083 : (Jvm.Cond.instanceMethod ({ cls := "NettedPlansModel", name := "lastOf", desc := "(II)I" } : Jvm.MethodName)) ∈ lw_all := lw_g (lw_at lw_m5 77 rfl) rfl
theorem q1084 : (Jvm.Cond.code ({ cls := "NettedPlansModel", name := "lastOf", desc := "(II)I" } : Jvm.MethodName) prog_15_method_28_code (5 : Nat) (Option.some Jvm.ClassFile.FieldType.int)) ∈ lw_all := lw_g (lw_at lw_m5 78 rfl) rfl
theorem q1085 : (Jvm.Cond.methodLink "NettedPlansModel" (150 : Nat) ({ cls := "NettedPlansModel", name := "cost", desc := "(III)J" } : Jvm.MethodName)) ∈ lw_all := lw_g (lw_at lw_m5 79 rfl) rfl
theorem q1086 : (Jvm.Cond.privateMethod ({ cls := "NettedPlansModel", name := "cost", desc := "(III)J" } : Jvm.MethodName)) ∈ lw_tbl := lw_at lw_m5 80 rfl
theorem q1087 : (Jvm.Cond.instanceMethod ({ cls := "NettedPlansModel", name := "cost", desc := "(III)J" } : Jvm.MethodName)) ∈ lw_all := lw_g (lw_at lw_m5 81 rfl) rfl
theorem q1088 : (Jvm.Cond.code ({ cls := "NettedPlansModel", name := "cost", desc := "(III)J" } : Jvm.MethodName) prog_15_method_27_code (7 : Nat) (Option.some Jvm.ClassFile.FieldType.long)) ∈ lw_all := lw_g (lw_at lw_m5 82 rfl) rfl
theorem q1089 : (Jvm.Cond.methodLink "NettedPlansModel" (146 : Nat) ({ cls := "NettedPlansModel", name := "needOf", desc := "(I)J" } : Jvm.MethodName)) ∈ lw_all := lw_g (lw_at lw_m5 83 rfl) rfl
theorem q1090 : (Jvm.Cond.privateMethod ({ cls := "NettedPlansModel", name := "needOf", desc := "(I)J" } : Jvm.MethodName)) ∈ lw_tbl := lw_at lw_m5 84 rfl
theorem q1091 : (Jvm.Cond.instanceMethod ({ cls := "NettedPlansModel", name := "needOf", desc := "(I)J" } : Jvm.MethodName)) ∈ lw_all := lw_g (lw_at lw_m5 85 rfl) rfl
theorem q1092 : (Jvm.Cond.code ({ cls := "NettedPlansModel", name := "needOf", desc := "(I)J" } : Jvm.MethodName) prog_15_method_26_code (2 : Nat) (Option.some Jvm.ClassFile.FieldType.long)) ∈ lw_all := lw_g (lw_at lw_m5 86 rfl) rfl
theorem q1093 : (Jvm.Cond.methodLink "NettedPlansModel" (163 : Nat) ({ cls := "NettedPlansModel", name := "lot", desc := "(IIJ)J" } : Jvm.MethodName)) ∈ lw_all := lw_g (lw_at lw_m5 87 rfl) rfl
theorem q1094 : (Jvm.Cond.privateMethod ({ cls := "NettedPlansModel", name := "lot", desc := "(IIJ)J" } : Jvm.MethodName)) ∈ lw_tbl := lw_at lw_m5 88 rfl
theorem q1095 : (Jvm.Cond.instanceMethod ({ cls := "NettedPlansModel", name := "lot", desc := "(IIJ)J" } : Jvm.MethodName)) ∈ lw_all := lw_g (lw_at lw_m5 89 rfl) rfl
theorem q1096 : (Jvm.Cond.code ({ cls := "NettedPlansModel", name := "lot", desc := "(IIJ)J" } : Jvm.MethodName) prog_15_method_30_code (7 : Nat) (Option.some Jvm.ClassFile.FieldType.long)) ∈ lw_all := lw_g (lw_at lw_m5 90 rfl) rfl
theorem q1098 : (Jvm.Cond.instanceMethod ({ cls := "NettedPlansModel", name := "level", desc := "(I)I" } : Jvm.MethodName)) ∈ lw_all := lw_g (lw_at lw_m5 92 rfl) rfl
theorem q1099 : (Jvm.Cond.selects "NettedPlansModel" ({ cls := "NettedPlansModel", name := "level", desc := "(I)I" } : Jvm.MethodName) ({ cls := "NettedPlansModel", name := "level", desc := "(I)I" } : Jvm.MethodName)) ∈ lw_all := lw_g (lw_at lw_m5 93 rfl) rfl
theorem q1100 : (Jvm.Cond.code ({ cls := "NettedPlansModel", name := "level", desc := "(I)I" } : Jvm.MethodName) prog_15_method_34_code (2 : Nat) (Option.some Jvm.ClassFile.FieldType.int)) ∈ lw_all := lw_g (lw_at lw_m5 94 rfl) rfl
theorem q1102 : (Jvm.Cond.instanceMethod ({ cls := "NettedPlansModel", name := "gross", desc := "(II)J" } : Jvm.MethodName)) ∈ lw_all := lw_g (lw_at lw_m5 96 rfl) rfl
theorem q1103 : (Jvm.Cond.selects "NettedPlansModel" ({ cls := "NettedPlansModel", name := "gross", desc := "(II)J" } : Jvm.MethodName) ({ cls := "NettedPlansModel", name := "gross", desc := "(II)J" } : Jvm.MethodName)) ∈ lw_all := lw_g (lw_at lw_m5 97 rfl) rfl
theorem q1104 : (Jvm.Cond.code ({ cls := "NettedPlansModel", name := "gross", desc := "(II)J" } : Jvm.MethodName) prog_15_method_36_code (3 : Nat) (Option.some Jvm.ClassFile.FieldType.long)) ∈ lw_all := lw_g (lw_at lw_m5 98 rfl) rfl
theorem q1105 : (Jvm.Cond.methodLink "NettedPlansModel" (179 : Nat) ({ cls := "NettedPlansModel", name := "isWrong", desc := "(II)Z" } : Jvm.MethodName)) ∈ lw_all := lw_g (lw_at lw_m5 99 rfl) rfl
theorem q1106 : (Jvm.Cond.privateMethod ({ cls := "NettedPlansModel", name := "isWrong", desc := "(II)Z" } : Jvm.MethodName)) ∈ lw_tbl := lw_at lw_m5 100 rfl
theorem q1107 : (Jvm.Cond.instanceMethod ({ cls := "NettedPlansModel", name := "isWrong", desc := "(II)Z" } : Jvm.MethodName)) ∈ lw_all := lw_g (lw_at lw_m5 101 rfl) rfl
theorem q1108 : (Jvm.Cond.code ({ cls := "NettedPlansModel", name := "isWrong", desc := "(II)Z" } : Jvm.MethodName) prog_15_method_35_code (3 : Nat) (Option.some Jvm.ClassFile.FieldType.boolean)) ∈ lw_all := lw_g (lw_at lw_m5 102 rfl) rfl
theorem q1110 : (Jvm.Cond.instanceMethod ({ cls := "NettedPlansModel", name := "planned", desc := "(II)J" } : Jvm.MethodName)) ∈ lw_all := lw_g (lw_at lw_m5 104 rfl) rfl
theorem q1111 : (Jvm.Cond.selects "NettedPlansModel" ({ cls := "NettedPlansModel", name := "planned", desc := "(II)J" } : Jvm.MethodName) ({ cls := "NettedPlansModel", name := "planned", desc := "(II)J" } : Jvm.MethodName)) ∈ lw_all := lw_g (lw_at lw_m5 105 rfl) rfl
theorem q1112 : (Jvm.Cond.code ({ cls := "NettedPlansModel", name := "planned", desc := "(II)J" } : Jvm.MethodName) prog_15_method_37_code (3 : Nat) (Option.some Jvm.ClassFile.FieldType.long)) ∈ lw_all := lw_g (lw_at lw_m5 106 rfl) rfl
theorem q1114 : (Jvm.Cond.instanceMethod ({ cls := "NettedPlansModel", name := "balance", desc := "(II)J" } : Jvm.MethodName)) ∈ lw_all := lw_g (lw_at lw_m5 108 rfl) rfl
theorem q1115 : (Jvm.Cond.selects "NettedPlansModel" ({ cls := "NettedPlansModel", name := "balance", desc := "(II)J" } : Jvm.MethodName) ({ cls := "NettedPlansModel", name := "balance", desc := "(II)J" } : Jvm.MethodName)) ∈ lw_all := lw_g (lw_at lw_m5 109 rfl) rfl
theorem q1116 : (Jvm.Cond.code ({ cls := "NettedPlansModel", name := "balance", desc := "(II)J" } : Jvm.MethodName) prog_15_method_38_code (3 : Nat) (Option.some Jvm.ClassFile.FieldType.long)) ∈ lw_all := lw_g (lw_at lw_m5 110 rfl) rfl
theorem q1118 : (Jvm.Cond.instanceMethod ({ cls := "NettedPlansModel", name := "peg", desc := "(III)J" } : Jvm.MethodName)) ∈ lw_all := lw_g (lw_at lw_m5 112 rfl) rfl
theorem q1119 : (Jvm.Cond.selects "NettedPlansModel" ({ cls := "NettedPlansModel", name := "peg", desc := "(III)J" } : Jvm.MethodName) ({ cls := "NettedPlansModel", name := "peg", desc := "(III)J" } : Jvm.MethodName)) ∈ lw_all := lw_g (lw_at lw_m5 113 rfl) rfl
theorem q1120 : (Jvm.Cond.code ({ cls := "NettedPlansModel", name := "peg", desc := "(III)J" } : Jvm.MethodName) prog_15_method_40_code (19 : Nat) (Option.some Jvm.ClassFile.FieldType.long)) ∈ lw_all := lw_g (lw_at lw_m5 114 rfl) rfl
theorem q1121 : (Jvm.Cond.methodLink "NettedPlansModel" (183 : Nat) ({ cls := "NettedPlansModel", name := "supplied", desc := "(III)J" } : Jvm.MethodName)) ∈ lw_all := lw_g (lw_at lw_m5 115 rfl) rfl
theorem q1122 : (Jvm.Cond.privateMethod ({ cls := "NettedPlansModel", name := "supplied", desc := "(III)J" } : Jvm.MethodName)) ∈ lw_tbl := lw_at lw_m5 116 rfl
theorem q1123 : (Jvm.Cond.instanceMethod ({ cls := "NettedPlansModel", name := "supplied", desc := "(III)J" } : Jvm.MethodName)) ∈ lw_all := lw_g (lw_at lw_m5 117 rfl) rfl
theorem q1124 : (Jvm.Cond.code ({ cls := "NettedPlansModel", name := "supplied", desc := "(III)J" } : Jvm.MethodName) prog_15_method_39_code (9 : Nat) (Option.some Jvm.ClassFile.FieldType.long)) ∈ lw_all := lw_g (lw_at lw_m5 118 rfl) rfl
theorem q1126 : (Jvm.Cond.instanceMethod ({ cls := "NettedPlansModel", name := "promise", desc := "(III)I" } : Jvm.MethodName)) ∈ lw_all := lw_g (lw_at lw_m5 120 rfl) rfl
theorem q1127 : (Jvm.Cond.selects "NettedPlansModel" ({ cls := "NettedPlansModel", name := "promise", desc := "(III)I" } : Jvm.MethodName) ({ cls := "NettedPlansModel", name := "promise", desc := "(III)I" } : Jvm.MethodName)) ∈ lw_all := lw_g (lw_at lw_m5 121 rfl) rfl
theorem q1128 : (Jvm.Cond.code ({ cls := "NettedPlansModel", name := "promise", desc := "(III)I" } : Jvm.MethodName) prog_15_method_42_code (5 : Nat) (Option.some Jvm.ClassFile.FieldType.int)) ∈ lw_all := lw_g (lw_at lw_m5 122 rfl) rfl
theorem q1129 : (Jvm.Cond.methodLink "NettedPlansModel" (186 : Nat) ({ cls := "NettedPlansModel", name := "isTrue", desc := "(III)Z" } : Jvm.MethodName)) ∈ lw_all := lw_g (lw_at lw_m5 123 rfl) rfl
theorem q1130 : (Jvm.Cond.privateMethod ({ cls := "NettedPlansModel", name := "isTrue", desc := "(III)Z" } : Jvm.MethodName)) ∈ lw_tbl := lw_at lw_m5 124 rfl
theorem q1131 : (Jvm.Cond.instanceMethod ({ cls := "NettedPlansModel", name := "isTrue", desc := "(III)Z" } : Jvm.MethodName)) ∈ lw_all := lw_g (lw_at lw_m5 125 rfl) rfl
theorem q1132 : (Jvm.Cond.code ({ cls := "NettedPlansModel", name := "isTrue", desc := "(III)Z" } : Jvm.MethodName) prog_15_method_41_code (6 : Nat) (Option.some Jvm.ClassFile.FieldType.boolean)) ∈ lw_all := lw_g (lw_at lw_m5 126 rfl) rfl
theorem q1134 : (Jvm.Cond.instanceMethod ({ cls := "NettedPlansModel", name := "reserve", desc := "(III)I" } : Jvm.MethodName)) ∈ lw_all := lw_g (lw_at lw_m5 128 rfl) rfl
theorem q1135 : (Jvm.Cond.selects "NettedPlansModel" ({ cls := "NettedPlansModel", name := "reserve", desc := "(III)I" } : Jvm.MethodName) ({ cls := "NettedPlansModel", name := "reserve", desc := "(III)I" } : Jvm.MethodName)) ∈ lw_all := lw_g (lw_at lw_m5 129 rfl) rfl
theorem q1136 : (Jvm.Cond.code ({ cls := "NettedPlansModel", name := "reserve", desc := "(III)I" } : Jvm.MethodName) prog_15_method_43_code (5 : Nat) (Option.some Jvm.ClassFile.FieldType.int)) ∈ lw_all := lw_g (lw_at lw_m5 130 rfl) rfl
theorem q1138 : (Jvm.Cond.instanceMethod ({ cls := "NettedPlansModel", name := "giveBack", desc := "(I)I" } : Jvm.MethodName)) ∈ lw_all := lw_g (lw_at lw_m5 132 rfl) rfl
theorem q1139 : (Jvm.Cond.selects "NettedPlansModel" ({ cls := "NettedPlansModel", name := "giveBack", desc := "(I)I" } : Jvm.MethodName) ({ cls := "NettedPlansModel", name := "giveBack", desc := "(I)I" } : Jvm.MethodName)) ∈ lw_all := lw_g (lw_at lw_m5 133 rfl) rfl
theorem q1140 : (Jvm.Cond.code ({ cls := "NettedPlansModel", name := "giveBack", desc := "(I)I" } : Jvm.MethodName) prog_15_method_44_code (3 : Nat) (Option.some Jvm.ClassFile.FieldType.int)) ∈ lw_all := lw_g (lw_at lw_m5 134 rfl) rfl
theorem q1142 : (Jvm.Cond.instanceMethod ({ cls := "NettedPlansModel", name := "load", desc := "(II)J" } : Jvm.MethodName)) ∈ lw_all := lw_g (lw_at lw_m5 136 rfl) rfl
theorem q1143 : (Jvm.Cond.selects "NettedPlansModel" ({ cls := "NettedPlansModel", name := "load", desc := "(II)J" } : Jvm.MethodName) ({ cls := "NettedPlansModel", name := "load", desc := "(II)J" } : Jvm.MethodName)) ∈ lw_all := lw_g (lw_at lw_m5 137 rfl) rfl
theorem q1144 : (Jvm.Cond.code ({ cls := "NettedPlansModel", name := "load", desc := "(II)J" } : Jvm.MethodName) prog_15_method_45_code (7 : Nat) (Option.some Jvm.ClassFile.FieldType.long)) ∈ lw_all := lw_g (lw_at lw_m5 138 rfl) rfl
theorem q1146 : (Jvm.Cond.instanceMethod ({ cls := "NettedPlansModel", name := "count", desc := "(I)I" } : Jvm.MethodName)) ∈ lw_all := lw_g (lw_at lw_m5 140 rfl) rfl
theorem q1147 : (Jvm.Cond.selects "NettedPlansModel" ({ cls := "NettedPlansModel", name := "count", desc := "(I)I" } : Jvm.MethodName) ({ cls := "NettedPlansModel", name := "count", desc := "(I)I" } : Jvm.MethodName)) ∈ lw_all := lw_g (lw_at lw_m5 141 rfl) rfl
theorem q1148 : (Jvm.Cond.code ({ cls := "NettedPlansModel", name := "count", desc := "(I)I" } : Jvm.MethodName) prog_15_method_47_code (2 : Nat) (Option.some Jvm.ClassFile.FieldType.int)) ∈ lw_all := lw_g (lw_at lw_m5 142 rfl) rfl
theorem q1149 : (Jvm.Cond.methodLink "NettedPlansModel" (189 : Nat) ({ cls := "NettedPlansModel", name := "shortItems", desc := "()I" } : Jvm.MethodName)) ∈ lw_all := lw_g (lw_at lw_m5 143 rfl) rfl
theorem q1150 : (Jvm.Cond.privateMethod ({ cls := "NettedPlansModel", name := "shortItems", desc := "()I" } : Jvm.MethodName)) ∈ lw_tbl := lw_at lw_m5 144 rfl
theorem q1151 : (Jvm.Cond.instanceMethod ({ cls := "NettedPlansModel", name := "shortItems", desc := "()I" } : Jvm.MethodName)) ∈ lw_all := lw_g (lw_at lw_m5 145 rfl) rfl
theorem q1152 : (Jvm.Cond.code ({ cls := "NettedPlansModel", name := "shortItems", desc := "()I" } : Jvm.MethodName) prog_15_method_46_code (5 : Nat) (Option.some Jvm.ClassFile.FieldType.int)) ∈ lw_all := lw_g (lw_at lw_m5 146 rfl) rfl
theorem q1172 : (Jvm.Cond.castable "NettedPlansModel" "java/lang/Object") ∈ lw_tbl := lw_at lw_m5 166 rfl
theorem in_X11 : ∀ w ∈ wsX110, w ∈ lw_all := lw_in wsX110 [913, 915, 917, 919, 921, 923, 925, 927, 929, 931, 933, 935, 937, 939, 941, 943, 945, 947, 949, 951, 953, 955, 957, 959, 961, 963, 965] (by decide +kernel) (by decide +kernel)
