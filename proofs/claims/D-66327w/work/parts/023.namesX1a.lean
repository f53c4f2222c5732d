/-! NettedPlans -/
set_option maxRecDepth 100000
def RX1 : String := "NettedPlans"
def TX1 : u_T := fun k => match k with
  | 0 => ("NettedPlans", "items", "[LNettedPlans$Item;", true)
  | 1 => ("NettedPlans", "lines", "Ljava/util/ArrayList;", true)
  | 2 => ("NettedPlans", "demands", "LNettedPlans$Book;", true)
  | 3 => ("NettedPlans", "orders", "LNettedPlans$Book;", true)
  | 4 => ("NettedPlans", "reservations", "LNettedPlans$Book;", true)
  | 5 => ("NettedPlans", "rules", "[LNettedPlans$LotRule;", true)
  | 6 => ("NettedPlans", "queue", "LNettedPlans$Waits;", true)
  | 7 => ("NettedPlans", "turns", "[LNettedPlans$Turn;", true)
  | 8 => ("NettedPlans", "isTold", "Z", false)
  | _ => ("NettedPlans", "levels", "[I", true)
def tyX1 : Nat → FieldType := fun k => match k with
  | 0 => .array (.object "NettedPlans$Item")
  | 1 => .object "java/util/ArrayList"
  | 2 => .object "NettedPlans$Book"
  | 3 => .object "NettedPlans$Book"
  | 4 => .object "NettedPlans$Book"
  | 5 => .array (.object "NettedPlans$LotRule")
  | 6 => .object "NettedPlans$Waits"
  | 7 => .array (.object "NettedPlans$Turn")
  | 8 => .boolean
  | _ => .array .int
abbrev wsX10 : List Cond := u_ws RX1 TX1 10
theorem nmX1 : ∀ a, a < 10 → ∀ b, b < 10 → a ≠ b → (TX1 a).2.1 ≠ (TX1 b).2.1 := by decide +kernel
theorem tyX1_ok : ∀ k, k < 10 → parseFieldDescriptor (TX1 k).2.2.1 = some (tyX1 k) := by decide +kernel
abbrev cX1_init : ByteArray := prog_1_method_1_code
def yX1_init : MethodName := ⟨RX1, "<init>", "()V"⟩
abbrev cX1_replan : ByteArray := prog_1_method_27_code
def yX1_replan : MethodName := ⟨RX1, "replan", "()I"⟩
abbrev cX1_await : ByteArray := prog_1_method_24_code
def yX1_await : MethodName := ⟨RX1, "await", "(LNettedPlans$Item;)V"⟩
abbrev cX1_grows : ByteArray := prog_1_method_25_code
def yX1_grows : MethodName := ⟨RX1, "grows", "(LNettedPlans$Item;)Z"⟩
abbrev cX1_asks : ByteArray := prog_1_method_23_code
def yX1_asks : MethodName := ⟨RX1, "asks", "(LNettedPlans$Item;I)J"⟩
abbrev cX1_net : ByteArray := prog_1_method_26_code
def yX1_net : MethodName := ⟨RX1, "net", "(LNettedPlans$Item;)V"⟩
abbrev cX1_item : ByteArray := prog_1_method_9_code
def yX1_item : MethodName := ⟨RX1, "item", "(IIIII)V"⟩
abbrev cX1_of : ByteArray := prog_1_method_6_code
def yX1_of : MethodName := ⟨RX1, "of", "(I)LNettedPlans$Item;"⟩
abbrev cX1_isIn : ByteArray := prog_1_method_5_code
def yX1_isIn : MethodName := ⟨RX1, "isIn", "(III)Z"⟩
abbrev cX1_there : ByteArray := prog_1_method_2_code
def yX1_there : MethodName := ⟨RX1, "there", "(Z)V"⟩
abbrev cX1_argue : ByteArray := prog_1_method_3_code
def yX1_argue : MethodName := ⟨RX1, "argue", "(Z)V"⟩
abbrev cX1_tell : ByteArray := prog_1_method_8_code
def yX1_tell : MethodName := ⟨RX1, "tell", "(LNettedPlans$Item;)V"⟩
abbrev cX1_costs : ByteArray := prog_1_method_10_code
def yX1_costs : MethodName := ⟨RX1, "costs", "(IIII)V"⟩
abbrev cX1_made : ByteArray := prog_1_method_11_code
def yX1_made : MethodName := ⟨RX1, "made", "(III)V"⟩
abbrev cX1_line : ByteArray := prog_1_method_16_code
def yX1_line : MethodName := ⟨RX1, "line", "(IIIII)V"⟩
abbrev cX1_find : ByteArray := prog_1_method_12_code
def yX1_find : MethodName := ⟨RX1, "find", "(LNettedPlans$Item;LNettedPlans$Item;)I"⟩
abbrev cX1_levelled : ByteArray := prog_1_method_13_code
def yX1_levelled : MethodName := ⟨RX1, "levelled", "(LNettedPlans$Item;LNettedPlans$Item;)Z"⟩
abbrev cX1_raise : ByteArray := prog_1_method_14_code
def yX1_raise : MethodName := ⟨RX1, "raise", "(LNettedPlans$Item;LNettedPlans$Item;)Z"⟩
abbrev cX1_allow : ByteArray := prog_1_method_4_code
def yX1_allow : MethodName := ⟨RX1, "allow", "(Z)V"⟩
abbrev cX1_keepLevels : ByteArray := prog_1_method_15_code
def yX1_keepLevels : MethodName := ⟨RX1, "keepLevels", "()V"⟩
abbrev cX1_stock : ByteArray := prog_1_method_17_code
def yX1_stock : MethodName := ⟨RX1, "stock", "(II)I"⟩
abbrev cX1_demand : ByteArray := prog_1_method_19_code
def yX1_demand : MethodName := ⟨RX1, "demand", "(III)I"⟩
abbrev cX1_enter : ByteArray := prog_1_method_18_code
def yX1_enter : MethodName := ⟨RX1, "enter", "(LNettedPlans$Book;III)I"⟩
abbrev cX1_week : ByteArray := prog_1_method_7_code
def yX1_week : MethodName := ⟨RX1, "week", "(I)V"⟩
abbrev cX1_change : ByteArray := prog_1_method_22_code
def yX1_change : MethodName := ⟨RX1, "change", "(III)I"⟩
abbrev cX1_entry : ByteArray := prog_1_method_21_code
def yX1_entry : MethodName := ⟨RX1, "entry", "(LNettedPlans$Book;I)LNettedPlans$Entry;"⟩
abbrev cX1_order : ByteArray := prog_1_method_20_code
def yX1_order : MethodName := ⟨RX1, "order", "(III)I"⟩
abbrev cX1_level : ByteArray := prog_1_method_29_code
def yX1_level : MethodName := ⟨RX1, "level", "(I)I"⟩
abbrev cX1_gross : ByteArray := prog_1_method_30_code
def yX1_gross : MethodName := ⟨RX1, "gross", "(II)J"⟩
abbrev cX1_current : ByteArray := prog_1_method_28_code
def yX1_current : MethodName := ⟨RX1, "current", "(I)LNettedPlans$Item;"⟩
abbrev cX1_planned : ByteArray := prog_1_method_31_code
def yX1_planned : MethodName := ⟨RX1, "planned", "(II)J"⟩
abbrev cX1_balance : ByteArray := prog_1_method_32_code
def yX1_balance : MethodName := ⟨RX1, "balance", "(II)J"⟩
abbrev cX1_peg : ByteArray := prog_1_method_36_code
def yX1_peg : MethodName := ⟨RX1, "peg", "(III)J"⟩
abbrev cX1_claimedBefore : ByteArray := prog_1_method_34_code
def yX1_claimedBefore : MethodName := ⟨RX1, "claimedBefore", "(LNettedPlans$Item;I)J"⟩
abbrev cX1_overlap : ByteArray := prog_1_method_35_code
def yX1_overlap : MethodName := ⟨RX1, "overlap", "(JJJJ)J"⟩
abbrev cX1_suppliedBefore : ByteArray := prog_1_method_33_code
def yX1_suppliedBefore : MethodName := ⟨RX1, "suppliedBefore", "(LNettedPlans$Item;I)J"⟩
abbrev cX1_promise : ByteArray := prog_1_method_38_code
def yX1_promise : MethodName := ⟨RX1, "promise", "(III)I"⟩
abbrev cX1_isTrue : ByteArray := prog_1_method_37_code
def yX1_isTrue : MethodName := ⟨RX1, "isTrue", "(LNettedPlans$Item;II)Z"⟩
abbrev cX1_reserve : ByteArray := prog_1_method_39_code
def yX1_reserve : MethodName := ⟨RX1, "reserve", "(III)I"⟩
abbrev cX1_giveBack : ByteArray := prog_1_method_40_code
def yX1_giveBack : MethodName := ⟨RX1, "giveBack", "(I)I"⟩
abbrev cX1_load : ByteArray := prog_1_method_41_code
def yX1_load : MethodName := ⟨RX1, "load", "(II)J"⟩
abbrev cX1_count : ByteArray := prog_1_method_42_code
def yX1_count : MethodName := ⟨RX1, "count", "(I)I"⟩
theorem q47 : (Jvm.Cond.initialized "NettedPlans") ∈ lw_all := lw_g (lw_at lw_m1 1 rfl) rfl
theorem q77 : (Jvm.Cond.instantiable "NettedPlans" (10 : Nat)) ∈ lw_all := lw_g (lw_at lw_m1 31 rfl) rfl
theorem q79 : (Jvm.Cond.instanceMethod ({ cls := "NettedPlans", name := "<init>", desc := "()V" } : Jvm.MethodName)) ∈ lw_all := lw_g (lw_at lw_m1 33 rfl) rfl
theorem q80 : (Jvm.Cond.code ({ cls := "NettedPlans", name := "<init>", desc := "()V" } : Jvm.MethodName) prog_1_method_1_code (2 : Nat) (Option.none : Option Jvm.ClassFile.FieldType)) ∈ lw_all := lw_g (lw_at lw_m1 34 rfl) rfl
theorem q81 : (Jvm.Cond.methodLink "NettedPlans" (1 : Nat) ({ cls := "java/lang/Object", name := "<init>", desc := "()V" } : Jvm.MethodName)) ∈ lw_all := lw_g (lw_at lw_m1 35 rfl) rfl
theorem q84 : (Jvm.Cond.classLink "NettedPlans" (7 : Nat) "NettedPlans$Item") ∈ lw_all := lw_g (lw_at lw_m1 38 rfl) rfl
theorem q86 : (Jvm.Cond.classLink "NettedPlans" (15 : Nat) "java/util/ArrayList") ∈ lw_all := lw_g (lw_at lw_m1 40 rfl) rfl
theorem q88 : (Jvm.Cond.methodLink "NettedPlans" (17 : Nat) ({ cls := "java/util/ArrayList", name := "<init>", desc := "()V" } : Jvm.MethodName)) ∈ lw_all := lw_g (lw_at lw_m1 42 rfl) rfl
theorem q112 : (Jvm.Cond.classLink "NettedPlans" (22 : Nat) "NettedPlans$Book") ∈ lw_all := lw_g (lw_at lw_m1 66 rfl) rfl
theorem q114 : (Jvm.Cond.methodLinkNest "NettedPlans" (24 : Nat) ({ cls := "NettedPlans$Book", name := "<init>", desc := "()V" } : Jvm.MethodName) "NettedPlans") ∈ lw_tbl := lw_at lw_m1 68 rfl
theorem q121 : (Jvm.Cond.fieldLinkNest "NettedPlans" (210 : Nat) "NettedPlans$Book" "list" "Ljava/util/ArrayList;" "NettedPlans") ∈ lw_tbl := lw_at lw_m1 75 rfl
theorem q125 : (Jvm.Cond.classLink "NettedPlans" (35 : Nat) "NettedPlans$LotRule") ∈ lw_all := lw_g (lw_at lw_m1 79 rfl) rfl
theorem q127 : (Jvm.Cond.classLink "NettedPlans" (37 : Nat) "NettedPlans$AsNeeded") ∈ lw_all := lw_g (lw_at lw_m1 81 rfl) rfl
theorem q129 : (Jvm.Cond.methodLinkNest "NettedPlans" (39 : Nat) ({ cls := "NettedPlans$AsNeeded", name := "<init>", desc := "()V" } : Jvm.MethodName) "NettedPlans") ∈ lw_tbl := lw_at lw_m1 83 rfl
theorem q137 : (Jvm.Cond.classLink "NettedPlans" (40 : Nat) "NettedPlans$Multiples") ∈ lw_all := lw_g (lw_at lw_m1 91 rfl) rfl
theorem q139 : (Jvm.Cond.methodLinkNest "NettedPlans" (42 : Nat) ({ cls := "NettedPlans$Multiples", name := "<init>", desc := "()V" } : Jvm.MethodName) "NettedPlans") ∈ lw_tbl := lw_at lw_m1 93 rfl
theorem q144 : (Jvm.Cond.classLink "NettedPlans" (43 : Nat) "NettedPlans$Cover") ∈ lw_all := lw_g (lw_at lw_m1 98 rfl) rfl
theorem q146 : (Jvm.Cond.methodLinkNest "NettedPlans" (45 : Nat) ({ cls := "NettedPlans$Cover", name := "<init>", desc := "()V" } : Jvm.MethodName) "NettedPlans") ∈ lw_tbl := lw_at lw_m1 100 rfl
theorem q151 : (Jvm.Cond.classLink "NettedPlans" (46 : Nat) "NettedPlans$LeastCost") ∈ lw_all := lw_g (lw_at lw_m1 105 rfl) rfl
theorem q153 : (Jvm.Cond.methodLinkNest "NettedPlans" (48 : Nat) ({ cls := "NettedPlans$LeastCost", name := "<init>", desc := "()V" } : Jvm.MethodName) "NettedPlans") ∈ lw_tbl := lw_at lw_m1 107 rfl
theorem q166 : (Jvm.Cond.classLink "NettedPlans" (53 : Nat) "NettedPlans$Waits") ∈ lw_all := lw_g (lw_at lw_m1 120 rfl) rfl
theorem q168 : (Jvm.Cond.methodLinkNest "NettedPlans" (55 : Nat) ({ cls := "NettedPlans$Waits", name := "<init>", desc := "()V" } : Jvm.MethodName) "NettedPlans") ∈ lw_tbl := lw_at lw_m1 122 rfl
theorem q178 : (Jvm.Cond.classLink "NettedPlans" (60 : Nat) "NettedPlans$Turn") ∈ lw_all := lw_g (lw_at lw_m1 132 rfl) rfl
theorem q181 : (Jvm.Cond.methodLink "NettedPlans" (74 : Nat) ({ cls := "NettedPlans$Item", name := "<init>", desc := "(I)V" } : Jvm.MethodName)) ∈ lw_all := lw_g (lw_at lw_m1 135 rfl) rfl
theorem q187 : (Jvm.Cond.fieldLinkNest "NettedPlans" (159 : Nat) "NettedPlans$Item" "number" "I" "NettedPlans") ∈ lw_tbl := lw_at lw_m1 141 rfl
theorem q188 : (Jvm.Cond.fieldLinkNest "NettedPlans" (107 : Nat) "NettedPlans$Item" "rule" "I" "NettedPlans") ∈ lw_tbl := lw_at lw_m1 142 rfl
theorem q192 : (Jvm.Cond.fieldLinkNest "NettedPlans" (111 : Nat) "NettedPlans$Item" "size" "I" "NettedPlans") ∈ lw_tbl := lw_at lw_m1 146 rfl
theorem q195 : (Jvm.Cond.fieldLinkNest "NettedPlans" (114 : Nat) "NettedPlans$Item" "lead" "I" "NettedPlans") ∈ lw_tbl := lw_at lw_m1 149 rfl
theorem q196 : (Jvm.Cond.fieldLinkNest "NettedPlans" (117 : Nat) "NettedPlans$Item" "safety" "I" "NettedPlans") ∈ lw_tbl := lw_at lw_m1 150 rfl
theorem q198 : (Jvm.Cond.fieldLinkNest "NettedPlans" (124 : Nat) "NettedPlans$Item" "scrap" "I" "NettedPlans") ∈ lw_tbl := lw_at lw_m1 152 rfl
theorem q200 : (Jvm.Cond.fieldLinkNest "NettedPlans" (127 : Nat) "NettedPlans$Item" "setup" "I" "NettedPlans") ∈ lw_tbl := lw_at lw_m1 154 rfl
theorem q202 : (Jvm.Cond.fieldLinkNest "NettedPlans" (130 : Nat) "NettedPlans$Item" "hold" "I" "NettedPlans") ∈ lw_tbl := lw_at lw_m1 156 rfl
theorem q203 : (Jvm.Cond.fieldLinkNest "NettedPlans" (188 : Nat) "NettedPlans$Item" "stock" "I" "NettedPlans") ∈ lw_tbl := lw_at lw_m1 157 rfl
theorem q204 : (Jvm.Cond.fieldLinkNest "NettedPlans" (133 : Nat) "NettedPlans$Item" "centre" "I" "NettedPlans") ∈ lw_tbl := lw_at lw_m1 158 rfl
theorem q205 : (Jvm.Cond.fieldLinkNest "NettedPlans" (136 : Nat) "NettedPlans$Item" "hours" "I" "NettedPlans") ∈ lw_tbl := lw_at lw_m1 159 rfl
theorem q207 : (Jvm.Cond.fieldLinkNest "NettedPlans" (162 : Nat) "NettedPlans$Item" "level" "I" "NettedPlans") ∈ lw_tbl := lw_at lw_m1 161 rfl
theorem q209 : (Jvm.Cond.fieldLinkNest "NettedPlans" (97 : Nat) "NettedPlans$Item" "told" "Z" "NettedPlans") ∈ lw_tbl := lw_at lw_m1 163 rfl
theorem q210 : (Jvm.Cond.fieldLinkNest "NettedPlans" (233 : Nat) "NettedPlans$Item" "waits" "Z" "NettedPlans") ∈ lw_tbl := lw_at lw_m1 164 rfl
theorem q212 : (Jvm.Cond.fieldLinkNest "NettedPlans" (248 : Nat) "NettedPlans$Item" "gross" "[J" "NettedPlans") ∈ lw_tbl := lw_at lw_m1 166 rfl
theorem q215 : (Jvm.Cond.fieldLinkNest "NettedPlans" (260 : Nat) "NettedPlans$Item" "needs" "[J" "NettedPlans") ∈ lw_tbl := lw_at lw_m1 169 rfl
theorem q218 : (Jvm.Cond.fieldLinkNest "NettedPlans" (226 : Nat) "NettedPlans$Item" "planned" "[J" "NettedPlans") ∈ lw_tbl := lw_at lw_m1 172 rfl
theorem q220 : (Jvm.Cond.fieldLinkNest "NettedPlans" (251 : Nat) "NettedPlans$Item" "balance" "[J" "NettedPlans") ∈ lw_tbl := lw_at lw_m1 174 rfl
theorem q261 : (Jvm.Cond.methodLinkNest "NettedPlans" (77 : Nat) ({ cls := "NettedPlans$Turn", name := "<init>", desc := "(LNettedPlans$Item;)V" } : Jvm.MethodName) "NettedPlans") ∈ lw_tbl := lw_at lw_m1 215 rfl
theorem q272 : (Jvm.Cond.fieldLink "NettedPlans" (9 : Nat) "NettedPlans" "items" "[LNettedPlans$Item;") ∈ lw_all := lw_g (lw_at lw_m1 226 rfl) rfl
theorem q273 : (Jvm.Cond.fieldLink "NettedPlans" (18 : Nat) "NettedPlans" "lines" "Ljava/util/ArrayList;") ∈ lw_all := lw_g (lw_at lw_m1 227 rfl) rfl
theorem q274 : (Jvm.Cond.fieldLink "NettedPlans" (25 : Nat) "NettedPlans" "demands" "LNettedPlans$Book;") ∈ lw_all := lw_g (lw_at lw_m1 228 rfl) rfl
theorem q275 : (Jvm.Cond.fieldLink "NettedPlans" (29 : Nat) "NettedPlans" "orders" "LNettedPlans$Book;") ∈ lw_all := lw_g (lw_at lw_m1 229 rfl) rfl
theorem q276 : (Jvm.Cond.fieldLink "NettedPlans" (32 : Nat) "NettedPlans" "reservations" "LNettedPlans$Book;") ∈ lw_all := lw_g (lw_at lw_m1 230 rfl) rfl
theorem q277 : (Jvm.Cond.fieldLink "NettedPlans" (49 : Nat) "NettedPlans" "rules" "[LNettedPlans$LotRule;") ∈ lw_all := lw_g (lw_at lw_m1 231 rfl) rfl
theorem q278 : (Jvm.Cond.fieldLink "NettedPlans" (56 : Nat) "NettedPlans" "queue" "LNettedPlans$Waits;") ∈ lw_all := lw_g (lw_at lw_m1 232 rfl) rfl
theorem q279 : (Jvm.Cond.fieldLink "NettedPlans" (62 : Nat) "NettedPlans" "turns" "[LNettedPlans$Turn;") ∈ lw_all := lw_g (lw_at lw_m1 233 rfl) rfl
theorem q280 : (Jvm.Cond.fieldLink "NettedPlans" (66 : Nat) "NettedPlans" "isTold" "Z") ∈ lw_all := lw_g (lw_at lw_m1 234 rfl) rfl
theorem q281 : (Jvm.Cond.fieldLink "NettedPlans" (70 : Nat) "NettedPlans" "levels" "[I") ∈ lw_all := lw_g (lw_at lw_m1 235 rfl) rfl
theorem q282 : (Jvm.Cond.laysFinal "NettedPlans" "NettedPlans" "items" "[LNettedPlans$Item;") ∈ lw_all := lw_g (lw_at lw_m1 236 rfl) rfl
theorem q283 : (Jvm.Cond.soleField "NettedPlans" "items") ∈ lw_all := lw_g (lw_at lw_m1 237 rfl) rfl
theorem q284 : (Jvm.Cond.laysFinal "NettedPlans" "NettedPlans" "lines" "Ljava/util/ArrayList;") ∈ lw_all := lw_g (lw_at lw_m1 238 rfl) rfl
theorem q285 : (Jvm.Cond.soleField "NettedPlans" "lines") ∈ lw_all := lw_g (lw_at lw_m1 239 rfl) rfl
theorem q286 : (Jvm.Cond.laysFinal "NettedPlans" "NettedPlans" "demands" "LNettedPlans$Book;") ∈ lw_all := lw_g (lw_at lw_m2 0 rfl) rfl
theorem q287 : (Jvm.Cond.soleField "NettedPlans" "demands") ∈ lw_all := lw_g (lw_at lw_m2 1 rfl) rfl
theorem q288 : (Jvm.Cond.laysFinal "NettedPlans" "NettedPlans" "orders" "LNettedPlans$Book;") ∈ lw_all := lw_g (lw_at lw_m2 2 rfl) rfl
theorem q289 : (Jvm.Cond.soleField "NettedPlans" "orders") ∈ lw_all := lw_g (lw_at lw_m2 3 rfl) rfl
theorem q290 : (Jvm.Cond.laysFinal "NettedPlans" "NettedPlans" "reservations" "LNettedPlans$Book;") ∈ lw_all := lw_g (lw_at lw_m2 4 rfl) rfl
theorem q291 : (Jvm.Cond.soleField "NettedPlans" "reservations") ∈ lw_all := lw_g (lw_at lw_m2 5 rfl) rfl
theorem q292 : (Jvm.Cond.laysFinal "NettedPlans" "NettedPlans" "rules" "[LNettedPlans$LotRule;") ∈ lw_all := lw_g (lw_at lw_m2 6 rfl) rfl
theorem q293 : (Jvm.Cond.soleField "NettedPlans" "rules") ∈ lw_all := lw_g (lw_at lw_m2 7 rfl) rfl
theorem q294 : (Jvm.Cond.laysFinal "NettedPlans" "NettedPlans" "queue" "LNettedPlans$Waits;") ∈ lw_all := lw_g (lw_at lw_m2 8 rfl) rfl
theorem q295 : (Jvm.Cond.soleField "NettedPlans" "queue") ∈ lw_all := lw_g (lw_at lw_m2 9 rfl) rfl
theorem q296 : (Jvm.Cond.laysFinal "NettedPlans" "NettedPlans" "turns" "[LNettedPlans$Turn;") ∈ lw_all := lw_g (lw_at lw_m2 10 rfl) rfl
theorem q297 : (Jvm.Cond.soleField "NettedPlans" "turns") ∈ lw_all := lw_g (lw_at lw_m2 11 rfl) rfl
theorem q298 : (Jvm.Cond.lays "NettedPlans" "NettedPlans" "isTold" "Z") ∈ lw_all := lw_g (lw_at lw_m2 12 rfl) rfl
theorem q299 : (Jvm.Cond.soleField "NettedPlans" "isTold") ∈ lw_all := lw_g (lw_at lw_m2 13 rfl) rfl
theorem q300 : (Jvm.Cond.laysFinal "NettedPlans" "NettedPlans" "levels" "[I") ∈ lw_all := lw_g (lw_at lw_m2 14 rfl) rfl
theorem q301 : (Jvm.Cond.soleField "NettedPlans" "levels") ∈ lw_all := lw_g (lw_at lw_m2 15 rfl) rfl
theorem q302 : (Jvm.Cond.superclass "NettedPlans" "java/lang/Object") ∈ lw_all := lw_g (lw_at lw_m2 16 rfl) rfl
theorem q304 : (Jvm.Cond.instanceMethod ({ cls := "NettedPlans", name := "replan", desc := "()I" } : Jvm.MethodName)) ∈ lw_all := lw_g (lw_at lw_m2 18 rfl) rfl
theorem q305 : (Jvm.Cond.selects "NettedPlans" ({ cls := "NettedPlans", name := "replan", desc := "()I" } : Jvm.MethodName) ({ cls := "NettedPlans", name := "replan", desc := "()I" } : Jvm.MethodName)) ∈ lw_all := lw_g (lw_at lw_m2 19 rfl) rfl
theorem q306 : (Jvm.Cond.code ({ cls := "NettedPlans", name := "replan", desc := "()I" } : Jvm.MethodName) prog_1_method_27_code (5 : Nat) (Option.some Jvm.ClassFile.FieldType.int)) ∈ lw_all := lw_g (lw_at lw_m2 20 rfl) rfl
theorem q307 : (Jvm.Cond.methodLink "NettedPlans" (266 : Nat) ({ cls := "NettedPlans", name := "await", desc := "(LNettedPlans$Item;)V" } : Jvm.MethodName)) ∈ lw_all := lw_g (lw_at lw_m2 21 rfl) rfl
theorem q308 : (Jvm.Cond.privateMethod ({ cls := "NettedPlans", name := "await", desc := "(LNettedPlans$Item;)V" } : Jvm.MethodName)) ∈ lw_tbl := lw_at lw_m2 22 rfl
theorem q309 : (Jvm.Cond.instanceMethod ({ cls := "NettedPlans", name := "await", desc := "(LNettedPlans$Item;)V" } : Jvm.MethodName)) ∈ lw_all := lw_g (lw_at lw_m2 23 rfl) rfl
theorem q310 : (Jvm.Cond.code ({ cls := "NettedPlans", name := "await", desc := "(LNettedPlans$Item;)V" } : Jvm.MethodName) prog_1_method_24_code (2 : Nat) (Option.none : Option Jvm.ClassFile.FieldType)) ∈ lw_all := lw_g (lw_at lw_m2 24 rfl) rfl
theorem q311 : (Jvm.Cond.methodLink "NettedPlans" (236 : Nat) ({ cls := "NettedPlans$Waits", name := "put", desc := "(LNettedPlans$Ranked;)V" } : Jvm.MethodName)) ∈ lw_all := lw_g (lw_at lw_m2 25 rfl) rfl
theorem q347 : (Jvm.Cond.selects "NettedPlans" ({ cls := "java/lang/Object", name := "getClass", desc := "()Ljava/lang/Class;" } : Jvm.MethodName) ({ cls := "java/lang/Object", name := "getClass", desc := "()Ljava/lang/Class;" } : Jvm.MethodName)) ∈ lw_all := lw_g (lw_at lw_m2 61 rfl) rfl
theorem q415 : (Jvm.Cond.methodLink "NettedPlans" (269 : Nat) ({ cls := "NettedPlans$Waits", name := "isEmpty", desc := "()Z" } : Jvm.MethodName)) ∈ lw_all := lw_g (lw_at lw_m2 129 rfl) rfl
theorem q423 : (Jvm.Cond.methodLink "NettedPlans" (272 : Nat) ({ cls := "NettedPlans$Waits", name := "take", desc := "()LNettedPlans$Ranked;" } : Jvm.MethodName)) ∈ lw_all := lw_g (lw_at lw_m2 137 rfl) rfl
theorem q440 : (Jvm.Cond.methodLink "NettedPlans" (276 : Nat) ({ cls := "NettedPlans$Turn", name := "whose", desc := "()LNettedPlans$Item;" } : Jvm.MethodName)) ∈ lw_all := lw_g (lw_at lw_m2 154 rfl) rfl
theorem q444 : (Jvm.Cond.methodLink "NettedPlans" (279 : Nat) ({ cls := "NettedPlans", name := "grows", desc := "(LNettedPlans$Item;)Z" } : Jvm.MethodName)) ∈ lw_all := lw_g (lw_at lw_m2 158 rfl) rfl
theorem q445 : (Jvm.Cond.privateMethod ({ cls := "NettedPlans", name := "grows", desc := "(LNettedPlans$Item;)Z" } : Jvm.MethodName)) ∈ lw_tbl := lw_at lw_m2 159 rfl
theorem q446 : (Jvm.Cond.instanceMethod ({ cls := "NettedPlans", name := "grows", desc := "(LNettedPlans$Item;)Z" } : Jvm.MethodName)) ∈ lw_all := lw_g (lw_at lw_m2 160 rfl) rfl
theorem q447 : (Jvm.Cond.code ({ cls := "NettedPlans", name := "grows", desc := "(LNettedPlans$Item;)Z" } : Jvm.MethodName) prog_1_method_25_code (6 : Nat) (Option.some Jvm.ClassFile.FieldType.boolean)) ∈ lw_all := lw_g (lw_at lw_m2 161 rfl) rfl
theorem q448 : (Jvm.Cond.methodLink "NettedPlans" (240 : Nat) ({ cls := "NettedPlans$Book", name := "sum", desc := "(II)J" } : Jvm.MethodName)) ∈ lw_all := lw_g (lw_at lw_m2 162 rfl) rfl
theorem q455 : (Jvm.Cond.methodLink "NettedPlans" (244 : Nat) ({ cls := "NettedPlans", name := "asks", desc := "(LNettedPlans$Item;I)J" } : Jvm.MethodName)) ∈ lw_all := lw_g (lw_at lw_m2 169 rfl) rfl
theorem q456 : (Jvm.Cond.privateMethod ({ cls := "NettedPlans", name := "asks", desc := "(LNettedPlans$Item;I)J" } : Jvm.MethodName)) ∈ lw_tbl := lw_at lw_m2 170 rfl
theorem q457 : (Jvm.Cond.instanceMethod ({ cls := "NettedPlans", name := "asks", desc := "(LNettedPlans$Item;I)J" } : Jvm.MethodName)) ∈ lw_all := lw_g (lw_at lw_m2 171 rfl) rfl
theorem q458 : (Jvm.Cond.code ({ cls := "NettedPlans", name := "asks", desc := "(LNettedPlans$Item;I)J" } : Jvm.MethodName) prog_1_method_23_code (8 : Nat) (Option.some Jvm.ClassFile.FieldType.long)) ∈ lw_all := lw_g (lw_at lw_m2 172 rfl) rfl
theorem q459 : (Jvm.Cond.methodLink "NettedPlans" (139 : Nat) ({ cls := "java/util/ArrayList", name := "size", desc := "()I" } : Jvm.MethodName)) ∈ lw_all := lw_g (lw_at lw_m2 173 rfl) rfl
theorem q460 : (Jvm.Cond.methodLink "NettedPlans" (142 : Nat) ({ cls := "java/util/ArrayList", name := "get", desc := "(I)Ljava/lang/Object;" } : Jvm.MethodName)) ∈ lw_all := lw_g (lw_at lw_m2 174 rfl) rfl
theorem q461 : (Jvm.Cond.classLink "NettedPlans" (146 : Nat) "NettedPlans$Line") ∈ lw_all := lw_g (lw_at lw_m2 175 rfl) rfl
theorem q462 : (Jvm.Cond.methodLink "NettedPlans" (148 : Nat) ({ cls := "NettedPlans$Line", name := "parent", desc := "()LNettedPlans$Item;" } : Jvm.MethodName)) ∈ lw_all := lw_g (lw_at lw_m2 176 rfl) rfl
theorem q466 : (Jvm.Cond.methodLink "NettedPlans" (152 : Nat) ({ cls := "NettedPlans$Line", name := "child", desc := "()LNettedPlans$Item;" } : Jvm.MethodName)) ∈ lw_all := lw_g (lw_at lw_m2 180 rfl) rfl
theorem q470 : (Jvm.Cond.methodLink "NettedPlans" (223 : Nat) ({ cls := "NettedPlans$Line", name := "isIn", desc := "(I)Z" } : Jvm.MethodName)) ∈ lw_all := lw_g (lw_at lw_m2 184 rfl) rfl
theorem q474 : (Jvm.Cond.methodLink "NettedPlans" (230 : Nat) ({ cls := "NettedPlans$Line", name := "of", desc := "(J)J" } : Jvm.MethodName)) ∈ lw_all := lw_g (lw_at lw_m2 188 rfl) rfl
theorem q479 : (Jvm.Cond.methodLink "NettedPlans" (283 : Nat) ({ cls := "NettedPlans", name := "net", desc := "(LNettedPlans$Item;)V" } : Jvm.MethodName)) ∈ lw_all := lw_g (lw_at lw_m2 193 rfl) rfl
theorem q480 : (Jvm.Cond.privateMethod ({ cls := "NettedPlans", name := "net", desc := "(LNettedPlans$Item;)V" } : Jvm.MethodName)) ∈ lw_tbl := lw_at lw_m2 194 rfl
theorem q481 : (Jvm.Cond.instanceMethod ({ cls := "NettedPlans", name := "net", desc := "(LNettedPlans$Item;)V" } : Jvm.MethodName)) ∈ lw_all := lw_g (lw_at lw_m2 195 rfl) rfl
theorem q482 : (Jvm.Cond.code ({ cls := "NettedPlans", name := "net", desc := "(LNettedPlans$Item;)V" } : Jvm.MethodName) prog_1_method_26_code (9 : Nat) (Option.none : Option Jvm.ClassFile.FieldType)) ∈ lw_all := lw_g (lw_at lw_m2 196 rfl) rfl
theorem q483 : (Jvm.Cond.methodLink "NettedPlans" (254 : Nat) ({ cls := "java/lang/Math", name := "max", desc := "(JJ)J" } : Jvm.MethodName)) ∈ lw_all := lw_g (lw_at lw_m2 197 rfl) rfl
theorem q486 : (Jvm.Cond.methodLink "NettedPlans" (263 : Nat) ({ cls := "NettedPlans$LotRule", name := "plan", desc := "(LNettedPlans$Item;)V" } : Jvm.MethodName)) ∈ lw_all := lw_g (lw_at lw_m2 200 rfl) rfl
theorem q533 : (Jvm.Cond.instanceMethod ({ cls := "NettedPlans", name := "item", desc := "(IIIII)V" } : Jvm.MethodName)) ∈ lw_all := lw_g (lw_at lw_m3 7 rfl) rfl
theorem q534 : (Jvm.Cond.selects "NettedPlans" ({ cls := "NettedPlans", name := "item", desc := "(IIIII)V" } : Jvm.MethodName) ({ cls := "NettedPlans", name := "item", desc := "(IIIII)V" } : Jvm.MethodName)) ∈ lw_all := lw_g (lw_at lw_m3 8 rfl) rfl
theorem q535 : (Jvm.Cond.code ({ cls := "NettedPlans", name := "item", desc := "(IIIII)V" } : Jvm.MethodName) prog_1_method_9_code (7 : Nat) (Option.none : Option Jvm.ClassFile.FieldType)) ∈ lw_all := lw_g (lw_at lw_m3 9 rfl) rfl
theorem q536 : (Jvm.Cond.methodLink "NettedPlans" (100 : Nat) ({ cls := "NettedPlans", name := "of", desc := "(I)LNettedPlans$Item;" } : Jvm.MethodName)) ∈ lw_all := lw_g (lw_at lw_m3 10 rfl) rfl
theorem q537 : (Jvm.Cond.privateMethod ({ cls := "NettedPlans", name := "of", desc := "(I)LNettedPlans$Item;" } : Jvm.MethodName)) ∈ lw_tbl := lw_at lw_m3 11 rfl
theorem q538 : (Jvm.Cond.instanceMethod ({ cls := "NettedPlans", name := "of", desc := "(I)LNettedPlans$Item;" } : Jvm.MethodName)) ∈ lw_all := lw_g (lw_at lw_m3 12 rfl) rfl
theorem q539 : (Jvm.Cond.code ({ cls := "NettedPlans", name := "of", desc := "(I)LNettedPlans$Item;" } : Jvm.MethodName) prog_1_method_6_code (2 : Nat) (Option.some (Jvm.ClassFile.FieldType.object "NettedPlans$Item"))) ∈ lw_all := lw_g (lw_at lw_m3 13 rfl) rfl
theorem q540 : (Jvm.Cond.methodLink "NettedPlans" (89 : Nat) ({ cls := "NettedPlans", name := "isIn", desc := "(III)Z" } : Jvm.MethodName)) ∈ lw_all := lw_g (lw_at lw_m3 14 rfl) rfl
theorem q541 : (Jvm.Cond.static ({ cls := "NettedPlans", name := "isIn", desc := "(III)Z" } : Jvm.MethodName)) ∈ lw_all := lw_g (lw_at lw_m3 15 rfl) rfl
theorem q542 : (Jvm.Cond.code ({ cls := "NettedPlans", name := "isIn", desc := "(III)Z" } : Jvm.MethodName) prog_1_method_5_code (3 : Nat) (Option.some Jvm.ClassFile.FieldType.boolean)) ∈ lw_all := lw_g (lw_at lw_m3 16 rfl) rfl
theorem q543 : (Jvm.Cond.methodLink "NettedPlans" (93 : Nat) ({ cls := "NettedPlans", name := "there", desc := "(Z)V" } : Jvm.MethodName)) ∈ lw_all := lw_g (lw_at lw_m3 17 rfl) rfl
theorem q544 : (Jvm.Cond.static ({ cls := "NettedPlans", name := "there", desc := "(Z)V" } : Jvm.MethodName)) ∈ lw_all := lw_g (lw_at lw_m3 18 rfl) rfl
theorem q545 : (Jvm.Cond.code ({ cls := "NettedPlans", name := "there", desc := "(Z)V" } : Jvm.MethodName) prog_1_method_2_code (1 : Nat) (Option.none : Option Jvm.ClassFile.FieldType)) ∈ lw_all := lw_g (lw_at lw_m3 19 rfl) rfl
theorem q546 : (Jvm.Cond.classLink "NettedPlans" (80 : Nat) "java/lang/IndexOutOfBoundsException") ∈ lw_all := lw_g (lw_at lw_m3 20 rfl) rfl
theorem q587 : (Jvm.Cond.methodLink "NettedPlans" (82 : Nat) ({ cls := "java/lang/IndexOutOfBoundsException", name := "<init>", desc := "()V" } : Jvm.MethodName)) ∈ lw_all := lw_g (lw_at lw_m3 61 rfl) rfl
theorem q609 : (Jvm.Cond.methodLink "NettedPlans" (104 : Nat) ({ cls := "NettedPlans", name := "argue", desc := "(Z)V" } : Jvm.MethodName)) ∈ lw_all := lw_g (lw_at lw_m3 83 rfl) rfl
theorem q610 : (Jvm.Cond.static ({ cls := "NettedPlans", name := "argue", desc := "(Z)V" } : Jvm.MethodName)) ∈ lw_all := lw_g (lw_at lw_m3 84 rfl) rfl
theorem q611 : (Jvm.Cond.code ({ cls := "NettedPlans", name := "argue", desc := "(Z)V" } : Jvm.MethodName) prog_1_method_3_code (1 : Nat) (Option.none : Option Jvm.ClassFile.FieldType)) ∈ lw_all := lw_g (lw_at lw_m3 85 rfl) rfl
theorem q612 : (Jvm.Cond.classLink "NettedPlans" (83 : Nat) "java/lang/IllegalArgumentException") ∈ lw_all := lw_g (lw_at lw_m3 86 rfl) rfl
theorem q621 : (Jvm.Cond.methodLink "NettedPlans" (85 : Nat) ({ cls := "java/lang/IllegalArgumentException", name := "<init>", desc := "()V" } : Jvm.MethodName)) ∈ lw_all := lw_g (lw_at lw_m3 95 rfl) rfl
theorem q627 : (Jvm.Cond.methodLink "NettedPlans" (120 : Nat) ({ cls := "NettedPlans", name := "tell", desc := "(LNettedPlans$Item;)V" } : Jvm.MethodName)) ∈ lw_all := lw_g (lw_at lw_m3 101 rfl) rfl
theorem q628 : (Jvm.Cond.privateMethod ({ cls := "NettedPlans", name := "tell", desc := "(LNettedPlans$Item;)V" } : Jvm.MethodName)) ∈ lw_tbl := lw_at lw_m3 102 rfl
theorem q629 : (Jvm.Cond.instanceMethod ({ cls := "NettedPlans", name := "tell", desc := "(LNettedPlans$Item;)V" } : Jvm.MethodName)) ∈ lw_all := lw_g (lw_at lw_m3 103 rfl) rfl
theorem q630 : (Jvm.Cond.code ({ cls := "NettedPlans", name := "tell", desc := "(LNettedPlans$Item;)V" } : Jvm.MethodName) prog_1_method_8_code (2 : Nat) (Option.none : Option Jvm.ClassFile.FieldType)) ∈ lw_all := lw_g (lw_at lw_m3 104 rfl) rfl
theorem q635 : (Jvm.Cond.instanceMethod ({ cls := "NettedPlans", name := "costs", desc := "(IIII)V" } : Jvm.MethodName)) ∈ lw_all := lw_g (lw_at lw_m3 109 rfl) rfl
theorem q636 : (Jvm.Cond.selects "NettedPlans" ({ cls := "NettedPlans", name := "costs", desc := "(IIII)V" } : Jvm.MethodName) ({ cls := "NettedPlans", name := "costs", desc := "(IIII)V" } : Jvm.MethodName)) ∈ lw_all := lw_g (lw_at lw_m3 110 rfl) rfl
theorem q637 : (Jvm.Cond.code ({ cls := "NettedPlans", name := "costs", desc := "(IIII)V" } : Jvm.MethodName) prog_1_method_10_code (6 : Nat) (Option.none : Option Jvm.ClassFile.FieldType)) ∈ lw_all := lw_g (lw_at lw_m3 111 rfl) rfl
theorem q638 : (Jvm.Cond.constant "NettedPlans" (123 : Nat) (100000 : Int32)) ∈ lw_all := lw_g (lw_at lw_m3 112 rfl) rfl
theorem q643 : (Jvm.Cond.instanceMethod ({ cls := "NettedPlans", name := "made", desc := "(III)V" } : Jvm.MethodName)) ∈ lw_all := lw_g (lw_at lw_m3 117 rfl) rfl
theorem q644 : (Jvm.Cond.selects "NettedPlans" ({ cls := "NettedPlans", name := "made", desc := "(III)V" } : Jvm.MethodName) ({ cls := "NettedPlans", name := "made", desc := "(III)V" } : Jvm.MethodName)) ∈ lw_all := lw_g (lw_at lw_m3 118 rfl) rfl
theorem q645 : (Jvm.Cond.code ({ cls := "NettedPlans", name := "made", desc := "(III)V" } : Jvm.MethodName) prog_1_method_11_code (5 : Nat) (Option.none : Option Jvm.ClassFile.FieldType)) ∈ lw_all := lw_g (lw_at lw_m3 119 rfl) rfl
theorem q651 : (Jvm.Cond.instanceMethod ({ cls := "NettedPlans", name := "line", desc := "(IIIII)V" } : Jvm.MethodName)) ∈ lw_all := lw_g (lw_at lw_m3 125 rfl) rfl
theorem q652 : (Jvm.Cond.selects "NettedPlans" ({ cls := "NettedPlans", name := "line", desc := "(IIIII)V" } : Jvm.MethodName) ({ cls := "NettedPlans", name := "line", desc := "(IIIII)V" } : Jvm.MethodName)) ∈ lw_all := lw_g (lw_at lw_m3 126 rfl) rfl
theorem q653 : (Jvm.Cond.code ({ cls := "NettedPlans", name := "line", desc := "(IIIII)V" } : Jvm.MethodName) prog_1_method_16_code (9 : Nat) (Option.none : Option Jvm.ClassFile.FieldType)) ∈ lw_all := lw_g (lw_at lw_m3 127 rfl) rfl
theorem q654 : (Jvm.Cond.methodLink "NettedPlans" (165 : Nat) ({ cls := "NettedPlans", name := "find", desc := "(LNettedPlans$Item;LNettedPlans$Item;)I" } : Jvm.MethodName)) ∈ lw_all := lw_g (lw_at lw_m3 128 rfl) rfl
theorem q655 : (Jvm.Cond.privateMethod ({ cls := "NettedPlans", name := "find", desc := "(LNettedPlans$Item;LNettedPlans$Item;)I" } : Jvm.MethodName)) ∈ lw_tbl := lw_at lw_m3 129 rfl
theorem q656 : (Jvm.Cond.instanceMethod ({ cls := "NettedPlans", name := "find", desc := "(LNettedPlans$Item;LNettedPlans$Item;)I" } : Jvm.MethodName)) ∈ lw_all := lw_g (lw_at lw_m3 130 rfl) rfl
theorem q657 : (Jvm.Cond.code ({ cls := "NettedPlans", name := "find", desc := "(LNettedPlans$Item;LNettedPlans$Item;)I" } : Jvm.MethodName) prog_1_method_12_code (5 : Nat) (Option.some Jvm.ClassFile.FieldType.int)) ∈ lw_all := lw_g (lw_at lw_m3 131 rfl) rfl
theorem q658 : (Jvm.Cond.methodLink "NettedPlans" (169 : Nat) ({ cls := "NettedPlans", name := "levelled", desc := "(LNettedPlans$Item;LNettedPlans$Item;)Z" } : Jvm.MethodName)) ∈ lw_all := lw_g (lw_at lw_m3 132 rfl) rfl
theorem q659 : (Jvm.Cond.privateMethod ({ cls := "NettedPlans", name := "levelled", desc := "(LNettedPlans$Item;LNettedPlans$Item;)Z" } : Jvm.MethodName)) ∈ lw_tbl := lw_at lw_m3 133 rfl
theorem q660 : (Jvm.Cond.instanceMethod ({ cls := "NettedPlans", name := "levelled", desc := "(LNettedPlans$Item;LNettedPlans$Item;)Z" } : Jvm.MethodName)) ∈ lw_all := lw_g (lw_at lw_m3 134 rfl) rfl
theorem q661 : (Jvm.Cond.code ({ cls := "NettedPlans", name := "levelled", desc := "(LNettedPlans$Item;LNettedPlans$Item;)Z" } : Jvm.MethodName) prog_1_method_13_code (8 : Nat) (Option.some Jvm.ClassFile.FieldType.boolean)) ∈ lw_all := lw_g (lw_at lw_m3 135 rfl) rfl
theorem q662 : (Jvm.Cond.methodLink "NettedPlans" (155 : Nat) ({ cls := "NettedPlans", name := "raise", desc := "(LNettedPlans$Item;LNettedPlans$Item;)Z" } : Jvm.MethodName)) ∈ lw_all := lw_g (lw_at lw_m3 136 rfl) rfl
theorem q663 : (Jvm.Cond.privateMethod ({ cls := "NettedPlans", name := "raise", desc := "(LNettedPlans$Item;LNettedPlans$Item;)Z" } : Jvm.MethodName)) ∈ lw_tbl := lw_at lw_m3 137 rfl
theorem q664 : (Jvm.Cond.instanceMethod ({ cls := "NettedPlans", name := "raise", desc := "(LNettedPlans$Item;LNettedPlans$Item;)Z" } : Jvm.MethodName)) ∈ lw_all := lw_g (lw_at lw_m3 138 rfl) rfl
theorem q665 : (Jvm.Cond.code ({ cls := "NettedPlans", name := "raise", desc := "(LNettedPlans$Item;LNettedPlans$Item;)Z" } : Jvm.MethodName) prog_1_method_14_code (4 : Nat) (Option.some Jvm.ClassFile.FieldType.boolean)) ∈ lw_all := lw_g (lw_at lw_m3 139 rfl) rfl
theorem q666 : (Jvm.Cond.methodLink "NettedPlans" (172 : Nat) ({ cls := "NettedPlans", name := "allow", desc := "(Z)V" } : Jvm.MethodName)) ∈ lw_all := lw_g (lw_at lw_m3 140 rfl) rfl
theorem q667 : (Jvm.Cond.static ({ cls := "NettedPlans", name := "allow", desc := "(Z)V" } : Jvm.MethodName)) ∈ lw_all := lw_g (lw_at lw_m3 141 rfl) rfl
theorem q668 : (Jvm.Cond.code ({ cls := "NettedPlans", name := "allow", desc := "(Z)V" } : Jvm.MethodName) prog_1_method_4_code (1 : Nat) (Option.none : Option Jvm.ClassFile.FieldType)) ∈ lw_all := lw_g (lw_at lw_m3 142 rfl) rfl
theorem q669 : (Jvm.Cond.classLink "NettedPlans" (86 : Nat) "java/lang/IllegalStateException") ∈ lw_all := lw_g (lw_at lw_m3 143 rfl) rfl
theorem q678 : (Jvm.Cond.methodLink "NettedPlans" (88 : Nat) ({ cls := "java/lang/IllegalStateException", name := "<init>", desc := "()V" } : Jvm.MethodName)) ∈ lw_all := lw_g (lw_at lw_m3 152 rfl) rfl
theorem q684 : (Jvm.Cond.methodLink "NettedPlans" (175 : Nat) ({ cls := "java/util/ArrayList", name := "remove", desc := "(I)Ljava/lang/Object;" } : Jvm.MethodName)) ∈ lw_all := lw_g (lw_at lw_m3 158 rfl) rfl
theorem q686 : (Jvm.Cond.methodLinkNest "NettedPlans" (178 : Nat) ({ cls := "NettedPlans$Line", name := "<init>", desc := "(LNettedPlans$Item;LNettedPlans$Item;III)V" } : Jvm.MethodName) "NettedPlans") ∈ lw_tbl := lw_at lw_m3 160 rfl
theorem q706 : (Jvm.Cond.methodLink "NettedPlans" (181 : Nat) ({ cls := "java/util/ArrayList", name := "add", desc := "(Ljava/lang/Object;)Z" } : Jvm.MethodName)) ∈ lw_all := lw_g (lw_at lw_m3 180 rfl) rfl
theorem q707 : (Jvm.Cond.methodLink "NettedPlans" (185 : Nat) ({ cls := "NettedPlans", name := "keepLevels", desc := "()V" } : Jvm.MethodName)) ∈ lw_all := lw_g (lw_at lw_m3 181 rfl) rfl
theorem q708 : (Jvm.Cond.privateMethod ({ cls := "NettedPlans", name := "keepLevels", desc := "()V" } : Jvm.MethodName)) ∈ lw_tbl := lw_at lw_m3 182 rfl
theorem q709 : (Jvm.Cond.instanceMethod ({ cls := "NettedPlans", name := "keepLevels", desc := "()V" } : Jvm.MethodName)) ∈ lw_all := lw_g (lw_at lw_m3 183 rfl) rfl
theorem q710 : (Jvm.Cond.code ({ cls := "NettedPlans", name := "keepLevels", desc := "()V" } : Jvm.MethodName) prog_1_method_15_code (5 : Nat) (Option.none : Option Jvm.ClassFile.FieldType)) ∈ lw_all := lw_g (lw_at lw_m3 184 rfl) rfl
theorem q715 : (Jvm.Cond.instanceMethod ({ cls := "NettedPlans", name := "stock", desc := "(II)I" } : Jvm.MethodName)) ∈ lw_all := lw_g (lw_at lw_m3 189 rfl) rfl
theorem q716 : (Jvm.Cond.selects "NettedPlans" ({ cls := "NettedPlans", name := "stock", desc := "(II)I" } : Jvm.MethodName) ({ cls := "NettedPlans", name := "stock", desc := "(II)I" } : Jvm.MethodName)) ∈ lw_all := lw_g (lw_at lw_m3 190 rfl) rfl
theorem q717 : (Jvm.Cond.code ({ cls := "NettedPlans", name := "stock", desc := "(II)I" } : Jvm.MethodName) prog_1_method_17_code (5 : Nat) (Option.some Jvm.ClassFile.FieldType.int)) ∈ lw_all := lw_g (lw_at lw_m3 191 rfl) rfl
theorem q722 : (Jvm.Cond.instanceMethod ({ cls := "NettedPlans", name := "demand", desc := "(III)I" } : Jvm.MethodName)) ∈ lw_all := lw_g (lw_at lw_m3 196 rfl) rfl
theorem q723 : (Jvm.Cond.selects "NettedPlans" ({ cls := "NettedPlans", name := "demand", desc := "(III)I" } : Jvm.MethodName) ({ cls := "NettedPlans", name := "demand", desc := "(III)I" } : Jvm.MethodName)) ∈ lw_all := lw_g (lw_at lw_m3 197 rfl) rfl
theorem q724 : (Jvm.Cond.code ({ cls := "NettedPlans", name := "demand", desc := "(III)I" } : Jvm.MethodName) prog_1_method_19_code (4 : Nat) (Option.some Jvm.ClassFile.FieldType.int)) ∈ lw_all := lw_g (lw_at lw_m3 198 rfl) rfl
theorem q725 : (Jvm.Cond.methodLink "NettedPlans" (206 : Nat) ({ cls := "NettedPlans", name := "enter", desc := "(LNettedPlans$Book;III)I" } : Jvm.MethodName)) ∈ lw_all := lw_g (lw_at lw_m3 199 rfl) rfl
theorem q726 : (Jvm.Cond.privateMethod ({ cls := "NettedPlans", name := "enter", desc := "(LNettedPlans$Book;III)I" } : Jvm.MethodName)) ∈ lw_tbl := lw_at lw_m3 200 rfl
theorem q727 : (Jvm.Cond.instanceMethod ({ cls := "NettedPlans", name := "enter", desc := "(LNettedPlans$Book;III)I" } : Jvm.MethodName)) ∈ lw_all := lw_g (lw_at lw_m3 201 rfl) rfl
theorem q728 : (Jvm.Cond.code ({ cls := "NettedPlans", name := "enter", desc := "(LNettedPlans$Book;III)I" } : Jvm.MethodName) prog_1_method_18_code (6 : Nat) (Option.some Jvm.ClassFile.FieldType.int)) ∈ lw_all := lw_g (lw_at lw_m3 202 rfl) rfl
theorem q729 : (Jvm.Cond.methodLink "NettedPlans" (191 : Nat) ({ cls := "NettedPlans", name := "week", desc := "(I)V" } : Jvm.MethodName)) ∈ lw_all := lw_g (lw_at lw_m3 203 rfl) rfl
theorem q730 : (Jvm.Cond.static ({ cls := "NettedPlans", name := "week", desc := "(I)V" } : Jvm.MethodName)) ∈ lw_all := lw_g (lw_at lw_m3 204 rfl) rfl
theorem q731 : (Jvm.Cond.code ({ cls := "NettedPlans", name := "week", desc := "(I)V" } : Jvm.MethodName) prog_1_method_7_code (1 : Nat) (Option.none : Option Jvm.ClassFile.FieldType)) ∈ lw_all := lw_g (lw_at lw_m3 205 rfl) rfl
theorem q732 : (Jvm.Cond.methodLink "NettedPlans" (194 : Nat) ({ cls := "NettedPlans$Book", name := "isFull", desc := "()Z" } : Jvm.MethodName)) ∈ lw_all := lw_g (lw_at lw_m3 206 rfl) rfl
theorem q736 : (Jvm.Cond.classLink "NettedPlans" (198 : Nat) "NettedPlans$Entry") ∈ lw_all := lw_g (lw_at lw_m3 210 rfl) rfl
theorem q738 : (Jvm.Cond.methodLink "NettedPlans" (200 : Nat) ({ cls := "NettedPlans$Entry", name := "<init>", desc := "(III)V" } : Jvm.MethodName)) ∈ lw_all := lw_g (lw_at lw_m3 212 rfl) rfl
theorem q744 : (Jvm.Cond.fieldLinkNest "NettedPlans" (220 : Nat) "NettedPlans$Entry" "item" "I" "NettedPlans") ∈ lw_tbl := lw_at lw_m3 218 rfl
theorem q747 : (Jvm.Cond.fieldLinkNest "NettedPlans" (292 : Nat) "NettedPlans$Entry" "week" "I" "NettedPlans") ∈ lw_tbl := lw_at lw_m3 221 rfl
theorem q750 : (Jvm.Cond.fieldLinkNest "NettedPlans" (217 : Nat) "NettedPlans$Entry" "n" "I" "NettedPlans") ∈ lw_tbl := lw_at lw_m3 224 rfl
theorem q758 : (Jvm.Cond.methodLink "NettedPlans" (203 : Nat) ({ cls := "NettedPlans$Book", name := "add", desc := "(LNettedPlans$Entry;)I" } : Jvm.MethodName)) ∈ lw_all := lw_g (lw_at lw_m3 232 rfl) rfl
theorem q767 : (Jvm.Cond.instanceMethod ({ cls := "NettedPlans", name := "change", desc := "(III)I" } : Jvm.MethodName)) ∈ lw_all := lw_g (lw_at lw_m4 1 rfl) rfl
theorem q768 : (Jvm.Cond.selects "NettedPlans" ({ cls := "NettedPlans", name := "change", desc := "(III)I" } : Jvm.MethodName) ({ cls := "NettedPlans", name := "change", desc := "(III)I" } : Jvm.MethodName)) ∈ lw_all := lw_g (lw_at lw_m4 2 rfl) rfl
theorem q769 : (Jvm.Cond.code ({ cls := "NettedPlans", name := "change", desc := "(III)I" } : Jvm.MethodName) prog_1_method_22_code (6 : Nat) (Option.some Jvm.ClassFile.FieldType.int)) ∈ lw_all := lw_g (lw_at lw_m4 3 rfl) rfl
theorem q770 : (Jvm.Cond.methodLink "NettedPlans" (213 : Nat) ({ cls := "NettedPlans", name := "entry", desc := "(LNettedPlans$Book;I)LNettedPlans$Entry;" } : Jvm.MethodName)) ∈ lw_all := lw_g (lw_at lw_m4 4 rfl) rfl
theorem q771 : (Jvm.Cond.static ({ cls := "NettedPlans", name := "entry", desc := "(LNettedPlans$Book;I)LNettedPlans$Entry;" } : Jvm.MethodName)) ∈ lw_all := lw_g (lw_at lw_m4 5 rfl) rfl
theorem q772 : (Jvm.Cond.code ({ cls := "NettedPlans", name := "entry", desc := "(LNettedPlans$Book;I)LNettedPlans$Entry;" } : Jvm.MethodName) prog_1_method_21_code (2 : Nat) (Option.some (Jvm.ClassFile.FieldType.object "NettedPlans$Entry"))) ∈ lw_all := lw_g (lw_at lw_m4 6 rfl) rfl
theorem q777 : (Jvm.Cond.instanceMethod ({ cls := "NettedPlans", name := "order", desc := "(III)I" } : Jvm.MethodName)) ∈ lw_all := lw_g (lw_at lw_m4 11 rfl) rfl
theorem q778 : (Jvm.Cond.selects "NettedPlans" ({ cls := "NettedPlans", name := "order", desc := "(III)I" } : Jvm.MethodName) ({ cls := "NettedPlans", name := "order", desc := "(III)I" } : Jvm.MethodName)) ∈ lw_all := lw_g (lw_at lw_m4 12 rfl) rfl
theorem q779 : (Jvm.Cond.code ({ cls := "NettedPlans", name := "order", desc := "(III)I" } : Jvm.MethodName) prog_1_method_20_code (4 : Nat) (Option.some Jvm.ClassFile.FieldType.int)) ∈ lw_all := lw_g (lw_at lw_m4 13 rfl) rfl
theorem q784 : (Jvm.Cond.instanceMethod ({ cls := "NettedPlans", name := "level", desc := "(I)I" } : Jvm.MethodName)) ∈ lw_all := lw_g (lw_at lw_m4 18 rfl) rfl
theorem q785 : (Jvm.Cond.selects "NettedPlans" ({ cls := "NettedPlans", name := "level", desc := "(I)I" } : Jvm.MethodName) ({ cls := "NettedPlans", name := "level", desc := "(I)I" } : Jvm.MethodName)) ∈ lw_all := lw_g (lw_at lw_m4 19 rfl) rfl
theorem q786 : (Jvm.Cond.code ({ cls := "NettedPlans", name := "level", desc := "(I)I" } : Jvm.MethodName) prog_1_method_29_code (2 : Nat) (Option.some Jvm.ClassFile.FieldType.int)) ∈ lw_all := lw_g (lw_at lw_m4 20 rfl) rfl
theorem q791 : (Jvm.Cond.instanceMethod ({ cls := "NettedPlans", name := "gross", desc := "(II)J" } : Jvm.MethodName)) ∈ lw_all := lw_g (lw_at lw_m4 25 rfl) rfl
theorem q792 : (Jvm.Cond.selects "NettedPlans" ({ cls := "NettedPlans", name := "gross", desc := "(II)J" } : Jvm.MethodName) ({ cls := "NettedPlans", name := "gross", desc := "(II)J" } : Jvm.MethodName)) ∈ lw_all := lw_g (lw_at lw_m4 26 rfl) rfl
theorem q793 : (Jvm.Cond.code ({ cls := "NettedPlans", name := "gross", desc := "(II)J" } : Jvm.MethodName) prog_1_method_30_code (3 : Nat) (Option.some Jvm.ClassFile.FieldType.long)) ∈ lw_all := lw_g (lw_at lw_m4 27 rfl) rfl
theorem q794 : (Jvm.Cond.methodLink "NettedPlans" (286 : Nat) ({ cls := "NettedPlans", name := "current", desc := "(I)LNettedPlans$Item;" } : Jvm.MethodName)) ∈ lw_all := lw_g (lw_at lw_m4 28 rfl) rfl
theorem q795 : (Jvm.Cond.privateMethod ({ cls := "NettedPlans", name := "current", desc := "(I)LNettedPlans$Item;" } : Jvm.MethodName)) ∈ lw_tbl := lw_at lw_m4 29 rfl
theorem q796 : (Jvm.Cond.instanceMethod ({ cls := "NettedPlans", name := "current", desc := "(I)LNettedPlans$Item;" } : Jvm.MethodName)) ∈ lw_all := lw_g (lw_at lw_m4 30 rfl) rfl
theorem q797 : (Jvm.Cond.code ({ cls := "NettedPlans", name := "current", desc := "(I)LNettedPlans$Item;" } : Jvm.MethodName) prog_1_method_28_code (3 : Nat) (Option.some (Jvm.ClassFile.FieldType.object "NettedPlans$Item"))) ∈ lw_all := lw_g (lw_at lw_m4 31 rfl) rfl
theorem q802 : (Jvm.Cond.instanceMethod ({ cls := "NettedPlans", name := "planned", desc := "(II)J" } : Jvm.MethodName)) ∈ lw_all := lw_g (lw_at lw_m4 36 rfl) rfl
theorem q803 : (Jvm.Cond.selects "NettedPlans" ({ cls := "NettedPlans", name := "planned", desc := "(II)J" } : Jvm.MethodName) ({ cls := "NettedPlans", name := "planned", desc := "(II)J" } : Jvm.MethodName)) ∈ lw_all := lw_g (lw_at lw_m4 37 rfl) rfl
theorem q804 : (Jvm.Cond.code ({ cls := "NettedPlans", name := "planned", desc := "(II)J" } : Jvm.MethodName) prog_1_method_31_code (3 : Nat) (Option.some Jvm.ClassFile.FieldType.long)) ∈ lw_all := lw_g (lw_at lw_m4 38 rfl) rfl
theorem q809 : (Jvm.Cond.instanceMethod ({ cls := "NettedPlans", name := "balance", desc := "(II)J" } : Jvm.MethodName)) ∈ lw_all := lw_g (lw_at lw_m4 43 rfl) rfl
theorem q810 : (Jvm.Cond.selects "NettedPlans" ({ cls := "NettedPlans", name := "balance", desc := "(II)J" } : Jvm.MethodName) ({ cls := "NettedPlans", name := "balance", desc := "(II)J" } : Jvm.MethodName)) ∈ lw_all := lw_g (lw_at lw_m4 44 rfl) rfl
theorem q811 : (Jvm.Cond.code ({ cls := "NettedPlans", name := "balance", desc := "(II)J" } : Jvm.MethodName) prog_1_method_32_code (3 : Nat) (Option.some Jvm.ClassFile.FieldType.long)) ∈ lw_all := lw_g (lw_at lw_m4 45 rfl) rfl
theorem q816 : (Jvm.Cond.instanceMethod ({ cls := "NettedPlans", name := "peg", desc := "(III)J" } : Jvm.MethodName)) ∈ lw_all := lw_g (lw_at lw_m4 50 rfl) rfl
theorem q817 : (Jvm.Cond.selects "NettedPlans" ({ cls := "NettedPlans", name := "peg", desc := "(III)J" } : Jvm.MethodName) ({ cls := "NettedPlans", name := "peg", desc := "(III)J" } : Jvm.MethodName)) ∈ lw_all := lw_g (lw_at lw_m4 51 rfl) rfl
theorem q818 : (Jvm.Cond.code ({ cls := "NettedPlans", name := "peg", desc := "(III)J" } : Jvm.MethodName) prog_1_method_36_code (9 : Nat) (Option.some Jvm.ClassFile.FieldType.long)) ∈ lw_all := lw_g (lw_at lw_m4 52 rfl) rfl
theorem q819 : (Jvm.Cond.methodLink "NettedPlans" (294 : Nat) ({ cls := "NettedPlans", name := "claimedBefore", desc := "(LNettedPlans$Item;I)J" } : Jvm.MethodName)) ∈ lw_all := lw_g (lw_at lw_m4 53 rfl) rfl
theorem q820 : (Jvm.Cond.privateMethod ({ cls := "NettedPlans", name := "claimedBefore", desc := "(LNettedPlans$Item;I)J" } : Jvm.MethodName)) ∈ lw_tbl := lw_at lw_m4 54 rfl
theorem q821 : (Jvm.Cond.instanceMethod ({ cls := "NettedPlans", name := "claimedBefore", desc := "(LNettedPlans$Item;I)J" } : Jvm.MethodName)) ∈ lw_all := lw_g (lw_at lw_m4 55 rfl) rfl
theorem q822 : (Jvm.Cond.code ({ cls := "NettedPlans", name := "claimedBefore", desc := "(LNettedPlans$Item;I)J" } : Jvm.MethodName) prog_1_method_34_code (6 : Nat) (Option.some Jvm.ClassFile.FieldType.long)) ∈ lw_all := lw_g (lw_at lw_m4 56 rfl) rfl
theorem q823 : (Jvm.Cond.methodLink "NettedPlans" (297 : Nat) ({ cls := "NettedPlans$Book", name := "sumBefore", desc := "(I)J" } : Jvm.MethodName)) ∈ lw_all := lw_g (lw_at lw_m4 57 rfl) rfl
theorem q827 : (Jvm.Cond.methodLink "NettedPlans" (301 : Nat) ({ cls := "NettedPlans", name := "overlap", desc := "(JJJJ)J" } : Jvm.MethodName)) ∈ lw_all := lw_g (lw_at lw_m4 61 rfl) rfl
theorem q828 : (Jvm.Cond.static ({ cls := "NettedPlans", name := "overlap", desc := "(JJJJ)J" } : Jvm.MethodName)) ∈ lw_all := lw_g (lw_at lw_m4 62 rfl) rfl
theorem q829 : (Jvm.Cond.code ({ cls := "NettedPlans", name := "overlap", desc := "(JJJJ)J" } : Jvm.MethodName) prog_1_method_35_code (8 : Nat) (Option.some Jvm.ClassFile.FieldType.long)) ∈ lw_all := lw_g (lw_at lw_m4 63 rfl) rfl
theorem q830 : (Jvm.Cond.methodLink "NettedPlans" (289 : Nat) ({ cls := "java/lang/Math", name := "min", desc := "(JJ)J" } : Jvm.MethodName)) ∈ lw_all := lw_g (lw_at lw_m4 64 rfl) rfl
theorem q833 : (Jvm.Cond.methodLink "NettedPlans" (305 : Nat) ({ cls := "NettedPlans", name := "suppliedBefore", desc := "(LNettedPlans$Item;I)J" } : Jvm.MethodName)) ∈ lw_all := lw_g (lw_at lw_m4 67 rfl) rfl
theorem q834 : (Jvm.Cond.privateMethod ({ cls := "NettedPlans", name := "suppliedBefore", desc := "(LNettedPlans$Item;I)J" } : Jvm.MethodName)) ∈ lw_tbl := lw_at lw_m4 68 rfl
theorem q835 : (Jvm.Cond.instanceMethod ({ cls := "NettedPlans", name := "suppliedBefore", desc := "(LNettedPlans$Item;I)J" } : Jvm.MethodName)) ∈ lw_all := lw_g (lw_at lw_m4 69 rfl) rfl
theorem q836 : (Jvm.Cond.code ({ cls := "NettedPlans", name := "suppliedBefore", desc := "(LNettedPlans$Item;I)J" } : Jvm.MethodName) prog_1_method_33_code (6 : Nat) (Option.some Jvm.ClassFile.FieldType.long)) ∈ lw_all := lw_g (lw_at lw_m4 70 rfl) rfl
theorem q841 : (Jvm.Cond.instanceMethod ({ cls := "NettedPlans", name := "promise", desc := "(III)I" } : Jvm.MethodName)) ∈ lw_all := lw_g (lw_at lw_m4 75 rfl) rfl
theorem q842 : (Jvm.Cond.selects "NettedPlans" ({ cls := "NettedPlans", name := "promise", desc := "(III)I" } : Jvm.MethodName) ({ cls := "NettedPlans", name := "promise", desc := "(III)I" } : Jvm.MethodName)) ∈ lw_all := lw_g (lw_at lw_m4 76 rfl) rfl
theorem q843 : (Jvm.Cond.code ({ cls := "NettedPlans", name := "promise", desc := "(III)I" } : Jvm.MethodName) prog_1_method_38_code (6 : Nat) (Option.some Jvm.ClassFile.FieldType.int)) ∈ lw_all := lw_g (lw_at lw_m4 77 rfl) rfl
theorem q844 : (Jvm.Cond.methodLink "NettedPlans" (308 : Nat) ({ cls := "NettedPlans", name := "isTrue", desc := "(LNettedPlans$Item;II)Z" } : Jvm.MethodName)) ∈ lw_all := lw_g (lw_at lw_m4 78 rfl) rfl
theorem q845 : (Jvm.Cond.privateMethod ({ cls := "NettedPlans", name := "isTrue", desc := "(LNettedPlans$Item;II)Z" } : Jvm.MethodName)) ∈ lw_tbl := lw_at lw_m4 79 rfl
theorem q846 : (Jvm.Cond.instanceMethod ({ cls := "NettedPlans", name := "isTrue", desc := "(LNettedPlans$Item;II)Z" } : Jvm.MethodName)) ∈ lw_all := lw_g (lw_at lw_m4 80 rfl) rfl
theorem q847 : (Jvm.Cond.code ({ cls := "NettedPlans", name := "isTrue", desc := "(LNettedPlans$Item;II)Z" } : Jvm.MethodName) prog_1_method_37_code (8 : Nat) (Option.some Jvm.ClassFile.FieldType.boolean)) ∈ lw_all := lw_g (lw_at lw_m4 81 rfl) rfl
theorem q852 : (Jvm.Cond.instanceMethod ({ cls := "NettedPlans", name := "reserve", desc := "(III)I" } : Jvm.MethodName)) ∈ lw_all := lw_g (lw_at lw_m4 86 rfl) rfl
theorem q853 : (Jvm.Cond.selects "NettedPlans" ({ cls := "NettedPlans", name := "reserve", desc := "(III)I" } : Jvm.MethodName) ({ cls := "NettedPlans", name := "reserve", desc := "(III)I" } : Jvm.MethodName)) ∈ lw_all := lw_g (lw_at lw_m4 87 rfl) rfl
theorem q854 : (Jvm.Cond.code ({ cls := "NettedPlans", name := "reserve", desc := "(III)I" } : Jvm.MethodName) prog_1_method_39_code (5 : Nat) (Option.some Jvm.ClassFile.FieldType.int)) ∈ lw_all := lw_g (lw_at lw_m4 88 rfl) rfl
theorem q859 : (Jvm.Cond.instanceMethod ({ cls := "NettedPlans", name := "giveBack", desc := "(I)I" } : Jvm.MethodName)) ∈ lw_all := lw_g (lw_at lw_m4 93 rfl) rfl
theorem q860 : (Jvm.Cond.selects "NettedPlans" ({ cls := "NettedPlans", name := "giveBack", desc := "(I)I" } : Jvm.MethodName) ({ cls := "NettedPlans", name := "giveBack", desc := "(I)I" } : Jvm.MethodName)) ∈ lw_all := lw_g (lw_at lw_m4 94 rfl) rfl
theorem q861 : (Jvm.Cond.code ({ cls := "NettedPlans", name := "giveBack", desc := "(I)I" } : Jvm.MethodName) prog_1_method_40_code (4 : Nat) (Option.some Jvm.ClassFile.FieldType.int)) ∈ lw_all := lw_g (lw_at lw_m4 95 rfl) rfl
theorem q866 : (Jvm.Cond.instanceMethod ({ cls := "NettedPlans", name := "load", desc := "(II)J" } : Jvm.MethodName)) ∈ lw_all := lw_g (lw_at lw_m4 100 rfl) rfl
theorem q867 : (Jvm.Cond.selects "NettedPlans" ({ cls := "NettedPlans", name := "load", desc := "(II)J" } : Jvm.MethodName) ({ cls := "NettedPlans", name := "load", desc := "(II)J" } : Jvm.MethodName)) ∈ lw_all := lw_g (lw_at lw_m4 101 rfl) rfl
theorem q868 : (Jvm.Cond.code ({ cls := "NettedPlans", name := "load", desc := "(II)J" } : Jvm.MethodName) prog_1_method_41_code (10 : Nat) (Option.some Jvm.ClassFile.FieldType.long)) ∈ lw_all := lw_g (lw_at lw_m4 102 rfl) rfl
theorem q873 : (Jvm.Cond.instanceMethod ({ cls := "NettedPlans", name := "count", desc := "(I)I" } : Jvm.MethodName)) ∈ lw_all := lw_g (lw_at lw_m4 107 rfl) rfl
theorem q874 : (Jvm.Cond.selects "NettedPlans" ({ cls := "NettedPlans", name := "count", desc := "(I)I" } : Jvm.MethodName) ({ cls := "NettedPlans", name := "count", desc := "(I)I" } : Jvm.MethodName)) ∈ lw_all := lw_g (lw_at lw_m4 108 rfl) rfl
theorem q875 : (Jvm.Cond.code ({ cls := "NettedPlans", name := "count", desc := "(I)I" } : Jvm.MethodName) prog_1_method_42_code (7 : Nat) (Option.some Jvm.ClassFile.FieldType.int)) ∈ lw_all := lw_g (lw_at lw_m4 109 rfl) rfl
theorem q876 : (Jvm.Cond.methodLink "NettedPlans" (312 : Nat) ({ cls := "NettedPlans$Item", name := "isShort", desc := "()Z" } : Jvm.MethodName)) ∈ lw_all := lw_g (lw_at lw_m4 110 rfl) rfl
theorem q1164 : (Jvm.Cond.castable "NettedPlans" "java/lang/Object") ∈ lw_tbl := lw_at lw_m5 158 rfl
theorem in_X1 : ∀ w ∈ wsX10, w ∈ lw_all := lw_in wsX10 [282, 284, 286, 288, 290, 292, 294, 296, 298, 300] (by decide +kernel) (by decide +kernel)
