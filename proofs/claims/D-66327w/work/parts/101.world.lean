set_option maxRecDepth 100000
/-! THE WORLD: classes, addresses, the class's state C, the reference's state M, where the lists' cells lie Y; GR: the heap holds them -/
def tn0 : u_T := fun _ => ("", "", "", false)
abbrev gcl : List vw_C := [(RX1, TX1, 10), (RJ2, TJ2, 3), (RX2, TX2, 1), (RX4, tn0, 0), (RX5, tn0, 0), (RX6, tn0, 0), (RX7, TX7, 2), (RX8, TX8, 1), (RX9, TX9, 19), (RX10, TX10, 1), (RX11, TX11, 27), (RX12, TX12, 5), (RX13, TX13, 3)]
abbrev gty (DA : Nat → ClassId) : List (ClassId × FieldType) := [(DA 0, .long), (DA 1, .int), (DA 2, .boolean), (DA 3, .object RX9), (DA 4, .object RX10), (DA 5, .object RX3), (DA 6, .object "java/lang/Object")]
/-- the class's state: item fields, item rows, isTold, levels, best, last, lists' lengths, lines' parents, children, numbers, entries, the queue -/
abbrev CS : Type := (Nat → Nat → Int32) × (Nat → Nat → Nat → Int64) × Int32 × (Nat → Int32) × (Nat → Int64) × (Nat → Int32) × (Nat → Nat) × (Nat → Nat) × (Nat → Nat) × (Nat → Nat → Int32) × (Nat → Nat → Nat → Int32) × (Nat → Nat)
abbrev kI (C : CS) : Nat → Nat → Int32 := C.1
abbrev kA (C : CS) : Nat → Nat → Nat → Int64 := C.2.1
abbrev kT (C : CS) : Int32 := C.2.2.1
abbrev kV (C : CS) : Nat → Int32 := C.2.2.2.1
abbrev kB (C : CS) : Nat → Int64 := C.2.2.2.2.1
abbrev kW (C : CS) : Nat → Int32 := C.2.2.2.2.2.1
abbrev kN (C : CS) : Nat → Nat := C.2.2.2.2.2.2.1
abbrev kP (C : CS) : Nat → Nat := C.2.2.2.2.2.2.2.1
abbrev kC (C : CS) : Nat → Nat := C.2.2.2.2.2.2.2.2.1
abbrev kL (C : CS) : Nat → Nat → Int32 := C.2.2.2.2.2.2.2.2.2.1
abbrev kE (C : CS) : Nat → Nat → Nat → Int32 := C.2.2.2.2.2.2.2.2.2.2.1
abbrev kQ (C : CS) : Nat → Nat := C.2.2.2.2.2.2.2.2.2.2.2
def rI (C : CS) (x : Nat → Nat → Int32) : CS := (x, kA C, kT C, kV C, kB C, kW C, kN C, kP C, kC C, kL C, kE C, kQ C)
def rA (C : CS) (x : Nat → Nat → Nat → Int64) : CS := (kI C, x, kT C, kV C, kB C, kW C, kN C, kP C, kC C, kL C, kE C, kQ C)
def rT (C : CS) (x : Int32) : CS := (kI C, kA C, x, kV C, kB C, kW C, kN C, kP C, kC C, kL C, kE C, kQ C)
def rV (C : CS) (x : Nat → Int32) : CS := (kI C, kA C, kT C, x, kB C, kW C, kN C, kP C, kC C, kL C, kE C, kQ C)
def rB (C : CS) (x : Nat → Int64) : CS := (kI C, kA C, kT C, kV C, x, kW C, kN C, kP C, kC C, kL C, kE C, kQ C)
def rW (C : CS) (x : Nat → Int32) : CS := (kI C, kA C, kT C, kV C, kB C, x, kN C, kP C, kC C, kL C, kE C, kQ C)
def rN (C : CS) (x : Nat → Nat) : CS := (kI C, kA C, kT C, kV C, kB C, kW C, x, kP C, kC C, kL C, kE C, kQ C)
def rP (C : CS) (x : Nat → Nat) : CS := (kI C, kA C, kT C, kV C, kB C, kW C, kN C, x, kC C, kL C, kE C, kQ C)
def rC (C : CS) (x : Nat → Nat) : CS := (kI C, kA C, kT C, kV C, kB C, kW C, kN C, kP C, x, kL C, kE C, kQ C)
def rL (C : CS) (x : Nat → Nat → Int32) : CS := (kI C, kA C, kT C, kV C, kB C, kW C, kN C, kP C, kC C, x, kE C, kQ C)
def rE (C : CS) (x : Nat → Nat → Nat → Int32) : CS := (kI C, kA C, kT C, kV C, kB C, kW C, kN C, kP C, kC C, kL C, x, kQ C)
def rQ (C : CS) (x : Nat → Nat) : CS := (kI C, kA C, kT C, kV C, kB C, kW C, kN C, kP C, kC C, kL C, kE C, x)
abbrev MS : Type := (Nat → Nat → Int32) × (Nat → Nat → Int64) × (Nat → Int32)
abbrev mI (M : MS) : Nat → Nat → Int32 := M.1
abbrev mL (M : MS) : Nat → Nat → Int64 := M.2.1
abbrev mS (M : MS) : Nat → Int32 := M.2.2
abbrev YS : Type := (Nat → Nat) × (Nat → Nat) × (Nat → Int32) × (Nat → Nat → Option Nat) × (Nat → Nat → Nat) × (Nat → Nat)
abbrev yD (Y : YS) : Nat → Nat := Y.1
abbrev yC (Y : YS) : Nat → Nat := Y.2.1
abbrev yM (Y : YS) : Nat → Int32 := Y.2.2.1
abbrev yG (Y : YS) : Nat → Nat → Option Nat := Y.2.2.2.1
abbrev yE (Y : YS) : Nat → Nat → Nat := Y.2.2.2.2.1
abbrev yO (Y : YS) : Nat → Nat := Y.2.2.2.2.2
/-- one place of a two-place, three-place function -/
def up2 {α : Type} (f : Nat → Nat → α) (j k : Nat) (v : α) : Nat → Nat → α := fun j' k' => if j' = j ∧ k' = k then v else f j' k'
def up3 {α : Type} (f : Nat → Nat → Nat → α) (j k w : Nat) (v : α) : Nat → Nat → Nat → α := fun j' k' w' => if j' = j ∧ k' = k ∧ w' = w then v else f j' k' w'
theorem up2_s {α : Type} {f : Nat → Nat → α} {j k : Nat} {v : α} : up2 f j k v j k = v := by simp [up2]
theorem up2_n {α : Type} {f : Nat → Nat → α} {j k j' k' : Nat} {v : α} (h : j' ≠ j ∨ k' ≠ k) : up2 f j k v j' k' = f j' k' := by
  unfold up2; rw [if_neg]; rintro ⟨h1, h2⟩; rcases h with h | h
  · exact h h1
  · exact h h2
theorem up3_n {α : Type} {f : Nat → Nat → Nat → α} {j k w j' k' : Nat} {v : α} (h : j' ≠ j ∨ k' ≠ k) : up3 f j k w v j' k' = f j' k' := by
  funext w'; unfold up3; rw [if_neg]; rintro ⟨h1, h2, -⟩; rcases h with h | h
  · exact h h1
  · exact h h2
theorem up3_w {α : Type} {f : Nat → Nat → Nat → α} {j k w : Nat} {v : α} : up3 f j k w v j k = va_up (f j k) w v := by
  funext w'; unfold up3 va_up; by_cases h : w' = w <;> simp [h]
theorem up2_w {α : Type} {f : Nat → Nat → α} {j k : Nat} {v : α} : up2 f j k v j = va_up (f j) k v := by
  funext w'; unfold up2 va_up; by_cases h : w' = k <;> simp [h]
theorem up2_m {α : Type} {f : Nat → Nat → α} {j k j' : Nat} {v : α} (h : j' ≠ j) : up2 f j k v j' = f j' := by
  funext w'; unfold up2; rw [if_neg (fun q => h q.1)]
def aI (B k : Nat) : Nat := B + 20 + 7 * k
def aA (B j k : Nat) : Nat := B + 21 + 7 * k + j
def aT (B k : Nat) : Nat := B + 26 + 7 * k
def aB (B j : Nat) : Nat := B + 1 + 2 * j
def aL (B j : Nat) : Nat := B + 2 + 2 * j + 7 * (j / 4)
def mad (B j : Nat) : Nat := B + 105 + j
def asz (j : Nat) : Nat := if j = 2 then 13 else 12
def msz (j : Nat) : Nat := if j ≤ 9 then 12 else if j ≤ 12 then 144 else if j = 13 then 3 else if j ≤ 16 then 72 else if j = 17 then 12 else if j ≤ 19 then 144 else if j = 20 then 12 else 13
abbrev miOk (j : Nat) : Prop := j ≤ 16
def npF (B : Nat) (C : CS) : List Value := [.ref (B + 1), .ref (aL B 0), .ref (aB B 1), .ref (aB B 2), .ref (aB B 3), .ref (B + 9), .ref (B + 16), .ref (B + 18), .int (kT C), .ref (B + 19)]
def itF (B : Nat) (C : CS) (k : Nat) : List Value := [.int (nI k), .int (kI C 1 k), .int (kI C 2 k), .int (kI C 3 k), .int (kI C 4 k), .int (kI C 5 k), .int (kI C 6 k), .int (kI C 7 k), .int (kI C 8 k), .int (kI C 9 k), .int (kI C 10 k), .int (kI C 11 k), .int (kI C 12 k), .int (kI C 13 k), .ref (aA B 0 k), .ref (aA B 1 k), .ref (aA B 2 k), .ref (aA B 3 k), .ref (aA B 4 k)]
def moF (B : Nat) (M : MS) : List Value := [.int (mS M 0), .ref (mad B 0), .ref (mad B 1), .ref (mad B 2), .ref (mad B 3), .ref (mad B 4), .ref (mad B 5), .ref (mad B 6), .ref (mad B 7), .ref (mad B 8), .ref (mad B 9), .ref (mad B 10), .ref (mad B 11), .ref (mad B 12), .int (mS M 14), .ref (mad B 13), .ref (mad B 14), .ref (mad B 15), .ref (mad B 16), .int (mS M 19), .int (mS M 20), .ref (mad B 17), .ref (mad B 18), .ref (mad B 19), .ref (mad B 20), .ref (mad B 21), .ref (mad B 22)]
/-- where the lists' cells lie, and that they are apart -/
def yLay (B z0 : Nat) (Y : YS) (C : CS) : Prop :=
  (∀ j, j < 5 → kN C j ≤ yC Y j ∧ yC Y j ≤ 36) ∧ (∀ j, j < 5 → ∀ i, i < kN C j → yG Y j i = some (yE Y j i)) ∧
  (∀ j, j < 5 → (yC Y j = 0 ∧ yD Y j = z0) ∨ (0 < yC Y j ∧ B + 129 ≤ yD Y j ∧ yO Y (yD Y j) = 1000 + j)) ∧
  (∀ i, i < kN C 0 → B + 129 ≤ yE Y 0 i ∧ yO Y (yE Y 0 i) = 1 ∧ kP C i < 12 ∧ kC C i < 12) ∧
  (∀ j, 1 ≤ j → j ≤ 3 → ∀ i, i < kN C j → B + 129 ≤ yE Y j i ∧ yO Y (yE Y j i) = 2000 + 100 * j + i) ∧
  (∀ i, i < kN C 4 → yE Y 4 i = aT B (kQ C i) ∧ kQ C i < 12) ∧
  (kN C 0 ≤ 24 ∧ kN C 1 ≤ 24 ∧ kN C 2 ≤ 24 ∧ kN C 3 ≤ 24 ∧ kN C 4 ≤ 12) ∧ z0 < B
/-- the picture -/
def GRb (B : Nat) (h0 : Heap) (D : va_G) (DA : Nat → ClassId) (z0 : Nat) (Y : YS) (C : CS) (M : MS) (o : Int64) (H : Heap) : Prop :=
  (∀ q, q < B → H[q]? = h0[q]?) ∧ B + 129 ≤ H.size ∧ yLay B z0 Y C ∧
  (va_at D gcl (B, .inr (0, npF B C)) H) ∧
  (va_at D gcl (B + 1, .inl (DA 3, 12, .inr (.inr (.inr (.inr (fun k => some (aI B k))))))) H) ∧
  (va_at D gcl (B + 18, .inl (DA 4, 12, .inr (.inr (.inr (.inr (fun k => some (aT B k))))))) H) ∧
  (va_at D gcl (B + 9, .inl (DA 5, 4, .inr (.inr (.inr (.inr (fun k => some (B + 10 + k))))))) H) ∧
  (va_at D gcl (B + 10, .inr (3, [])) H) ∧
  (va_at D gcl (B + 11, .inr (4, [])) H) ∧
  (va_at D gcl (B + 12, .inr (5, [])) H) ∧
  (va_at D gcl (B + 13, .inr (6, [.ref (B + 14), .ref (B + 15)])) H) ∧
  (va_at D gcl (B + 14, .inl (DA 0, 13, .inr (.inl (kB C)))) H) ∧
  (va_at D gcl (B + 15, .inl (DA 1, 12, .inl (kW C))) H) ∧
  (va_at D gcl (B + 16, .inr (7, [.ref (aL B 4)])) H) ∧
  (va_at D gcl (B + 19, .inl (DA 1, 12, .inl (kV C))) H) ∧
  (∀ (j : Nat), 1 ≤ j → j ≤ 3 → va_at D gcl (aB B j, .inr (2, [.ref (aL B j)])) H) ∧
  (∀ (k : Nat), k < 12 → va_at D gcl (aI B k, .inr (8, itF B C k)) H) ∧
  (∀ (j k : Nat), j < 5 → k < 12 → va_at D gcl (aA B j k, .inl (DA 0, asz j, .inr (.inl (kA C j k)))) H) ∧
  (∀ (k : Nat), k < 12 → va_at D gcl (aT B k, .inr (9, [.ref (aI B k)])) H) ∧
  (va_at D gcl (B + 104, .inr (10, moF B M)) H) ∧
  (∀ (j : Nat), miOk j → va_at D gcl (mad B j, .inl (DA 1, msz j, .inl (mI M j))) H) ∧
  (va_at D gcl (mad B 17, .inl (DA 2, 12, .inl (mI M 17))) H) ∧
  (∀ (j : Nat), 18 ≤ j → j ≤ 22 → va_at D gcl (mad B j, .inl (DA 0, msz j, .inr (.inl (mL M j)))) H) ∧
  (va_at D gcl (B + 128, .inl (DA 0, 1, .inr (.inl (fun _ => o)))) H) ∧
  (∀ (j : Nat), j < 5 → va_at D gcl (aL B j, .inr (1, [.int (yM Y j), .ref (yD Y j), .int (nI (kN C j))])) H) ∧
  (∀ (j : Nat), j < 5 → 0 < yC Y j → va_at D gcl (yD Y j, .inl (DA 6, yC Y j, .inr (.inr (.inr (.inr (yG Y j)))))) H) ∧
  (∀ (i : Nat), i < kN C 0 → va_at D gcl (yE Y 0 i, .inr (11, [.ref (aI B (kP C i)), .ref (aI B (kC C i)), .int (kL C 0 i), .int (kL C 1 i), .int (kL C 2 i)])) H) ∧
  (∀ (j i : Nat), 1 ≤ j → j ≤ 3 → i < kN C j → va_at D gcl (yE Y j i, .inr (12, [.int (kE C j i 0), .int (kE C j i 1), .int (kE C j i 2)])) H)
theorem GRb.old {B : Nat} {h0 : Heap} {D : va_G} {DA : Nat → ClassId} {z0 : Nat} {Y : YS} {C : CS} {M : MS} {o : Int64} {H : Heap} (h : GRb B h0 D DA z0 Y C M o H) : ∀ q, q < B → H[q]? = h0[q]? := h.1
theorem GRb.sz {B : Nat} {h0 : Heap} {D : va_G} {DA : Nat → ClassId} {z0 : Nat} {Y : YS} {C : CS} {M : MS} {o : Int64} {H : Heap} (h : GRb B h0 D DA z0 Y C M o H) : B + 129 ≤ H.size := h.2.1
theorem GRb.lay {B : Nat} {h0 : Heap} {D : va_G} {DA : Nat → ClassId} {z0 : Nat} {Y : YS} {C : CS} {M : MS} {o : Int64} {H : Heap} (h : GRb B h0 D DA z0 Y C M o H) : yLay B z0 Y C := h.2.2.1
theorem GRb.np {B : Nat} {h0 : Heap} {D : va_G} {DA : Nat → ClassId} {z0 : Nat} {Y : YS} {C : CS} {M : MS} {o : Int64} {H : Heap} (h : GRb B h0 D DA z0 Y C M o H) : va_at D gcl (B, .inr (0, npF B C)) H := h.2.2.2.1
theorem GRb.its {B : Nat} {h0 : Heap} {D : va_G} {DA : Nat → ClassId} {z0 : Nat} {Y : YS} {C : CS} {M : MS} {o : Int64} {H : Heap} (h : GRb B h0 D DA z0 Y C M o H) : va_at D gcl (B + 1, .inl (DA 3, 12, .inr (.inr (.inr (.inr (fun k => some (aI B k))))))) H := h.2.2.2.2.1
theorem GRb.trn {B : Nat} {h0 : Heap} {D : va_G} {DA : Nat → ClassId} {z0 : Nat} {Y : YS} {C : CS} {M : MS} {o : Int64} {H : Heap} (h : GRb B h0 D DA z0 Y C M o H) : va_at D gcl (B + 18, .inl (DA 4, 12, .inr (.inr (.inr (.inr (fun k => some (aT B k))))))) H := h.2.2.2.2.2.1
theorem GRb.rul {B : Nat} {h0 : Heap} {D : va_G} {DA : Nat → ClassId} {z0 : Nat} {Y : YS} {C : CS} {M : MS} {o : Int64} {H : Heap} (h : GRb B h0 D DA z0 Y C M o H) : va_at D gcl (B + 9, .inl (DA 5, 4, .inr (.inr (.inr (.inr (fun k => some (B + 10 + k))))))) H := h.2.2.2.2.2.2.1
theorem GRb.an {B : Nat} {h0 : Heap} {D : va_G} {DA : Nat → ClassId} {z0 : Nat} {Y : YS} {C : CS} {M : MS} {o : Int64} {H : Heap} (h : GRb B h0 D DA z0 Y C M o H) : va_at D gcl (B + 10, .inr (3, [])) H := h.2.2.2.2.2.2.2.1
theorem GRb.mu {B : Nat} {h0 : Heap} {D : va_G} {DA : Nat → ClassId} {z0 : Nat} {Y : YS} {C : CS} {M : MS} {o : Int64} {H : Heap} (h : GRb B h0 D DA z0 Y C M o H) : va_at D gcl (B + 11, .inr (4, [])) H := h.2.2.2.2.2.2.2.2.1
theorem GRb.co {B : Nat} {h0 : Heap} {D : va_G} {DA : Nat → ClassId} {z0 : Nat} {Y : YS} {C : CS} {M : MS} {o : Int64} {H : Heap} (h : GRb B h0 D DA z0 Y C M o H) : va_at D gcl (B + 12, .inr (5, [])) H := h.2.2.2.2.2.2.2.2.2.1
theorem GRb.lc {B : Nat} {h0 : Heap} {D : va_G} {DA : Nat → ClassId} {z0 : Nat} {Y : YS} {C : CS} {M : MS} {o : Int64} {H : Heap} (h : GRb B h0 D DA z0 Y C M o H) : va_at D gcl (B + 13, .inr (6, [.ref (B + 14), .ref (B + 15)])) H := h.2.2.2.2.2.2.2.2.2.2.1
theorem GRb.bes {B : Nat} {h0 : Heap} {D : va_G} {DA : Nat → ClassId} {z0 : Nat} {Y : YS} {C : CS} {M : MS} {o : Int64} {H : Heap} (h : GRb B h0 D DA z0 Y C M o H) : va_at D gcl (B + 14, .inl (DA 0, 13, .inr (.inl (kB C)))) H := h.2.2.2.2.2.2.2.2.2.2.2.1
theorem GRb.las {B : Nat} {h0 : Heap} {D : va_G} {DA : Nat → ClassId} {z0 : Nat} {Y : YS} {C : CS} {M : MS} {o : Int64} {H : Heap} (h : GRb B h0 D DA z0 Y C M o H) : va_at D gcl (B + 15, .inl (DA 1, 12, .inl (kW C))) H := h.2.2.2.2.2.2.2.2.2.2.2.2.1
theorem GRb.wai {B : Nat} {h0 : Heap} {D : va_G} {DA : Nat → ClassId} {z0 : Nat} {Y : YS} {C : CS} {M : MS} {o : Int64} {H : Heap} (h : GRb B h0 D DA z0 Y C M o H) : va_at D gcl (B + 16, .inr (7, [.ref (aL B 4)])) H := h.2.2.2.2.2.2.2.2.2.2.2.2.2.1
theorem GRb.lev {B : Nat} {h0 : Heap} {D : va_G} {DA : Nat → ClassId} {z0 : Nat} {Y : YS} {C : CS} {M : MS} {o : Int64} {H : Heap} (h : GRb B h0 D DA z0 Y C M o H) : va_at D gcl (B + 19, .inl (DA 1, 12, .inl (kV C))) H := h.2.2.2.2.2.2.2.2.2.2.2.2.2.2.1
theorem GRb.bok {B : Nat} {h0 : Heap} {D : va_G} {DA : Nat → ClassId} {z0 : Nat} {Y : YS} {C : CS} {M : MS} {o : Int64} {H : Heap} (h : GRb B h0 D DA z0 Y C M o H) : ∀ (j : Nat), 1 ≤ j → j ≤ 3 → va_at D gcl (aB B j, .inr (2, [.ref (aL B j)])) H := h.2.2.2.2.2.2.2.2.2.2.2.2.2.2.2.1
theorem GRb.itm {B : Nat} {h0 : Heap} {D : va_G} {DA : Nat → ClassId} {z0 : Nat} {Y : YS} {C : CS} {M : MS} {o : Int64} {H : Heap} (h : GRb B h0 D DA z0 Y C M o H) : ∀ (k : Nat), k < 12 → va_at D gcl (aI B k, .inr (8, itF B C k)) H := h.2.2.2.2.2.2.2.2.2.2.2.2.2.2.2.2.1
theorem GRb.arr {B : Nat} {h0 : Heap} {D : va_G} {DA : Nat → ClassId} {z0 : Nat} {Y : YS} {C : CS} {M : MS} {o : Int64} {H : Heap} (h : GRb B h0 D DA z0 Y C M o H) : ∀ (j k : Nat), j < 5 → k < 12 → va_at D gcl (aA B j k, .inl (DA 0, asz j, .inr (.inl (kA C j k)))) H := h.2.2.2.2.2.2.2.2.2.2.2.2.2.2.2.2.2.1
theorem GRb.tur {B : Nat} {h0 : Heap} {D : va_G} {DA : Nat → ClassId} {z0 : Nat} {Y : YS} {C : CS} {M : MS} {o : Int64} {H : Heap} (h : GRb B h0 D DA z0 Y C M o H) : ∀ (k : Nat), k < 12 → va_at D gcl (aT B k, .inr (9, [.ref (aI B k)])) H := h.2.2.2.2.2.2.2.2.2.2.2.2.2.2.2.2.2.2.1
theorem GRb.mo {B : Nat} {h0 : Heap} {D : va_G} {DA : Nat → ClassId} {z0 : Nat} {Y : YS} {C : CS} {M : MS} {o : Int64} {H : Heap} (h : GRb B h0 D DA z0 Y C M o H) : va_at D gcl (B + 104, .inr (10, moF B M)) H := h.2.2.2.2.2.2.2.2.2.2.2.2.2.2.2.2.2.2.2.1
theorem GRb.mia {B : Nat} {h0 : Heap} {D : va_G} {DA : Nat → ClassId} {z0 : Nat} {Y : YS} {C : CS} {M : MS} {o : Int64} {H : Heap} (h : GRb B h0 D DA z0 Y C M o H) : ∀ (j : Nat), miOk j → va_at D gcl (mad B j, .inl (DA 1, msz j, .inl (mI M j))) H := h.2.2.2.2.2.2.2.2.2.2.2.2.2.2.2.2.2.2.2.2.1
theorem GRb.mza {B : Nat} {h0 : Heap} {D : va_G} {DA : Nat → ClassId} {z0 : Nat} {Y : YS} {C : CS} {M : MS} {o : Int64} {H : Heap} (h : GRb B h0 D DA z0 Y C M o H) : va_at D gcl (mad B 17, .inl (DA 2, 12, .inl (mI M 17))) H := h.2.2.2.2.2.2.2.2.2.2.2.2.2.2.2.2.2.2.2.2.2.1
theorem GRb.mla {B : Nat} {h0 : Heap} {D : va_G} {DA : Nat → ClassId} {z0 : Nat} {Y : YS} {C : CS} {M : MS} {o : Int64} {H : Heap} (h : GRb B h0 D DA z0 Y C M o H) : ∀ (j : Nat), 18 ≤ j → j ≤ 22 → va_at D gcl (mad B j, .inl (DA 0, msz j, .inr (.inl (mL M j)))) H := h.2.2.2.2.2.2.2.2.2.2.2.2.2.2.2.2.2.2.2.2.2.2.1
theorem GRb.out {B : Nat} {h0 : Heap} {D : va_G} {DA : Nat → ClassId} {z0 : Nat} {Y : YS} {C : CS} {M : MS} {o : Int64} {H : Heap} (h : GRb B h0 D DA z0 Y C M o H) : va_at D gcl (B + 128, .inl (DA 0, 1, .inr (.inl (fun _ => o)))) H := h.2.2.2.2.2.2.2.2.2.2.2.2.2.2.2.2.2.2.2.2.2.2.2.1
theorem GRb.lob {B : Nat} {h0 : Heap} {D : va_G} {DA : Nat → ClassId} {z0 : Nat} {Y : YS} {C : CS} {M : MS} {o : Int64} {H : Heap} (h : GRb B h0 D DA z0 Y C M o H) : ∀ (j : Nat), j < 5 → va_at D gcl (aL B j, .inr (1, [.int (yM Y j), .ref (yD Y j), .int (nI (kN C j))])) H := h.2.2.2.2.2.2.2.2.2.2.2.2.2.2.2.2.2.2.2.2.2.2.2.2.1
theorem GRb.lda {B : Nat} {h0 : Heap} {D : va_G} {DA : Nat → ClassId} {z0 : Nat} {Y : YS} {C : CS} {M : MS} {o : Int64} {H : Heap} (h : GRb B h0 D DA z0 Y C M o H) : ∀ (j : Nat), j < 5 → 0 < yC Y j → va_at D gcl (yD Y j, .inl (DA 6, yC Y j, .inr (.inr (.inr (.inr (yG Y j)))))) H := h.2.2.2.2.2.2.2.2.2.2.2.2.2.2.2.2.2.2.2.2.2.2.2.2.2.1
theorem GRb.lin {B : Nat} {h0 : Heap} {D : va_G} {DA : Nat → ClassId} {z0 : Nat} {Y : YS} {C : CS} {M : MS} {o : Int64} {H : Heap} (h : GRb B h0 D DA z0 Y C M o H) : ∀ (i : Nat), i < kN C 0 → va_at D gcl (yE Y 0 i, .inr (11, [.ref (aI B (kP C i)), .ref (aI B (kC C i)), .int (kL C 0 i), .int (kL C 1 i), .int (kL C 2 i)])) H := h.2.2.2.2.2.2.2.2.2.2.2.2.2.2.2.2.2.2.2.2.2.2.2.2.2.2.1
theorem GRb.ent {B : Nat} {h0 : Heap} {D : va_G} {DA : Nat → ClassId} {z0 : Nat} {Y : YS} {C : CS} {M : MS} {o : Int64} {H : Heap} (h : GRb B h0 D DA z0 Y C M o H) : ∀ (j i : Nat), 1 ≤ j → j ≤ 3 → i < kN C j → va_at D gcl (yE Y j i, .inr (12, [.int (kE C j i 0), .int (kE C j i 1), .int (kE C j i 2)])) H := h.2.2.2.2.2.2.2.2.2.2.2.2.2.2.2.2.2.2.2.2.2.2.2.2.2.2.2
theorem GRb.pI {B : Nat} {h0 : Heap} {D : va_G} {DA : Nat → ClassId} {z0 : Nat} {Y : YS} {C : CS} {M : MS} {o : Int64} {H : Heap} {H1 : Heap} {j k : Nat} {v : Int32} (hj : 1 ≤ j) (hj2 : j ≤ 13) (hk : k < 12) (h : GRb B h0 D DA z0 Y C M o H) (hU : gx_U (aI B k) H H1) (hA : va_at D gcl (aI B k, .inr (8, (itF B C k).set j (.int v))) H1) : GRb B h0 D DA z0 Y (rI C (up2 (kI C) j k v)) M o H1 := by
  have hd : ∀ q, B + 129 ≤ q → q ≠ aI B k := fun q hq => by (try simp only [aI, aA, aT, aB, aL, mad, miOk] at *); omega
  have hB : B ≤ aI B k ∧ aI B k < B + 129 := by (try simp only [aI, aA, aT, aB, aL, mad, miOk] at *); omega
  refine ⟨fun q hq => (hU.2 q (by omega)).trans (h.old q hq), by rw [hU.1]; exact h.sz, h.lay, ?_, ?_, ?_, ?_, ?_, ?_, ?_, ?_, ?_, ?_, ?_, ?_, ?_, ?_, ?_, ?_, ?_, ?_, ?_, ?_, ?_, ?_, ?_, ?_, ?_⟩
  · exact hU.at (by (try simp only [aI, aA, aT, aB, aL, mad, miOk] at *); omega) h.np
  · exact hU.at (by (try simp only [aI, aA, aT, aB, aL, mad, miOk] at *); omega) h.its
  · exact hU.at (by (try simp only [aI, aA, aT, aB, aL, mad, miOk] at *); omega) h.trn
  · exact hU.at (by (try simp only [aI, aA, aT, aB, aL, mad, miOk] at *); omega) h.rul
  · exact hU.at (by (try simp only [aI, aA, aT, aB, aL, mad, miOk] at *); omega) h.an
  · exact hU.at (by (try simp only [aI, aA, aT, aB, aL, mad, miOk] at *); omega) h.mu
  · exact hU.at (by (try simp only [aI, aA, aT, aB, aL, mad, miOk] at *); omega) h.co
  · exact hU.at (by (try simp only [aI, aA, aT, aB, aL, mad, miOk] at *); omega) h.lc
  · exact hU.at (by (try simp only [aI, aA, aT, aB, aL, mad, miOk] at *); omega) h.bes
  · exact hU.at (by (try simp only [aI, aA, aT, aB, aL, mad, miOk] at *); omega) h.las
  · exact hU.at (by (try simp only [aI, aA, aT, aB, aL, mad, miOk] at *); omega) h.wai
  · exact hU.at (by (try simp only [aI, aA, aT, aB, aL, mad, miOk] at *); omega) h.lev
  · intro j q0 q1
    exact hU.at (by (try simp only [aI, aA, aT, aB, aL, mad, miOk] at *); omega) (h.bok j q0 q1)
  · intro k' q0
    by_cases e : k' = k
    · subst e
      have e2 : itF B (rI C (up2 (kI C) j k' v)) k' = (itF B C k').set j (.int v) := by
        rcases (show j = 1 ∨ j = 2 ∨ j = 3 ∨ j = 4 ∨ j = 5 ∨ j = 6 ∨ j = 7 ∨ j = 8 ∨ j = 9 ∨ j = 10 ∨ j = 11 ∨ j = 12 ∨ j = 13 by omega) with e | e | e | e | e | e | e | e | e | e | e | e | e <;> subst e <;> simp [itF, rI, kI, up2]
      rw [e2]
      exact hA
    · have e2 : itF B (rI C (up2 (kI C) j k v)) k' = itF B C k' := by
        simp [itF, rI, kI, up2, e]
      rw [e2]
      exact hU.at (by simp only [aI]; omega) (h.itm k' q0)
  · intro j k q0 q1
    exact hU.at (by (try simp only [aI, aA, aT, aB, aL, mad, miOk] at *); omega) (h.arr j k q0 q1)
  · intro k q0
    exact hU.at (by (try simp only [aI, aA, aT, aB, aL, mad, miOk] at *); omega) (h.tur k q0)
  · exact hU.at (by (try simp only [aI, aA, aT, aB, aL, mad, miOk] at *); omega) h.mo
  · intro j q0
    exact hU.at (by (try simp only [aI, aA, aT, aB, aL, mad, miOk] at *); omega) (h.mia j q0)
  · exact hU.at (by (try simp only [aI, aA, aT, aB, aL, mad, miOk] at *); omega) h.mza
  · intro j q0 q1
    exact hU.at (by (try simp only [aI, aA, aT, aB, aL, mad, miOk] at *); omega) (h.mla j q0 q1)
  · exact hU.at (by (try simp only [aI, aA, aT, aB, aL, mad, miOk] at *); omega) h.out
  · intro j q0
    exact hU.at (by (try simp only [aI, aA, aT, aB, aL, mad, miOk] at *); omega) (h.lob j q0)
  · intro j q0 q1
    refine hU.at ?_ (h.lda j q0 q1)
    rcases h.lay.2.2.1 j q0 with ⟨-, e1⟩ | ⟨-, e1, -⟩
    · rw [e1]; have := h.lay.2.2.2.2.2.2.2; omega
    · exact hd _ e1
  · intro i q0
    exact hU.at (hd _ (h.lay.2.2.2.1 i q0).1) (h.lin i q0)
  · intro j i q0 q1 q2
    exact hU.at (hd _ (h.lay.2.2.2.2.1 j q0 q1 i q2).1) (h.ent j i q0 q1 q2)

theorem GRb.pA {B : Nat} {h0 : Heap} {D : va_G} {DA : Nat → ClassId} {z0 : Nat} {Y : YS} {C : CS} {M : MS} {o : Int64} {H : Heap} {H1 : Heap} {j k w : Nat} {v : Int64} (hj : j < 5) (hk : k < 12) (h : GRb B h0 D DA z0 Y C M o H) (hU : gx_U (aA B j k) H H1) (hA : va_at D gcl (aA B j k, .inl (DA 0, asz j, .inr (.inl (va_up (kA C j k) w v)))) H1) : GRb B h0 D DA z0 Y (rA C (up3 (kA C) j k w v)) M o H1 := by
  have hd : ∀ q, B + 129 ≤ q → q ≠ aA B j k := fun q hq => by (try simp only [aI, aA, aT, aB, aL, mad, miOk] at *); omega
  have hB : B ≤ aA B j k ∧ aA B j k < B + 129 := by (try simp only [aI, aA, aT, aB, aL, mad, miOk] at *); omega
  refine ⟨fun q hq => (hU.2 q (by omega)).trans (h.old q hq), by rw [hU.1]; exact h.sz, h.lay, ?_, ?_, ?_, ?_, ?_, ?_, ?_, ?_, ?_, ?_, ?_, ?_, ?_, ?_, ?_, ?_, ?_, ?_, ?_, ?_, ?_, ?_, ?_, ?_, ?_⟩
  · exact hU.at (by (try simp only [aI, aA, aT, aB, aL, mad, miOk] at *); omega) h.np
  · exact hU.at (by (try simp only [aI, aA, aT, aB, aL, mad, miOk] at *); omega) h.its
  · exact hU.at (by (try simp only [aI, aA, aT, aB, aL, mad, miOk] at *); omega) h.trn
  · exact hU.at (by (try simp only [aI, aA, aT, aB, aL, mad, miOk] at *); omega) h.rul
  · exact hU.at (by (try simp only [aI, aA, aT, aB, aL, mad, miOk] at *); omega) h.an
  · exact hU.at (by (try simp only [aI, aA, aT, aB, aL, mad, miOk] at *); omega) h.mu
  · exact hU.at (by (try simp only [aI, aA, aT, aB, aL, mad, miOk] at *); omega) h.co
  · exact hU.at (by (try simp only [aI, aA, aT, aB, aL, mad, miOk] at *); omega) h.lc
  · exact hU.at (by (try simp only [aI, aA, aT, aB, aL, mad, miOk] at *); omega) h.bes
  · exact hU.at (by (try simp only [aI, aA, aT, aB, aL, mad, miOk] at *); omega) h.las
  · exact hU.at (by (try simp only [aI, aA, aT, aB, aL, mad, miOk] at *); omega) h.wai
  · exact hU.at (by (try simp only [aI, aA, aT, aB, aL, mad, miOk] at *); omega) h.lev
  · intro j q0 q1
    exact hU.at (by (try simp only [aI, aA, aT, aB, aL, mad, miOk] at *); omega) (h.bok j q0 q1)
  · intro k q0
    exact hU.at (by (try simp only [aI, aA, aT, aB, aL, mad, miOk] at *); omega) (h.itm k q0)
  · intro j' k' q0 q1
    by_cases e : j' = j ∧ k' = k
    · obtain ⟨e1, e2⟩ := e
      subst e1; subst e2
      show va_at D gcl (aA B j' k', .inl (DA 0, asz j', .inr (.inl (up3 (kA C) j' k' w v j' k')))) H1
      rw [up3_w]
      exact hA
    · have e3 : j' ≠ j ∨ k' ≠ k := by omega
      show va_at D gcl (aA B j' k', .inl (DA 0, asz j', .inr (.inl (up3 (kA C) j k w v j' k')))) H1
      rw [up3_n e3]
      exact hU.at (by simp only [aA]; omega) (h.arr j' k' q0 q1)
  · intro k q0
    exact hU.at (by (try simp only [aI, aA, aT, aB, aL, mad, miOk] at *); omega) (h.tur k q0)
  · exact hU.at (by (try simp only [aI, aA, aT, aB, aL, mad, miOk] at *); omega) h.mo
  · intro j q0
    exact hU.at (by (try simp only [aI, aA, aT, aB, aL, mad, miOk] at *); omega) (h.mia j q0)
  · exact hU.at (by (try simp only [aI, aA, aT, aB, aL, mad, miOk] at *); omega) h.mza
  · intro j q0 q1
    exact hU.at (by (try simp only [aI, aA, aT, aB, aL, mad, miOk] at *); omega) (h.mla j q0 q1)
  · exact hU.at (by (try simp only [aI, aA, aT, aB, aL, mad, miOk] at *); omega) h.out
  · intro j q0
    exact hU.at (by (try simp only [aI, aA, aT, aB, aL, mad, miOk] at *); omega) (h.lob j q0)
  · intro j q0 q1
    refine hU.at ?_ (h.lda j q0 q1)
    rcases h.lay.2.2.1 j q0 with ⟨-, e1⟩ | ⟨-, e1, -⟩
    · rw [e1]; have := h.lay.2.2.2.2.2.2.2; omega
    · exact hd _ e1
  · intro i q0
    exact hU.at (hd _ (h.lay.2.2.2.1 i q0).1) (h.lin i q0)
  · intro j i q0 q1 q2
    exact hU.at (hd _ (h.lay.2.2.2.2.1 j q0 q1 i q2).1) (h.ent j i q0 q1 q2)

theorem GRb.pT {B : Nat} {h0 : Heap} {D : va_G} {DA : Nat → ClassId} {z0 : Nat} {Y : YS} {C : CS} {M : MS} {o : Int64} {H : Heap} {H1 : Heap} {v : Int32} (h : GRb B h0 D DA z0 Y C M o H) (hU : gx_U (B) H H1) (hA : va_at D gcl (B, .inr (0, (npF B C).set 8 (.int v))) H1) : GRb B h0 D DA z0 Y (rT C v) M o H1 := by
  have hd : ∀ q, B + 129 ≤ q → q ≠ B := fun q hq => by (try simp only [aI, aA, aT, aB, aL, mad, miOk] at *); omega
  have hB : B ≤ B ∧ B < B + 129 := by (try simp only [aI, aA, aT, aB, aL, mad, miOk] at *); omega
  refine ⟨fun q hq => (hU.2 q (by omega)).trans (h.old q hq), by rw [hU.1]; exact h.sz, h.lay, ?_, ?_, ?_, ?_, ?_, ?_, ?_, ?_, ?_, ?_, ?_, ?_, ?_, ?_, ?_, ?_, ?_, ?_, ?_, ?_, ?_, ?_, ?_, ?_, ?_⟩
  · exact hA
  · exact hU.at (by (try simp only [aI, aA, aT, aB, aL, mad, miOk] at *); omega) h.its
  · exact hU.at (by (try simp only [aI, aA, aT, aB, aL, mad, miOk] at *); omega) h.trn
  · exact hU.at (by (try simp only [aI, aA, aT, aB, aL, mad, miOk] at *); omega) h.rul
  · exact hU.at (by (try simp only [aI, aA, aT, aB, aL, mad, miOk] at *); omega) h.an
  · exact hU.at (by (try simp only [aI, aA, aT, aB, aL, mad, miOk] at *); omega) h.mu
  · exact hU.at (by (try simp only [aI, aA, aT, aB, aL, mad, miOk] at *); omega) h.co
  · exact hU.at (by (try simp only [aI, aA, aT, aB, aL, mad, miOk] at *); omega) h.lc
  · exact hU.at (by (try simp only [aI, aA, aT, aB, aL, mad, miOk] at *); omega) h.bes
  · exact hU.at (by (try simp only [aI, aA, aT, aB, aL, mad, miOk] at *); omega) h.las
  · exact hU.at (by (try simp only [aI, aA, aT, aB, aL, mad, miOk] at *); omega) h.wai
  · exact hU.at (by (try simp only [aI, aA, aT, aB, aL, mad, miOk] at *); omega) h.lev
  · intro j q0 q1
    exact hU.at (by (try simp only [aI, aA, aT, aB, aL, mad, miOk] at *); omega) (h.bok j q0 q1)
  · intro k q0
    exact hU.at (by (try simp only [aI, aA, aT, aB, aL, mad, miOk] at *); omega) (h.itm k q0)
  · intro j k q0 q1
    exact hU.at (by (try simp only [aI, aA, aT, aB, aL, mad, miOk] at *); omega) (h.arr j k q0 q1)
  · intro k q0
    exact hU.at (by (try simp only [aI, aA, aT, aB, aL, mad, miOk] at *); omega) (h.tur k q0)
  · exact hU.at (by (try simp only [aI, aA, aT, aB, aL, mad, miOk] at *); omega) h.mo
  · intro j q0
    exact hU.at (by (try simp only [aI, aA, aT, aB, aL, mad, miOk] at *); omega) (h.mia j q0)
  · exact hU.at (by (try simp only [aI, aA, aT, aB, aL, mad, miOk] at *); omega) h.mza
  · intro j q0 q1
    exact hU.at (by (try simp only [aI, aA, aT, aB, aL, mad, miOk] at *); omega) (h.mla j q0 q1)
  · exact hU.at (by (try simp only [aI, aA, aT, aB, aL, mad, miOk] at *); omega) h.out
  · intro j q0
    exact hU.at (by (try simp only [aI, aA, aT, aB, aL, mad, miOk] at *); omega) (h.lob j q0)
  · intro j q0 q1
    refine hU.at ?_ (h.lda j q0 q1)
    rcases h.lay.2.2.1 j q0 with ⟨-, e1⟩ | ⟨-, e1, -⟩
    · rw [e1]; have := h.lay.2.2.2.2.2.2.2; omega
    · exact hd _ e1
  · intro i q0
    exact hU.at (hd _ (h.lay.2.2.2.1 i q0).1) (h.lin i q0)
  · intro j i q0 q1 q2
    exact hU.at (hd _ (h.lay.2.2.2.2.1 j q0 q1 i q2).1) (h.ent j i q0 q1 q2)

theorem GRb.pV {B : Nat} {h0 : Heap} {D : va_G} {DA : Nat → ClassId} {z0 : Nat} {Y : YS} {C : CS} {M : MS} {o : Int64} {H : Heap} {H1 : Heap} {k : Nat} {v : Int32} (h : GRb B h0 D DA z0 Y C M o H) (hU : gx_U (B + 19) H H1) (hA : va_at D gcl (B + 19, .inl (DA 1, 12, .inl (va_up (kV C) k v))) H1) : GRb B h0 D DA z0 Y (rV C (va_up (kV C) k v)) M o H1 := by
  have hd : ∀ q, B + 129 ≤ q → q ≠ B + 19 := fun q hq => by (try simp only [aI, aA, aT, aB, aL, mad, miOk] at *); omega
  have hB : B ≤ B + 19 ∧ B + 19 < B + 129 := by (try simp only [aI, aA, aT, aB, aL, mad, miOk] at *); omega
  refine ⟨fun q hq => (hU.2 q (by omega)).trans (h.old q hq), by rw [hU.1]; exact h.sz, h.lay, ?_, ?_, ?_, ?_, ?_, ?_, ?_, ?_, ?_, ?_, ?_, ?_, ?_, ?_, ?_, ?_, ?_, ?_, ?_, ?_, ?_, ?_, ?_, ?_, ?_⟩
  · exact hU.at (by (try simp only [aI, aA, aT, aB, aL, mad, miOk] at *); omega) h.np
  · exact hU.at (by (try simp only [aI, aA, aT, aB, aL, mad, miOk] at *); omega) h.its
  · exact hU.at (by (try simp only [aI, aA, aT, aB, aL, mad, miOk] at *); omega) h.trn
  · exact hU.at (by (try simp only [aI, aA, aT, aB, aL, mad, miOk] at *); omega) h.rul
  · exact hU.at (by (try simp only [aI, aA, aT, aB, aL, mad, miOk] at *); omega) h.an
  · exact hU.at (by (try simp only [aI, aA, aT, aB, aL, mad, miOk] at *); omega) h.mu
  · exact hU.at (by (try simp only [aI, aA, aT, aB, aL, mad, miOk] at *); omega) h.co
  · exact hU.at (by (try simp only [aI, aA, aT, aB, aL, mad, miOk] at *); omega) h.lc
  · exact hU.at (by (try simp only [aI, aA, aT, aB, aL, mad, miOk] at *); omega) h.bes
  · exact hU.at (by (try simp only [aI, aA, aT, aB, aL, mad, miOk] at *); omega) h.las
  · exact hU.at (by (try simp only [aI, aA, aT, aB, aL, mad, miOk] at *); omega) h.wai
  · exact hA
  · intro j q0 q1
    exact hU.at (by (try simp only [aI, aA, aT, aB, aL, mad, miOk] at *); omega) (h.bok j q0 q1)
  · intro k q0
    exact hU.at (by (try simp only [aI, aA, aT, aB, aL, mad, miOk] at *); omega) (h.itm k q0)
  · intro j k q0 q1
    exact hU.at (by (try simp only [aI, aA, aT, aB, aL, mad, miOk] at *); omega) (h.arr j k q0 q1)
  · intro k q0
    exact hU.at (by (try simp only [aI, aA, aT, aB, aL, mad, miOk] at *); omega) (h.tur k q0)
  · exact hU.at (by (try simp only [aI, aA, aT, aB, aL, mad, miOk] at *); omega) h.mo
  · intro j q0
    exact hU.at (by (try simp only [aI, aA, aT, aB, aL, mad, miOk] at *); omega) (h.mia j q0)
  · exact hU.at (by (try simp only [aI, aA, aT, aB, aL, mad, miOk] at *); omega) h.mza
  · intro j q0 q1
    exact hU.at (by (try simp only [aI, aA, aT, aB, aL, mad, miOk] at *); omega) (h.mla j q0 q1)
  · exact hU.at (by (try simp only [aI, aA, aT, aB, aL, mad, miOk] at *); omega) h.out
  · intro j q0
    exact hU.at (by (try simp only [aI, aA, aT, aB, aL, mad, miOk] at *); omega) (h.lob j q0)
  · intro j q0 q1
    refine hU.at ?_ (h.lda j q0 q1)
    rcases h.lay.2.2.1 j q0 with ⟨-, e1⟩ | ⟨-, e1, -⟩
    · rw [e1]; have := h.lay.2.2.2.2.2.2.2; omega
    · exact hd _ e1
  · intro i q0
    exact hU.at (hd _ (h.lay.2.2.2.1 i q0).1) (h.lin i q0)
  · intro j i q0 q1 q2
    exact hU.at (hd _ (h.lay.2.2.2.2.1 j q0 q1 i q2).1) (h.ent j i q0 q1 q2)

theorem GRb.pB {B : Nat} {h0 : Heap} {D : va_G} {DA : Nat → ClassId} {z0 : Nat} {Y : YS} {C : CS} {M : MS} {o : Int64} {H : Heap} {H1 : Heap} {k : Nat} {v : Int64} (h : GRb B h0 D DA z0 Y C M o H) (hU : gx_U (B + 14) H H1) (hA : va_at D gcl (B + 14, .inl (DA 0, 13, .inr (.inl (va_up (kB C) k v)))) H1) : GRb B h0 D DA z0 Y (rB C (va_up (kB C) k v)) M o H1 := by
  have hd : ∀ q, B + 129 ≤ q → q ≠ B + 14 := fun q hq => by (try simp only [aI, aA, aT, aB, aL, mad, miOk] at *); omega
  have hB : B ≤ B + 14 ∧ B + 14 < B + 129 := by (try simp only [aI, aA, aT, aB, aL, mad, miOk] at *); omega
  refine ⟨fun q hq => (hU.2 q (by omega)).trans (h.old q hq), by rw [hU.1]; exact h.sz, h.lay, ?_, ?_, ?_, ?_, ?_, ?_, ?_, ?_, ?_, ?_, ?_, ?_, ?_, ?_, ?_, ?_, ?_, ?_, ?_, ?_, ?_, ?_, ?_, ?_, ?_⟩
  · exact hU.at (by (try simp only [aI, aA, aT, aB, aL, mad, miOk] at *); omega) h.np
  · exact hU.at (by (try simp only [aI, aA, aT, aB, aL, mad, miOk] at *); omega) h.its
  · exact hU.at (by (try simp only [aI, aA, aT, aB, aL, mad, miOk] at *); omega) h.trn
  · exact hU.at (by (try simp only [aI, aA, aT, aB, aL, mad, miOk] at *); omega) h.rul
  · exact hU.at (by (try simp only [aI, aA, aT, aB, aL, mad, miOk] at *); omega) h.an
  · exact hU.at (by (try simp only [aI, aA, aT, aB, aL, mad, miOk] at *); omega) h.mu
  · exact hU.at (by (try simp only [aI, aA, aT, aB, aL, mad, miOk] at *); omega) h.co
  · exact hU.at (by (try simp only [aI, aA, aT, aB, aL, mad, miOk] at *); omega) h.lc
  · exact hA
  · exact hU.at (by (try simp only [aI, aA, aT, aB, aL, mad, miOk] at *); omega) h.las
  · exact hU.at (by (try simp only [aI, aA, aT, aB, aL, mad, miOk] at *); omega) h.wai
  · exact hU.at (by (try simp only [aI, aA, aT, aB, aL, mad, miOk] at *); omega) h.lev
  · intro j q0 q1
    exact hU.at (by (try simp only [aI, aA, aT, aB, aL, mad, miOk] at *); omega) (h.bok j q0 q1)
  · intro k q0
    exact hU.at (by (try simp only [aI, aA, aT, aB, aL, mad, miOk] at *); omega) (h.itm k q0)
  · intro j k q0 q1
    exact hU.at (by (try simp only [aI, aA, aT, aB, aL, mad, miOk] at *); omega) (h.arr j k q0 q1)
  · intro k q0
    exact hU.at (by (try simp only [aI, aA, aT, aB, aL, mad, miOk] at *); omega) (h.tur k q0)
  · exact hU.at (by (try simp only [aI, aA, aT, aB, aL, mad, miOk] at *); omega) h.mo
  · intro j q0
    exact hU.at (by (try simp only [aI, aA, aT, aB, aL, mad, miOk] at *); omega) (h.mia j q0)
  · exact hU.at (by (try simp only [aI, aA, aT, aB, aL, mad, miOk] at *); omega) h.mza
  · intro j q0 q1
    exact hU.at (by (try simp only [aI, aA, aT, aB, aL, mad, miOk] at *); omega) (h.mla j q0 q1)
  · exact hU.at (by (try simp only [aI, aA, aT, aB, aL, mad, miOk] at *); omega) h.out
  · intro j q0
    exact hU.at (by (try simp only [aI, aA, aT, aB, aL, mad, miOk] at *); omega) (h.lob j q0)
  · intro j q0 q1
    refine hU.at ?_ (h.lda j q0 q1)
    rcases h.lay.2.2.1 j q0 with ⟨-, e1⟩ | ⟨-, e1, -⟩
    · rw [e1]; have := h.lay.2.2.2.2.2.2.2; omega
    · exact hd _ e1
  · intro i q0
    exact hU.at (hd _ (h.lay.2.2.2.1 i q0).1) (h.lin i q0)
  · intro j i q0 q1 q2
    exact hU.at (hd _ (h.lay.2.2.2.2.1 j q0 q1 i q2).1) (h.ent j i q0 q1 q2)

theorem GRb.pW {B : Nat} {h0 : Heap} {D : va_G} {DA : Nat → ClassId} {z0 : Nat} {Y : YS} {C : CS} {M : MS} {o : Int64} {H : Heap} {H1 : Heap} {k : Nat} {v : Int32} (h : GRb B h0 D DA z0 Y C M o H) (hU : gx_U (B + 15) H H1) (hA : va_at D gcl (B + 15, .inl (DA 1, 12, .inl (va_up (kW C) k v))) H1) : GRb B h0 D DA z0 Y (rW C (va_up (kW C) k v)) M o H1 := by
  have hd : ∀ q, B + 129 ≤ q → q ≠ B + 15 := fun q hq => by (try simp only [aI, aA, aT, aB, aL, mad, miOk] at *); omega
  have hB : B ≤ B + 15 ∧ B + 15 < B + 129 := by (try simp only [aI, aA, aT, aB, aL, mad, miOk] at *); omega
  refine ⟨fun q hq => (hU.2 q (by omega)).trans (h.old q hq), by rw [hU.1]; exact h.sz, h.lay, ?_, ?_, ?_, ?_, ?_, ?_, ?_, ?_, ?_, ?_, ?_, ?_, ?_, ?_, ?_, ?_, ?_, ?_, ?_, ?_, ?_, ?_, ?_, ?_, ?_⟩
  · exact hU.at (by (try simp only [aI, aA, aT, aB, aL, mad, miOk] at *); omega) h.np
  · exact hU.at (by (try simp only [aI, aA, aT, aB, aL, mad, miOk] at *); omega) h.its
  · exact hU.at (by (try simp only [aI, aA, aT, aB, aL, mad, miOk] at *); omega) h.trn
  · exact hU.at (by (try simp only [aI, aA, aT, aB, aL, mad, miOk] at *); omega) h.rul
  · exact hU.at (by (try simp only [aI, aA, aT, aB, aL, mad, miOk] at *); omega) h.an
  · exact hU.at (by (try simp only [aI, aA, aT, aB, aL, mad, miOk] at *); omega) h.mu
  · exact hU.at (by (try simp only [aI, aA, aT, aB, aL, mad, miOk] at *); omega) h.co
  · exact hU.at (by (try simp only [aI, aA, aT, aB, aL, mad, miOk] at *); omega) h.lc
  · exact hU.at (by (try simp only [aI, aA, aT, aB, aL, mad, miOk] at *); omega) h.bes
  · exact hA
  · exact hU.at (by (try simp only [aI, aA, aT, aB, aL, mad, miOk] at *); omega) h.wai
  · exact hU.at (by (try simp only [aI, aA, aT, aB, aL, mad, miOk] at *); omega) h.lev
  · intro j q0 q1
    exact hU.at (by (try simp only [aI, aA, aT, aB, aL, mad, miOk] at *); omega) (h.bok j q0 q1)
  · intro k q0
    exact hU.at (by (try simp only [aI, aA, aT, aB, aL, mad, miOk] at *); omega) (h.itm k q0)
  · intro j k q0 q1
    exact hU.at (by (try simp only [aI, aA, aT, aB, aL, mad, miOk] at *); omega) (h.arr j k q0 q1)
  · intro k q0
    exact hU.at (by (try simp only [aI, aA, aT, aB, aL, mad, miOk] at *); omega) (h.tur k q0)
  · exact hU.at (by (try simp only [aI, aA, aT, aB, aL, mad, miOk] at *); omega) h.mo
  · intro j q0
    exact hU.at (by (try simp only [aI, aA, aT, aB, aL, mad, miOk] at *); omega) (h.mia j q0)
  · exact hU.at (by (try simp only [aI, aA, aT, aB, aL, mad, miOk] at *); omega) h.mza
  · intro j q0 q1
    exact hU.at (by (try simp only [aI, aA, aT, aB, aL, mad, miOk] at *); omega) (h.mla j q0 q1)
  · exact hU.at (by (try simp only [aI, aA, aT, aB, aL, mad, miOk] at *); omega) h.out
  · intro j q0
    exact hU.at (by (try simp only [aI, aA, aT, aB, aL, mad, miOk] at *); omega) (h.lob j q0)
  · intro j q0 q1
    refine hU.at ?_ (h.lda j q0 q1)
    rcases h.lay.2.2.1 j q0 with ⟨-, e1⟩ | ⟨-, e1, -⟩
    · rw [e1]; have := h.lay.2.2.2.2.2.2.2; omega
    · exact hd _ e1
  · intro i q0
    exact hU.at (hd _ (h.lay.2.2.2.1 i q0).1) (h.lin i q0)
  · intro j i q0 q1 q2
    exact hU.at (hd _ (h.lay.2.2.2.2.1 j q0 q1 i q2).1) (h.ent j i q0 q1 q2)

theorem GRb.pO {B : Nat} {h0 : Heap} {D : va_G} {DA : Nat → ClassId} {z0 : Nat} {Y : YS} {C : CS} {M : MS} {o : Int64} {H : Heap} {H1 : Heap} {v : Int64} (h : GRb B h0 D DA z0 Y C M o H) (hU : gx_U (B + 128) H H1) (hA : va_at D gcl (B + 128, .inl (DA 0, 1, .inr (.inl (fun _ => v)))) H1) : GRb B h0 D DA z0 Y C M v H1 := by
  have hd : ∀ q, B + 129 ≤ q → q ≠ B + 128 := fun q hq => by (try simp only [aI, aA, aT, aB, aL, mad, miOk] at *); omega
  have hB : B ≤ B + 128 ∧ B + 128 < B + 129 := by (try simp only [aI, aA, aT, aB, aL, mad, miOk] at *); omega
  refine ⟨fun q hq => (hU.2 q (by omega)).trans (h.old q hq), by rw [hU.1]; exact h.sz, h.lay, ?_, ?_, ?_, ?_, ?_, ?_, ?_, ?_, ?_, ?_, ?_, ?_, ?_, ?_, ?_, ?_, ?_, ?_, ?_, ?_, ?_, ?_, ?_, ?_, ?_⟩
  · exact hU.at (by (try simp only [aI, aA, aT, aB, aL, mad, miOk] at *); omega) h.np
  · exact hU.at (by (try simp only [aI, aA, aT, aB, aL, mad, miOk] at *); omega) h.its
  · exact hU.at (by (try simp only [aI, aA, aT, aB, aL, mad, miOk] at *); omega) h.trn
  · exact hU.at (by (try simp only [aI, aA, aT, aB, aL, mad, miOk] at *); omega) h.rul
  · exact hU.at (by (try simp only [aI, aA, aT, aB, aL, mad, miOk] at *); omega) h.an
  · exact hU.at (by (try simp only [aI, aA, aT, aB, aL, mad, miOk] at *); omega) h.mu
  · exact hU.at (by (try simp only [aI, aA, aT, aB, aL, mad, miOk] at *); omega) h.co
  · exact hU.at (by (try simp only [aI, aA, aT, aB, aL, mad, miOk] at *); omega) h.lc
  · exact hU.at (by (try simp only [aI, aA, aT, aB, aL, mad, miOk] at *); omega) h.bes
  · exact hU.at (by (try simp only [aI, aA, aT, aB, aL, mad, miOk] at *); omega) h.las
  · exact hU.at (by (try simp only [aI, aA, aT, aB, aL, mad, miOk] at *); omega) h.wai
  · exact hU.at (by (try simp only [aI, aA, aT, aB, aL, mad, miOk] at *); omega) h.lev
  · intro j q0 q1
    exact hU.at (by (try simp only [aI, aA, aT, aB, aL, mad, miOk] at *); omega) (h.bok j q0 q1)
  · intro k q0
    exact hU.at (by (try simp only [aI, aA, aT, aB, aL, mad, miOk] at *); omega) (h.itm k q0)
  · intro j k q0 q1
    exact hU.at (by (try simp only [aI, aA, aT, aB, aL, mad, miOk] at *); omega) (h.arr j k q0 q1)
  · intro k q0
    exact hU.at (by (try simp only [aI, aA, aT, aB, aL, mad, miOk] at *); omega) (h.tur k q0)
  · exact hU.at (by (try simp only [aI, aA, aT, aB, aL, mad, miOk] at *); omega) h.mo
  · intro j q0
    exact hU.at (by (try simp only [aI, aA, aT, aB, aL, mad, miOk] at *); omega) (h.mia j q0)
  · exact hU.at (by (try simp only [aI, aA, aT, aB, aL, mad, miOk] at *); omega) h.mza
  · intro j q0 q1
    exact hU.at (by (try simp only [aI, aA, aT, aB, aL, mad, miOk] at *); omega) (h.mla j q0 q1)
  · exact hA
  · intro j q0
    exact hU.at (by (try simp only [aI, aA, aT, aB, aL, mad, miOk] at *); omega) (h.lob j q0)
  · intro j q0 q1
    refine hU.at ?_ (h.lda j q0 q1)
    rcases h.lay.2.2.1 j q0 with ⟨-, e1⟩ | ⟨-, e1, -⟩
    · rw [e1]; have := h.lay.2.2.2.2.2.2.2; omega
    · exact hd _ e1
  · intro i q0
    exact hU.at (hd _ (h.lay.2.2.2.1 i q0).1) (h.lin i q0)
  · intro j i q0 q1 q2
    exact hU.at (hd _ (h.lay.2.2.2.2.1 j q0 q1 i q2).1) (h.ent j i q0 q1 q2)

theorem GRb.pMS {B : Nat} {h0 : Heap} {D : va_G} {DA : Nat → ClassId} {z0 : Nat} {Y : YS} {C : CS} {M : MS} {o : Int64} {H : Heap} {H1 : Heap} {j : Nat} {v : Int32} (hj : j = 0 ∨ j = 14 ∨ j = 19 ∨ j = 20) (h : GRb B h0 D DA z0 Y C M o H) (hU : gx_U (B + 104) H H1) (hA : va_at D gcl (B + 104, .inr (10, (moF B M).set j (.int v))) H1) : GRb B h0 D DA z0 Y C (mI M, mL M, va_up (mS M) j v) o H1 := by
  have hd : ∀ q, B + 129 ≤ q → q ≠ B + 104 := fun q hq => by (try simp only [aI, aA, aT, aB, aL, mad, miOk] at *); omega
  have hB : B ≤ B + 104 ∧ B + 104 < B + 129 := by (try simp only [aI, aA, aT, aB, aL, mad, miOk] at *); omega
  refine ⟨fun q hq => (hU.2 q (by omega)).trans (h.old q hq), by rw [hU.1]; exact h.sz, h.lay, ?_, ?_, ?_, ?_, ?_, ?_, ?_, ?_, ?_, ?_, ?_, ?_, ?_, ?_, ?_, ?_, ?_, ?_, ?_, ?_, ?_, ?_, ?_, ?_, ?_⟩
  · exact hU.at (by (try simp only [aI, aA, aT, aB, aL, mad, miOk] at *); omega) h.np
  · exact hU.at (by (try simp only [aI, aA, aT, aB, aL, mad, miOk] at *); omega) h.its
  · exact hU.at (by (try simp only [aI, aA, aT, aB, aL, mad, miOk] at *); omega) h.trn
  · exact hU.at (by (try simp only [aI, aA, aT, aB, aL, mad, miOk] at *); omega) h.rul
  · exact hU.at (by (try simp only [aI, aA, aT, aB, aL, mad, miOk] at *); omega) h.an
  · exact hU.at (by (try simp only [aI, aA, aT, aB, aL, mad, miOk] at *); omega) h.mu
  · exact hU.at (by (try simp only [aI, aA, aT, aB, aL, mad, miOk] at *); omega) h.co
  · exact hU.at (by (try simp only [aI, aA, aT, aB, aL, mad, miOk] at *); omega) h.lc
  · exact hU.at (by (try simp only [aI, aA, aT, aB, aL, mad, miOk] at *); omega) h.bes
  · exact hU.at (by (try simp only [aI, aA, aT, aB, aL, mad, miOk] at *); omega) h.las
  · exact hU.at (by (try simp only [aI, aA, aT, aB, aL, mad, miOk] at *); omega) h.wai
  · exact hU.at (by (try simp only [aI, aA, aT, aB, aL, mad, miOk] at *); omega) h.lev
  · intro j q0 q1
    exact hU.at (by (try simp only [aI, aA, aT, aB, aL, mad, miOk] at *); omega) (h.bok j q0 q1)
  · intro k q0
    exact hU.at (by (try simp only [aI, aA, aT, aB, aL, mad, miOk] at *); omega) (h.itm k q0)
  · intro j k q0 q1
    exact hU.at (by (try simp only [aI, aA, aT, aB, aL, mad, miOk] at *); omega) (h.arr j k q0 q1)
  · intro k q0
    exact hU.at (by (try simp only [aI, aA, aT, aB, aL, mad, miOk] at *); omega) (h.tur k q0)
  · have e2 : moF B (mI M, mL M, va_up (mS M) j v) = (moF B M).set j (.int v) := by
      rcases hj with e | e | e | e <;> subst e <;> simp [moF, mS, va_up]
    rw [e2]
    exact hA
  · intro j q0
    exact hU.at (by (try simp only [aI, aA, aT, aB, aL, mad, miOk] at *); omega) (h.mia j q0)
  · exact hU.at (by (try simp only [aI, aA, aT, aB, aL, mad, miOk] at *); omega) h.mza
  · intro j q0 q1
    exact hU.at (by (try simp only [aI, aA, aT, aB, aL, mad, miOk] at *); omega) (h.mla j q0 q1)
  · exact hU.at (by (try simp only [aI, aA, aT, aB, aL, mad, miOk] at *); omega) h.out
  · intro j q0
    exact hU.at (by (try simp only [aI, aA, aT, aB, aL, mad, miOk] at *); omega) (h.lob j q0)
  · intro j q0 q1
    refine hU.at ?_ (h.lda j q0 q1)
    rcases h.lay.2.2.1 j q0 with ⟨-, e1⟩ | ⟨-, e1, -⟩
    · rw [e1]; have := h.lay.2.2.2.2.2.2.2; omega
    · exact hd _ e1
  · intro i q0
    exact hU.at (hd _ (h.lay.2.2.2.1 i q0).1) (h.lin i q0)
  · intro j i q0 q1 q2
    exact hU.at (hd _ (h.lay.2.2.2.2.1 j q0 q1 i q2).1) (h.ent j i q0 q1 q2)

theorem GRb.pMI {B : Nat} {h0 : Heap} {D : va_G} {DA : Nat → ClassId} {z0 : Nat} {Y : YS} {C : CS} {M : MS} {o : Int64} {H : Heap} {H1 : Heap} {j k : Nat} {v : Int32} (hj : miOk j) (h : GRb B h0 D DA z0 Y C M o H) (hU : gx_U (mad B j) H H1) (hA : va_at D gcl (mad B j, .inl (DA 1, msz j, .inl (va_up (mI M j) k v))) H1) : GRb B h0 D DA z0 Y C (up2 (mI M) j k v, mL M, mS M) o H1 := by
  have hd : ∀ q, B + 129 ≤ q → q ≠ mad B j := fun q hq => by (try simp only [aI, aA, aT, aB, aL, mad, miOk] at *); omega
  have hB : B ≤ mad B j ∧ mad B j < B + 129 := by (try simp only [aI, aA, aT, aB, aL, mad, miOk] at *); omega
  refine ⟨fun q hq => (hU.2 q (by omega)).trans (h.old q hq), by rw [hU.1]; exact h.sz, h.lay, ?_, ?_, ?_, ?_, ?_, ?_, ?_, ?_, ?_, ?_, ?_, ?_, ?_, ?_, ?_, ?_, ?_, ?_, ?_, ?_, ?_, ?_, ?_, ?_, ?_⟩
  · exact hU.at (by (try simp only [aI, aA, aT, aB, aL, mad, miOk] at *); omega) h.np
  · exact hU.at (by (try simp only [aI, aA, aT, aB, aL, mad, miOk] at *); omega) h.its
  · exact hU.at (by (try simp only [aI, aA, aT, aB, aL, mad, miOk] at *); omega) h.trn
  · exact hU.at (by (try simp only [aI, aA, aT, aB, aL, mad, miOk] at *); omega) h.rul
  · exact hU.at (by (try simp only [aI, aA, aT, aB, aL, mad, miOk] at *); omega) h.an
  · exact hU.at (by (try simp only [aI, aA, aT, aB, aL, mad, miOk] at *); omega) h.mu
  · exact hU.at (by (try simp only [aI, aA, aT, aB, aL, mad, miOk] at *); omega) h.co
  · exact hU.at (by (try simp only [aI, aA, aT, aB, aL, mad, miOk] at *); omega) h.lc
  · exact hU.at (by (try simp only [aI, aA, aT, aB, aL, mad, miOk] at *); omega) h.bes
  · exact hU.at (by (try simp only [aI, aA, aT, aB, aL, mad, miOk] at *); omega) h.las
  · exact hU.at (by (try simp only [aI, aA, aT, aB, aL, mad, miOk] at *); omega) h.wai
  · exact hU.at (by (try simp only [aI, aA, aT, aB, aL, mad, miOk] at *); omega) h.lev
  · intro j q0 q1
    exact hU.at (by (try simp only [aI, aA, aT, aB, aL, mad, miOk] at *); omega) (h.bok j q0 q1)
  · intro k q0
    exact hU.at (by (try simp only [aI, aA, aT, aB, aL, mad, miOk] at *); omega) (h.itm k q0)
  · intro j k q0 q1
    exact hU.at (by (try simp only [aI, aA, aT, aB, aL, mad, miOk] at *); omega) (h.arr j k q0 q1)
  · intro k q0
    exact hU.at (by (try simp only [aI, aA, aT, aB, aL, mad, miOk] at *); omega) (h.tur k q0)
  · exact hU.at (by (try simp only [aI, aA, aT, aB, aL, mad, miOk] at *); omega) h.mo
  · intro j' q0
    by_cases e : j' = j
    · subst e
      show va_at D gcl (mad B j', .inl (DA 1, msz j', .inl (up2 (mI M) j' k v j'))) H1
      rw [up2_w]
      exact hA
    · show va_at D gcl (mad B j', .inl (DA 1, msz j', .inl (up2 (mI M) j k v j'))) H1
      rw [up2_m e]
      exact hU.at (by simp only [mad, miOk] at *; omega) (h.mia j' q0)
  · show va_at D gcl (mad B 17, .inl (DA 2, 12, .inl (up2 (mI M) j k v 17))) H1
    rw [up2_m (by simp only [miOk] at hj; omega)]
    exact hU.at (by simp only [mad, miOk] at *; omega) h.mza
  · intro j q0 q1
    exact hU.at (by (try simp only [aI, aA, aT, aB, aL, mad, miOk] at *); omega) (h.mla j q0 q1)
  · exact hU.at (by (try simp only [aI, aA, aT, aB, aL, mad, miOk] at *); omega) h.out
  · intro j q0
    exact hU.at (by (try simp only [aI, aA, aT, aB, aL, mad, miOk] at *); omega) (h.lob j q0)
  · intro j q0 q1
    refine hU.at ?_ (h.lda j q0 q1)
    rcases h.lay.2.2.1 j q0 with ⟨-, e1⟩ | ⟨-, e1, -⟩
    · rw [e1]; have := h.lay.2.2.2.2.2.2.2; omega
    · exact hd _ e1
  · intro i q0
    exact hU.at (hd _ (h.lay.2.2.2.1 i q0).1) (h.lin i q0)
  · intro j i q0 q1 q2
    exact hU.at (hd _ (h.lay.2.2.2.2.1 j q0 q1 i q2).1) (h.ent j i q0 q1 q2)

theorem GRb.pMZ {B : Nat} {h0 : Heap} {D : va_G} {DA : Nat → ClassId} {z0 : Nat} {Y : YS} {C : CS} {M : MS} {o : Int64} {H : Heap} {H1 : Heap} {k : Nat} {v : Int32} (h : GRb B h0 D DA z0 Y C M o H) (hU : gx_U (mad B 17) H H1) (hA : va_at D gcl (mad B 17, .inl (DA 2, 12, .inl (va_up (mI M 17) k v))) H1) : GRb B h0 D DA z0 Y C (up2 (mI M) 17 k v, mL M, mS M) o H1 := by
  have hd : ∀ q, B + 129 ≤ q → q ≠ mad B 17 := fun q hq => by (try simp only [aI, aA, aT, aB, aL, mad, miOk] at *); omega
  have hB : B ≤ mad B 17 ∧ mad B 17 < B + 129 := by (try simp only [aI, aA, aT, aB, aL, mad, miOk] at *); omega
  refine ⟨fun q hq => (hU.2 q (by omega)).trans (h.old q hq), by rw [hU.1]; exact h.sz, h.lay, ?_, ?_, ?_, ?_, ?_, ?_, ?_, ?_, ?_, ?_, ?_, ?_, ?_, ?_, ?_, ?_, ?_, ?_, ?_, ?_, ?_, ?_, ?_, ?_, ?_⟩
  · exact hU.at (by (try simp only [aI, aA, aT, aB, aL, mad, miOk] at *); omega) h.np
  · exact hU.at (by (try simp only [aI, aA, aT, aB, aL, mad, miOk] at *); omega) h.its
  · exact hU.at (by (try simp only [aI, aA, aT, aB, aL, mad, miOk] at *); omega) h.trn
  · exact hU.at (by (try simp only [aI, aA, aT, aB, aL, mad, miOk] at *); omega) h.rul
  · exact hU.at (by (try simp only [aI, aA, aT, aB, aL, mad, miOk] at *); omega) h.an
  · exact hU.at (by (try simp only [aI, aA, aT, aB, aL, mad, miOk] at *); omega) h.mu
  · exact hU.at (by (try simp only [aI, aA, aT, aB, aL, mad, miOk] at *); omega) h.co
  · exact hU.at (by (try simp only [aI, aA, aT, aB, aL, mad, miOk] at *); omega) h.lc
  · exact hU.at (by (try simp only [aI, aA, aT, aB, aL, mad, miOk] at *); omega) h.bes
  · exact hU.at (by (try simp only [aI, aA, aT, aB, aL, mad, miOk] at *); omega) h.las
  · exact hU.at (by (try simp only [aI, aA, aT, aB, aL, mad, miOk] at *); omega) h.wai
  · exact hU.at (by (try simp only [aI, aA, aT, aB, aL, mad, miOk] at *); omega) h.lev
  · intro j q0 q1
    exact hU.at (by (try simp only [aI, aA, aT, aB, aL, mad, miOk] at *); omega) (h.bok j q0 q1)
  · intro k q0
    exact hU.at (by (try simp only [aI, aA, aT, aB, aL, mad, miOk] at *); omega) (h.itm k q0)
  · intro j k q0 q1
    exact hU.at (by (try simp only [aI, aA, aT, aB, aL, mad, miOk] at *); omega) (h.arr j k q0 q1)
  · intro k q0
    exact hU.at (by (try simp only [aI, aA, aT, aB, aL, mad, miOk] at *); omega) (h.tur k q0)
  · exact hU.at (by (try simp only [aI, aA, aT, aB, aL, mad, miOk] at *); omega) h.mo
  · intro j' q0
    show va_at D gcl (mad B j', .inl (DA 1, msz j', .inl (up2 (mI M) 17 k v j'))) H1
    rw [up2_m (by simp only [miOk] at q0; omega)]
    exact hU.at (by simp only [mad, miOk] at *; omega) (h.mia j' q0)
  · show va_at D gcl (mad B 17, .inl (DA 2, 12, .inl (up2 (mI M) 17 k v 17))) H1
    rw [up2_w]
    exact hA
  · intro j q0 q1
    exact hU.at (by (try simp only [aI, aA, aT, aB, aL, mad, miOk] at *); omega) (h.mla j q0 q1)
  · exact hU.at (by (try simp only [aI, aA, aT, aB, aL, mad, miOk] at *); omega) h.out
  · intro j q0
    exact hU.at (by (try simp only [aI, aA, aT, aB, aL, mad, miOk] at *); omega) (h.lob j q0)
  · intro j q0 q1
    refine hU.at ?_ (h.lda j q0 q1)
    rcases h.lay.2.2.1 j q0 with ⟨-, e1⟩ | ⟨-, e1, -⟩
    · rw [e1]; have := h.lay.2.2.2.2.2.2.2; omega
    · exact hd _ e1
  · intro i q0
    exact hU.at (hd _ (h.lay.2.2.2.1 i q0).1) (h.lin i q0)
  · intro j i q0 q1 q2
    exact hU.at (hd _ (h.lay.2.2.2.2.1 j q0 q1 i q2).1) (h.ent j i q0 q1 q2)

theorem GRb.pML {B : Nat} {h0 : Heap} {D : va_G} {DA : Nat → ClassId} {z0 : Nat} {Y : YS} {C : CS} {M : MS} {o : Int64} {H : Heap} {H1 : Heap} {j k : Nat} {v : Int64} (hj : 18 ≤ j) (hj2 : j ≤ 22) (h : GRb B h0 D DA z0 Y C M o H) (hU : gx_U (mad B j) H H1) (hA : va_at D gcl (mad B j, .inl (DA 0, msz j, .inr (.inl (va_up (mL M j) k v)))) H1) : GRb B h0 D DA z0 Y C (mI M, up2 (mL M) j k v, mS M) o H1 := by
  have hd : ∀ q, B + 129 ≤ q → q ≠ mad B j := fun q hq => by (try simp only [aI, aA, aT, aB, aL, mad, miOk] at *); omega
  have hB : B ≤ mad B j ∧ mad B j < B + 129 := by (try simp only [aI, aA, aT, aB, aL, mad, miOk] at *); omega
  refine ⟨fun q hq => (hU.2 q (by omega)).trans (h.old q hq), by rw [hU.1]; exact h.sz, h.lay, ?_, ?_, ?_, ?_, ?_, ?_, ?_, ?_, ?_, ?_, ?_, ?_, ?_, ?_, ?_, ?_, ?_, ?_, ?_, ?_, ?_, ?_, ?_, ?_, ?_⟩
  · exact hU.at (by (try simp only [aI, aA, aT, aB, aL, mad, miOk] at *); omega) h.np
  · exact hU.at (by (try simp only [aI, aA, aT, aB, aL, mad, miOk] at *); omega) h.its
  · exact hU.at (by (try simp only [aI, aA, aT, aB, aL, mad, miOk] at *); omega) h.trn
  · exact hU.at (by (try simp only [aI, aA, aT, aB, aL, mad, miOk] at *); omega) h.rul
  · exact hU.at (by (try simp only [aI, aA, aT, aB, aL, mad, miOk] at *); omega) h.an
  · exact hU.at (by (try simp only [aI, aA, aT, aB, aL, mad, miOk] at *); omega) h.mu
  · exact hU.at (by (try simp only [aI, aA, aT, aB, aL, mad, miOk] at *); omega) h.co
  · exact hU.at (by (try simp only [aI, aA, aT, aB, aL, mad, miOk] at *); omega) h.lc
  · exact hU.at (by (try simp only [aI, aA, aT, aB, aL, mad, miOk] at *); omega) h.bes
  · exact hU.at (by (try simp only [aI, aA, aT, aB, aL, mad, miOk] at *); omega) h.las
  · exact hU.at (by (try simp only [aI, aA, aT, aB, aL, mad, miOk] at *); omega) h.wai
  · exact hU.at (by (try simp only [aI, aA, aT, aB, aL, mad, miOk] at *); omega) h.lev
  · intro j q0 q1
    exact hU.at (by (try simp only [aI, aA, aT, aB, aL, mad, miOk] at *); omega) (h.bok j q0 q1)
  · intro k q0
    exact hU.at (by (try simp only [aI, aA, aT, aB, aL, mad, miOk] at *); omega) (h.itm k q0)
  · intro j k q0 q1
    exact hU.at (by (try simp only [aI, aA, aT, aB, aL, mad, miOk] at *); omega) (h.arr j k q0 q1)
  · intro k q0
    exact hU.at (by (try simp only [aI, aA, aT, aB, aL, mad, miOk] at *); omega) (h.tur k q0)
  · exact hU.at (by (try simp only [aI, aA, aT, aB, aL, mad, miOk] at *); omega) h.mo
  · intro j q0
    exact hU.at (by (try simp only [aI, aA, aT, aB, aL, mad, miOk] at *); omega) (h.mia j q0)
  · exact hU.at (by (try simp only [aI, aA, aT, aB, aL, mad, miOk] at *); omega) h.mza
  · intro j' q0 q1
    by_cases e : j' = j
    · subst e
      show va_at D gcl (mad B j', .inl (DA 0, msz j', .inr (.inl (up2 (mL M) j' k v j')))) H1
      rw [up2_w]
      exact hA
    · show va_at D gcl (mad B j', .inl (DA 0, msz j', .inr (.inl (up2 (mL M) j k v j')))) H1
      rw [up2_m e]
      exact hU.at (by simp only [mad, miOk] at *; omega) (h.mla j' q0 q1)
  · exact hU.at (by (try simp only [aI, aA, aT, aB, aL, mad, miOk] at *); omega) h.out
  · intro j q0
    exact hU.at (by (try simp only [aI, aA, aT, aB, aL, mad, miOk] at *); omega) (h.lob j q0)
  · intro j q0 q1
    refine hU.at ?_ (h.lda j q0 q1)
    rcases h.lay.2.2.1 j q0 with ⟨-, e1⟩ | ⟨-, e1, -⟩
    · rw [e1]; have := h.lay.2.2.2.2.2.2.2; omega
    · exact hd _ e1
  · intro i q0
    exact hU.at (hd _ (h.lay.2.2.2.1 i q0).1) (h.lin i q0)
  · intro j i q0 q1 q2
    exact hU.at (hd _ (h.lay.2.2.2.2.1 j q0 q1 i q2).1) (h.ent j i q0 q1 q2)

