/-! PLAIN WORDS: what the class reckons -/
def c_sum (C : CS) (j : Nat) (i w : Int32) : Nat → Int64
  | 0 => 0
  | n + 1 => c_sum C j i w n + (if kE C j n 0 = i ∧ kE C j n 1 = w then (kE C j n 2).toInt64 else 0)
def c_sumB (C : CS) (j u : Nat) : Nat → Int64
  | 0 => 0
  | n + 1 => c_sumB C j u n + (if kE C j n 0 = kE C j u 0 ∧ kE C j n 1 = kE C j u 1 then (kE C j n 2).toInt64 else 0)
def q_rank (C : CS) (k : Nat) : Int32 := 12 * kI C 11 k + nI k
def c_of (C : CS) (i : Nat) (q : Int64) : Int64 := (q * (kL C 0 i).toInt64 * (1000 + kI C 5 (kC C i)).toInt64 + 1000 - 1) / 1000
def c_sh (f : Nat → Int64) : Nat → Bool
  | 0 => false
  | n + 1 => c_sh f n || decide (f n < 0)
theorem gx_U.tr {a : Nat} {H H1 H2 : Heap} (h : gx_U a H H1) (h2 : gx_U a H1 H2) : gx_U a H H2 := ⟨h2.1.trans h.1, fun q hq => (h2.2 q hq).trans (h.2 q hq)⟩
theorem aL_ne_yD {B z0 : Nat} {Y : YS} {C : CS} (h : yLay B z0 Y C) {j : Nat} (hj : j < 5) : yD Y j ≠ aL B j := by
  have ha := aL_in B hj
  rcases h.2.2.1 j hj with ⟨-, h1⟩ | ⟨-, h1, -⟩
  · have := h.2.2.2.2.2.2.2; omega
  · omega
theorem yD_z {B z0 : Nat} {Y : YS} {C : CS} (h : yLay B z0 Y C) {j : Nat} (hj : j < 5) (hc : yC Y j = 0) : yD Y j = z0 := by
  rcases h.2.2.1 j hj with ⟨-, h1⟩ | ⟨h1, -⟩
  · exact h1
  · omega
theorem GRb.elE {B : Nat} {h0 : Heap} {D : va_G} {DA : Nat → ClassId} {z0 : Nat} {Y : YS} {C : CS} {M : MS} {o : Int64} {H : Heap} (h : GRb B h0 D DA z0 Y C M o H) {j : Nat} (h1 : 1 ≤ j) (h3 : j ≤ 3) {i y : Nat} (hi : i < kN C j) (hy : yG Y j i = some y) : elOk D (aL B j) H y := by
  have e := h.lay.2.1 j (by omega) i hi
  rw [hy] at e
  cases e
  have hf := (h.lay.2.2.2.2.1 j h1 h3 i hi).1
  have ha := aL_in B (j := j) (by omega)
  exact ⟨12, _, _, h.ent j i h1 h3 hi, rfl, q1177, by omega⟩
theorem GRb.elL {B : Nat} {h0 : Heap} {D : va_G} {DA : Nat → ClassId} {z0 : Nat} {Y : YS} {C : CS} {M : MS} {o : Int64} {H : Heap} (h : GRb B h0 D DA z0 Y C M o H) {i y : Nat} (hi : i < kN C 0) (hy : yG Y 0 i = some y) : elOk D (aL B 0) H y := by
  have e := h.lay.2.1 0 (by omega) i hi
  rw [hy] at e
  cases e
  have hf := (h.lay.2.2.2.1 i hi).1
  have ha := aL_in B (j := 0) (by omega)
  exact ⟨11, _, _, h.lin i hi, rfl, q1176, by omega⟩
theorem GRb.elQ {B : Nat} {h0 : Heap} {D : va_G} {DA : Nat → ClassId} {z0 : Nat} {Y : YS} {C : CS} {M : MS} {o : Int64} {H : Heap} (h : GRb B h0 D DA z0 Y C M o H) {i y : Nat} (hi : i < kN C 4) (hy : yG Y 4 i = some y) : elOk D (aL B 4) H y := by
  have e := h.lay.2.1 4 (by omega) i hi
  rw [hy] at e
  cases e
  obtain ⟨e1, e2⟩ := h.lay.2.2.2.2.2.1 i hi
  rw [e1]
  exact ⟨9, _, _, h.tur _ e2, rfl, q1156, by simp only [aT, aL]; omega⟩
