/-! PLAIN LAW: sums -/
def sg (f : Nat → Int64) : Nat → Int64
  | 0 => 0
  | n + 1 => sg f n + f n
theorem sg_c {f g : Nat → Int64} {n : Nat} (h : ∀ i, i < n → f i = g i) : sg f n = sg g n := by
  induction n with
  | zero => rfl
  | succ n ih => rw [sg, sg, ih (fun i hi => h i (by omega)), h n (by omega)]
theorem sg_0 (n : Nat) : sg (fun _ => 0) n = 0 := by
  induction n with
  | zero => rfl
  | succ n ih => rw [sg, ih]; rfl
theorem sg_add (f g : Nat → Int64) (n : Nat) : sg (fun i => f i + g i) n = sg f n + sg g n := by
  induction n with
  | zero => rfl
  | succ n ih => rw [sg, sg, sg, ih]; grind
theorem sg_sub (f g : Nat → Int64) (n : Nat) : sg (fun i => f i - g i) n = sg f n - sg g n := by
  induction n with
  | zero => rw [sg, sg, sg]; decide
  | succ n ih => rw [sg, sg, sg, ih]; grind
/-- sums in either order -/
theorem sg_sw (g : Nat → Nat → Int64) (n m : Nat) : sg (fun u => sg (g u) m) n = sg (fun a => sg (fun u => g u a) n) m := by
  induction n with
  | zero => rw [sg]; exact (sg_0 m).symm
  | succ n ih => rw [sg, ih, ← sg_add]; rfl
/-- the one that is there -/
theorem sg_one {f : Nat → Int64} {n j : Nat} (hj : j < n) (h : ∀ i, i < n → i ≠ j → f i = 0) : sg f n = f j := by
  induction n with
  | zero => omega
  | succ n ih =>
    rw [sg]
    by_cases e : j = n
    · subst e
      rw [sg_c (g := fun _ => 0) (fun i hi => h i (by omega) (by omega)), sg_0]
      grind
    · rw [ih (by omega) (fun i hi => h i (by omega)), h n (by omega) (fun q => e q.symm)]
      grind
theorem m_up_sg (f : Nat → Int64) (i n : Nat) : m_up f i n = sg (fun w => f (12 * i + w)) n := by
  induction n with
  | zero => rfl
  | succ n ih => rw [m_up, sg, ih]
theorem c_gt_sg (C : CS) (k n : Nat) : c_gt C k n = sg (kA C 3 k) n := by
  induction n with
  | zero => rfl
  | succ n ih => rw [c_gt, sg, ih]
theorem c_cb_sg (C : CS) (k n : Nat) : c_cb C k n = sg (kA C 0 k) n := by
  induction n with
  | zero => rfl
  | succ n ih => rw [c_cb, sg, ih]
theorem c_ba_sg (C : CS) (k n : Nat) : c_ba C k n = (kI C 8 k).toInt64 + sg (fun w => c_sum C 2 (nI k) (nI w) (kN C 2)) n - sg (kA C 0 k) n := by
  induction n with
  | zero => rw [c_ba, sg, sg]; grind
  | succ n ih => rw [c_ba, sg, sg, ih]; grind
theorem c_sp_sg (C : CS) (k n : Nat) : c_sp C k n = (kI C 8 k).toInt64 + sg (fun w => c_sum C 2 (nI k) (nI w) (kN C 2)) n + sg (kA C 3 k) n := by
  induction n with
  | zero => rw [c_sp, sg, sg]; grind
  | succ n ih => rw [c_sp, sg, sg, ih]; grind
theorem c_fr_sg (C : CS) (k n : Nat) : c_fr C k n = (kI C 8 k).toInt64 + sg (fun w => c_sum C 2 (nI k) (nI w) (kN C 2)) n + sg (kA C 3 k) n - sg (kA C 0 k) n - sg (fun w => c_sum C 3 (nI k) (nI w) (kN C 3)) n := by
  induction n with
  | zero => rw [c_fr, sg, sg, sg, sg]; grind
  | succ n ih => rw [c_fr, sg, sg, sg, sg, ih]; grind
/-- a book of the class, and the reference's -/
def Bk (C : CS) (M : MS) (j : Nat) : Prop := kN C j = mCt M (j - 1) ∧ (∀ i, i < kN C j → kE C j i 0 = mI M 14 (24 * (j - 1) + i) ∧ kE C j i 1 = mI M 15 (24 * (j - 1) + i) ∧ kE C j i 2 = mI M 16 (24 * (j - 1) + i)) ∧ ∀ i, i < kN C j → (∃ a, a < 12 ∧ kE C j i 0 = nI a) ∧ (∃ b, b < 12 ∧ kE C j i 1 = nI b) ∧ ∃ n, n ≤ 1000 ∧ kE C j i 2 = nI n
theorem sg_wk (q : Int64) {b : Nat} (hb : b < 12) (v : Nat) (hv : v ≤ 12) : sg (fun w => if nI b = nI w then q else 0) v = if b < v then q else 0 := by
  induction v with
  | zero => rfl
  | succ v ih =>
    rw [sg, ih (by omega)]
    by_cases e : b = v
    · subst e; rw [if_neg (by omega), if_pos rfl, if_pos (by omega)]; grind
    · rw [if_neg (show ¬ nI b = nI v from fun q => e ((nI_eq (by omega) (by omega)).mp q))]
      by_cases h : b < v
      · rw [if_pos h, if_pos (by omega)]; grind
      · rw [if_neg h, if_neg (by omega)]; grind
/-- sums by weeks are the reference's sums up to a week -/
theorem bk_sum {C : CS} {M : MS} {j : Nat} (h : Bk C M j) (i v : Nat) (hv : v < 12) (n : Nat) (hn : n ≤ kN C j) : sg (fun w => c_sum C j (nI i) (nI w) n) (v + 1) = m_sum M (j - 1) (nI i) (nI v) n := by
  induction n with
  | zero => exact sg_0 _
  | succ n ih =>
    have e := ih (by omega)
    obtain ⟨e0, e1, e2⟩ := h.2.1 n (by omega)
    obtain ⟨-, ⟨b, hb, eb⟩, -⟩ := h.2.2 n (by omega)
    have e5 : sg (fun w => c_sum C j (nI i) (nI w) (n + 1)) (v + 1) = sg (fun w => c_sum C j (nI i) (nI w) n) (v + 1) + sg (fun w => if kE C j n 0 = nI i ∧ kE C j n 1 = nI w then (kE C j n 2).toInt64 else 0) (v + 1) := sg_add _ _ _
    rw [e5, e, m_sum, ← e0, ← e1, ← e2, eb]
    by_cases h0 : kE C j n 0 = nI i
    · simp only [h0, true_and]
      rw [sg_wk _ hb _ (by omega)]
      by_cases h1 : b < v + 1
      · rw [if_pos h1, if_pos (nI_le (by omega) (by omega))]
      · rw [if_neg h1, if_neg (nI_ge (by omega) (by omega))]; grind
    · simp only [h0, false_and, if_false]
      rw [sg_0]; grind
theorem bk_all {C : CS} {M : MS} {j : Nat} (h : Bk C M j) (i v : Nat) (hv : v < 12) : sg (fun w => c_sum C j (nI i) (nI w) (kN C j)) (v + 1) = m_sum M (j - 1) (nI i) (nI v) (mCt M (j - 1)) := by
  rw [bk_sum h i v hv _ (Nat.le_refl _), h.1]
theorem bk_g0 {C : CS} {M : MS} (h : Bk C M 1) (i w : Nat) (hw : w < 12) : c_sum C 1 (nI i) (nI w) (kN C 1) = m_g0 M i w := by
  unfold m_g0
  have e1 := bk_all h i w hw
  rw [← e1, sg]
  by_cases h0 : 0 < w
  · rw [if_pos h0]
    have e2 := bk_all h i (w - 1) (by omega)
    rw [← e2, show w - 1 + 1 = w by omega]; grind
  · have : w = 0 := by omega
    subst this
    rw [if_neg h0, sg]; grind
/-- rows of plans alike -/
def Rw (C : CS) (M : MS) : Prop := ∀ k, k < 12 → ∀ w, w < 12 → mL M 18 (12 * k + w) = kA C 0 k w ∧ mL M 19 (12 * k + w) = kA C 3 k w
theorem ba_eq {C : CS} {M : MS} (h : Bk C M 2) {k w : Nat} (hw : w < 12) (es : kI C 8 k = mI M 7 k) (hg : ∀ v, v < 12 → mL M 18 (12 * k + v) = kA C 0 k v) : c_ba C k (w + 1) = m_bare M k w := by
  unfold m_bare
  rw [c_ba_sg, bk_all h k w hw, es, m_up_sg, sg_c (g := kA C 0 k) (fun v hv => hg v (by omega))]
