/-! PLAIN LAW: a line told of -/
def LnR (n : Nat) (P K : Nat → Nat) (L : Nat → Nat → Int32) (s : Int32) (r0 r1 r2 : Nat → Int32) : Prop := n ≤ 24 ∧ s = nI n ∧
  (∀ u, u < n → P u < 12 ∧ K u < 12 ∧ (∃ m, 0 < m ∧ m ≤ 9 ∧ L 0 u = nI m) ∧ r0 (12 * P u + K u) = L 0 u ∧ r1 (12 * P u + K u) = L 1 u ∧ r2 (12 * P u + K u) = L 2 u) ∧
  (∀ u v, u < n → v < n → P u = P v → K u = K v → u = v) ∧
  ∀ p c, p < 12 → c < 12 → ¬ r0 (12 * p + c) = 0 → ∃ u, u < n ∧ P u = p ∧ K u = c
theorem ln_r (C : CS) (M : MS) : Ln C M ↔ LnR (kN C 0) (kP C) (kC C) (kL C) (mS M 14) (mI M 10) (mI M 11) (mI M 12) := Iff.rfl
theorem sh1_lt {α : Type} {i k : Nat} (f : Nat → α) (h : k < i) : sh1 i f k = f k := if_pos h
theorem sh1_ge {α : Type} {i k : Nat} (f : Nat → α) (h : ¬ k < i) : sh1 i f k = f (k + 1) := if_neg h
/-- where line k of what is left was -/
def shx (i k : Nat) : Nat := if k < i then k else k + 1
theorem sh1_x {α : Type} (i k : Nat) (f : Nat → α) : sh1 i f k = f (shx i k) := by
  unfold shx
  by_cases h : k < i
  · rw [if_pos h, sh1_lt f h]
  · rw [if_neg h, sh1_ge f h]
theorem lnr_rem {n : Nat} {P K : Nat → Nat} {L : Nat → Nat → Int32} {s : Int32} {r0 r1 r2 : Nat → Int32} (h : LnR n P K L s r0 r1 r2) {i pa ch : Nat} (hi : i < n) (ep : P i = pa) (ec : K i = ch) (x y : Int32) : LnR (n - 1) (sh1 i P) (sh1 i K) (fun f => sh1 i (L f)) (s - 1) (va_up r0 (12 * pa + ch) 0) (va_up r1 (12 * pa + ch) x) (va_up r2 (12 * pa + ch) y) := by
  obtain ⟨h1, h2, h3, h4, h5⟩ := h
  have hs : ∀ k, k < n - 1 → shx i k < n ∧ shx i k ≠ i := fun k hk => by unfold shx; split <;> omega
  have hp : pa < 12 ∧ ch < 12 := by have := h3 i hi; rw [ep, ec] at this; exact ⟨this.1, this.2.1⟩
  refine ⟨by omega, ?_, fun u hu => ?_, fun u v hu hv e1 e2 => ?_, fun p c hp' hc q => ?_⟩
  · rw [h2, show n = n - 1 + 1 by omega, nI_pred]; rfl
  · obtain ⟨q1, q2⟩ := hs u hu
    obtain ⟨a1, a2, a3, a4, a5, a6⟩ := h3 _ q1
    have hne : 12 * P (shx i u) + K (shx i u) ≠ 12 * pa + ch := by
      intro z
      refine q2 (h4 _ _ q1 hi ?_ ?_)
      · rw [ep]; omega
      · rw [ec]; omega
    simp only [sh1_x]
    rw [va_up_ne _ _ hne, va_up_ne _ _ hne, va_up_ne _ _ hne]
    exact ⟨a1, a2, a3, a4, a5, a6⟩
  · rw [sh1_x, sh1_x] at e1 e2
    have z := h4 _ _ (hs u hu).1 (hs v hv).1 e1 e2
    unfold shx at z
    split at z <;> split at z <;> omega
  · by_cases z : 12 * p + c = 12 * pa + ch
    · rw [z, va_up_self] at q; exact absurd rfl q
    · rw [va_up_ne _ _ z] at q
      obtain ⟨u, hu, e1, e2⟩ := h5 p c hp' hc q
      have hui : u ≠ i := by
        intro w; subst w
        rw [e1] at ep; rw [e2] at ec
        exact z (by omega)
      by_cases w : u < i
      · exact ⟨u, by omega, by rw [sh1_lt _ w, e1], by rw [sh1_lt _ w, e2]⟩
      · refine ⟨u - 1, by omega, ?_, ?_⟩
        · rw [sh1_ge _ (by omega), show u - 1 + 1 = u by omega, e1]
        · rw [sh1_ge _ (by omega), show u - 1 + 1 = u by omega, e2]
theorem lnr_no {n : Nat} {P K : Nat → Nat} {L : Nat → Nat → Int32} {s : Int32} {r0 r1 r2 : Nat → Int32} (h : LnR n P K L s r0 r1 r2) {pa ch : Nat} (hp : pa < 12) (hc : ch < 12) (hn : ∀ u, u < n → ¬ (P u = pa ∧ K u = ch)) (x y : Int32) : LnR n P K L s (va_up r0 (12 * pa + ch) 0) (va_up r1 (12 * pa + ch) x) (va_up r2 (12 * pa + ch) y) := by
  obtain ⟨h1, h2, h3, h4, h5⟩ := h
  refine ⟨h1, h2, fun u hu => ?_, h4, fun p c hp' hc' q => ?_⟩
  · obtain ⟨a1, a2, a3, a4, a5, a6⟩ := h3 u hu
    have hne : 12 * P u + K u ≠ 12 * pa + ch := fun z => hn u hu ⟨by omega, by omega⟩
    rw [va_up_ne _ _ hne, va_up_ne _ _ hne, va_up_ne _ _ hne]
    exact ⟨a1, a2, a3, a4, a5, a6⟩
  · by_cases z : 12 * p + c = 12 * pa + ch
    · rw [z, va_up_self] at q; exact absurd rfl q
    · rw [va_up_ne _ _ z] at q; exact h5 p c hp' hc' q
theorem lnr_add {n : Nat} {P K : Nat → Nat} {L : Nat → Nat → Int32} {s : Int32} {r0 r1 r2 : Nat → Int32} {pa ch m : Nat} {x0 y0 : Int32} (h : LnR n P K L s (va_up r0 (12 * pa + ch) 0) (va_up r1 (12 * pa + ch) x0) (va_up r2 (12 * pa + ch) y0)) (hp : pa < 12) (hc : ch < 12) (hn : n < 24) (m0 : 0 < m) (m9 : m ≤ 9) (x y : Int32) : LnR (n + 1) (va_up P n pa) (va_up K n ch) (fun f i => if i = n then (if f = 0 then nI m else if f = 1 then x else y) else L f i) (s + 1) (va_up r0 (12 * pa + ch) (nI m)) (va_up r1 (12 * pa + ch) x) (va_up r2 (12 * pa + ch) y) := by
  obtain ⟨h1, h2, h3, h4, h5⟩ := h
  have hne : ∀ u, u < n → 12 * P u + K u ≠ 12 * pa + ch := by
    intro u hu z
    obtain ⟨a1, a2, ⟨k, k0, k9, ek⟩, a4, _⟩ := h3 u hu
    rw [z, va_up_self, ek] at a4
    exact nI_ne0 k0 (by omega) a4.symm
  refine ⟨by omega, by rw [h2, nI_1], fun u hu => ?_, fun u v hu hv e1 e2 => ?_, fun p c hp' hc' q => ?_⟩
  · by_cases e : u = n
    · subst e
      rw [va_up_self, va_up_self, va_up_self, va_up_self, va_up_self]
      exact ⟨hp, hc, ⟨m, m0, m9, by simp⟩, by simp, by simp, by simp⟩
    · obtain ⟨a1, a2, a3, a4, a5, a6⟩ := h3 u (by omega)
      have z := hne u (by omega)
      rw [va_up_ne _ _ z] at a4 a5 a6
      simp only [va_up_ne _ _ e, if_neg e, va_up_ne _ _ z]
      exact ⟨a1, a2, a3, a4, a5, a6⟩
  · by_cases eu : u = n
    · by_cases ev : v = n
      · rw [eu, ev]
      · subst eu
        rw [va_up_self, va_up_ne _ _ ev] at e1 e2
        exact absurd (by rw [e1, e2]) (hne v (by omega))
    · by_cases ev : v = n
      · subst ev
        rw [va_up_self, va_up_ne _ _ eu] at e1 e2
        exact absurd (by rw [e1, e2]) (hne u (by omega))
      · rw [va_up_ne _ _ eu, va_up_ne _ _ ev] at e1 e2
        exact h4 u v (by omega) (by omega) e1 e2
  · by_cases z : 12 * p + c = 12 * pa + ch
    · exact ⟨n, by omega, by rw [va_up_self]; omega, by rw [va_up_self]; omega⟩
    · rw [va_up_ne _ _ z] at q
      obtain ⟨u, hu, e1, e2⟩ := h5 p c hp' hc' (by rw [va_up_ne _ _ z]; exact q)
      exact ⟨u, by omega, by rw [va_up_ne _ _ (by omega), e1], by rw [va_up_ne _ _ (by omega), e2]⟩
theorem fd_sp (C : CS) (pa ch n : Nat) : (c_fd C pa ch n = -1 ∧ ∀ u, u < n → ¬ (kP C u = pa ∧ kC C u = ch)) ∨ ∃ i, i < n ∧ c_fd C pa ch n = nI i ∧ kP C i = pa ∧ kC C i = ch := by
  induction n with
  | zero => exact Or.inl ⟨rfl, fun u hu => by omega⟩
  | succ n ih =>
    unfold c_fd
    split
    · rename_i h; exact Or.inr ⟨n, by omega, rfl, h⟩
    · rename_i h
      rcases ih with ⟨h1, h2⟩ | ⟨i, hi, h1, h2⟩
      · refine Or.inl ⟨h1, fun u hu => ?_⟩
        by_cases e : u = n
        · subst e; exact h
        · exact h2 u (by omega)
      · exact Or.inr ⟨i, by omega, h1, h2⟩
theorem rV_o (C : CS) (V : Nat → Int32) : kI (rV C V) = kI C ∧ kA (rV C V) = kA C ∧ kE (rV C V) = kE C ∧ kN (rV C V) = kN C ∧ kP (rV C V) = kP C ∧ kC (rV C V) = kC C ∧ kL (rV C V) = kL C := ⟨rfl, rfl, rfl, rfl, rfl, rfl, rfl⟩
theorem remL_o (C : CS) (i : Nat) : kI (cRemL C i) = kI C ∧ kA (cRemL C i) = kA C ∧ kE (cRemL C i) = kE C ∧ (∀ j, j ≠ 0 → kN (cRemL C i) j = kN C j) ∧ kN (cRemL C i) 0 = kN C 0 - 1 ∧ kP (cRemL C i) = sh1 i (kP C) ∧ kC (cRemL C i) = sh1 i (kC C) ∧ kL (cRemL C i) = fun f => sh1 i (kL C f) := by
  refine ⟨rfl, rfl, rfl, fun j hj => ?_, ?_, rfl, rfl, rfl⟩
  · show va_up (kN C) 0 (kN C 0 - 1) j = _
    rw [va_up_ne _ _ hj]
  · show va_up (kN C) 0 (kN C 0 - 1) 0 = _
    rw [va_up_self]
theorem addL_o (C : CS) (pa ch : Nat) (x y z : Int32) : kI (cAddL C pa ch x y z) = kI C ∧ kA (cAddL C pa ch x y z) = kA C ∧ kE (cAddL C pa ch x y z) = kE C ∧ (∀ j, j ≠ 0 → kN (cAddL C pa ch x y z) j = kN C j) ∧ kN (cAddL C pa ch x y z) 0 = kN C 0 + 1 ∧ kP (cAddL C pa ch x y z) = va_up (kP C) (kN C 0) pa ∧ kC (cAddL C pa ch x y z) = va_up (kC C) (kN C 0) ch ∧ kL (cAddL C pa ch x y z) = fun f i => if i = kN C 0 then (if f = 0 then x else if f = 1 then y else z) else kL C f i := by
  refine ⟨rfl, rfl, rfl, fun j hj => ?_, ?_, rfl, rfl, rfl⟩
  · show va_up (kN C) 0 (kN C 0 + 1) j = _
    rw [va_up_ne _ _ hj]
  · show va_up (kN C) 0 (kN C 0 + 1) 0 = _
    rw [va_up_self]
theorem ln1_o (C : CS) (pa ch : Nat) (n : Int32) : kI (c_ln1 C pa ch n) = kI C ∧ kA (c_ln1 C pa ch n) = kA C ∧ kE (c_ln1 C pa ch n) = kE C ∧ kN (c_ln1 C pa ch n) = kN C ∧ kP (c_ln1 C pa ch n) = kP C ∧ kC (c_ln1 C pa ch n) = kC C ∧ kL (c_ln1 C pa ch n) = kL C := by
  unfold c_ln1
  generalize (c_lev C (some (pa, ch))).1 = V
  split
  · exact rV_o C V
  · exact ⟨rfl, rfl, rfl, rfl, rfl, rfl, rfl⟩
theorem ln2_o (C : CS) (pa ch : Nat) (n : Int32) : kI (c_ln2 C pa ch n) = kI C ∧ kA (c_ln2 C pa ch n) = kA C ∧ kE (c_ln2 C pa ch n) = kE C ∧ ∀ j, j ≠ 0 → kN (c_ln2 C pa ch n) j = kN C j := by
  obtain ⟨h1, h2, h3, h4, _⟩ := ln1_o C pa ch n
  unfold c_ln2
  generalize c_ln1 C pa ch n = C1 at *
  split
  · exact ⟨h1, h2, h3, fun j _ => by rw [h4]⟩
  · obtain ⟨a1, a2, a3, a4, _⟩ := remL_o C1 (c_fd C pa ch (kN C 0)).toNatClampNeg
    exact ⟨a1.trans h1, a2.trans h2, a3.trans h3, fun j hj => (a4 j hj).trans (by rw [h4])⟩
theorem ln3_o (C : CS) (pa ch : Nat) (n f t : Int32) : kI (c_ln3 C pa ch n f t) = kI C ∧ kA (c_ln3 C pa ch n f t) = kA C ∧ kE (c_ln3 C pa ch n f t) = kE C ∧ ∀ j, j ≠ 0 → kN (c_ln3 C pa ch n f t) j = kN C j := by
  obtain ⟨h1, h2, h3, h4⟩ := ln2_o C pa ch n
  unfold c_ln3
  generalize c_ln2 C pa ch n = C1 at *
  split
  · obtain ⟨a1, a2, a3, a4, _⟩ := addL_o C1 pa ch n f t
    exact ⟨a1.trans h1, a2.trans h2, a3.trans h3, fun j hj => (a4 j hj).trans (h4 j hj)⟩
  · exact ⟨h1, h2, h3, h4⟩
theorem s_pm (a : Int32) : a + 1 - 1 = a - 1 + 1 := by
  rw [Int32.sub_eq_add_neg, Int32.sub_eq_add_neg, Int32.add_assoc, Int32.add_assoc, Int32.add_comm 1 (-1)]
/-- lines behind a line told of -/
theorem ln3_L {C : CS} {M : MS} (h : Ln C M) {pa ch : Nat} (hp : pa < 12) (hc : ch < 12) {n : Int32} (f t : Int32) (hn : n = 0 ∨ ∃ m, 0 < m ∧ m ≤ 9 ∧ n = nI m) (hr : 0 < n → ¬ c_fd C pa ch (kN C 0) = -1 ∨ kN C 0 < 24) :
    LnR (kN (c_ln3 C pa ch n f t) 0) (kP (c_ln3 C pa ch n f t)) (kC (c_ln3 C pa ch n f t)) (kL (c_ln3 C pa ch n f t)) (mS M 14 + bZ (decide (0 < n)) - bZ (decide (0 < mI M 10 (12 * pa + ch)))) (va_up (mI M 10) (12 * pa + ch) n) (va_up (mI M 11) (12 * pa + ch) f) (va_up (mI M 12) (12 * pa + ch) t) := by
  obtain ⟨o1, o2, o3, o4, o5, o6, o7⟩ := ln1_o C pa ch n
  have hR := (ln_r C M).mp h
  rcases fd_sp C pa ch (kN C 0) with ⟨e, hno⟩ | ⟨i, hi, e, ep, ec⟩
  · -- none there
    have h0 : ¬ 0 < mI M 10 (12 * pa + ch) := by
      intro q
      obtain ⟨u, hu, z⟩ := (h.pos hp hc).mp q
      exact hno u hu z
    have h2 := lnr_no hR hp hc hno f t
    have e2 : c_ln2 C pa ch n = c_ln1 C pa ch n := by unfold c_ln2; rw [if_pos e]
    rw [decide_eq_false h0]
    rcases hn with q | ⟨m, m0, m9, q⟩
    · subst q
      have e3 : c_ln3 C pa ch 0 f t = c_ln1 C pa ch 0 := by unfold c_ln3; rw [if_neg (by decide), e2]
      rw [e3, o4, o5, o6, o7]
      have e4 : mS M 14 + bZ (decide ((0 : Int32) < 0)) - bZ false = mS M 14 := by
        show mS M 14 + 0 - 0 = _
        rw [Int32.add_zero, Int32.sub_zero]
      rw [e4]; exact h2
    · subst q
      have hpos : 0 < nI m := nI_lt (a := 0) m0 (by omega)
      have e3 : c_ln3 C pa ch (nI m) f t = cAddL (c_ln1 C pa ch (nI m)) pa ch (nI m) f t := by unfold c_ln3; rw [if_pos hpos, e2]
      have h24 : kN C 0 < 24 := (hr hpos).resolve_left (fun q => q e)
      rw [e3, decide_eq_true hpos]
      have e4 : mS M 14 + bZ true - bZ false = mS M 14 + 1 := by
        show mS M 14 + 1 - 0 = _
        rw [Int32.sub_zero]
      rw [e4]
      have h3 := lnr_add h2 hp hc h24 m0 m9 f t
      obtain ⟨_, _, _, _, g1, g2, g3, g4⟩ := addL_o (c_ln1 C pa ch (nI m)) pa ch (nI m) f t
      rw [g1, g2, g3, g4, o4, o5, o6, o7]
      exact h3
  · have hpos0 : 0 < mI M 10 (12 * pa + ch) := (h.pos hp hc).mpr ⟨i, hi, ep, ec⟩
    have h2 := lnr_rem hR hi ep ec f t
    have hn24 := h.1
    have hne1 : ¬ c_fd C pa ch (kN C 0) = -1 := by
      rw [e]
      intro q
      have q2 := congrArg Int32.toInt q
      rw [nI_toInt (by omega), show (-1 : Int32).toInt = -1 by decide] at q2
      omega
    have e2 : c_ln2 C pa ch n = cRemL (c_ln1 C pa ch n) i := by unfold c_ln2; rw [if_neg hne1, e, nI_clamp (by omega)]
    rw [decide_eq_true hpos0]
    rcases hn with q | ⟨m, m0, m9, q⟩
    · subst q
      have e3 : c_ln3 C pa ch 0 f t = cRemL (c_ln1 C pa ch 0) i := by unfold c_ln3; rw [if_neg (by decide), e2]
      rw [e3]
      have e4 : mS M 14 + bZ (decide ((0 : Int32) < 0)) - bZ true = mS M 14 - 1 := by
        show mS M 14 + 0 - 1 = _
        rw [Int32.add_zero]
      rw [e4]
      obtain ⟨_, _, _, _, g1, g2, g3, g4⟩ := remL_o (c_ln1 C pa ch 0) i
      rw [g1, g2, g3, g4, o4, o5, o6, o7]
      exact h2
    · subst q
      have hpos : 0 < nI m := nI_lt (a := 0) m0 (by omega)
      have e3 : c_ln3 C pa ch (nI m) f t = cAddL (cRemL (c_ln1 C pa ch (nI m)) i) pa ch (nI m) f t := by unfold c_ln3; rw [if_pos hpos, e2]
      rw [e3, decide_eq_true hpos]
      have e4 : mS M 14 + bZ true - bZ true = mS M 14 - 1 + 1 := s_pm _
      rw [e4]
      have h3 := lnr_add h2 hp hc (by omega) m0 m9 f t
      obtain ⟨_, _, _, _, k1, k2, k3, k4⟩ := remL_o (c_ln1 C pa ch (nI m)) i
      obtain ⟨_, _, _, _, g1, g2, g3, g4⟩ := addL_o (cRemL (c_ln1 C pa ch (nI m)) i) pa ch (nI m) f t
      rw [g1, g2, g3, g4, k1, k2, k3, k4, o4, o5, o6, o7]
      exact h3
