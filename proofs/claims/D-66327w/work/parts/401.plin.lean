/-! PLAIN LAW: lines -/
/-- the class's list of lines and the reference's rows -/
def Ln (C : CS) (M : MS) : Prop := kN C 0 ≤ 24 ∧ mS M 14 = nI (kN C 0) ∧
  (∀ u, u < kN C 0 → kP C u < 12 ∧ kC C u < 12 ∧ (∃ n, 0 < n ∧ n ≤ 9 ∧ kL C 0 u = nI n) ∧ mI M 10 (12 * kP C u + kC C u) = kL C 0 u ∧ mI M 11 (12 * kP C u + kC C u) = kL C 1 u ∧ mI M 12 (12 * kP C u + kC C u) = kL C 2 u) ∧
  (∀ u v, u < kN C 0 → v < kN C 0 → kP C u = kP C v → kC C u = kC C v → u = v) ∧
  ∀ p c, p < 12 → c < 12 → ¬ mI M 10 (12 * p + c) = 0 → ∃ u, u < kN C 0 ∧ kP C u = p ∧ kC C u = c
theorem Ln.n24 {C : CS} {M : MS} (h : Ln C M) : kN C 0 ≤ 24 := h.1
theorem Ln.pos {C : CS} {M : MS} (h : Ln C M) {p c : Nat} (hp : p < 12) (hc : c < 12) : 0 < mI M 10 (12 * p + c) ↔ ∃ u, u < kN C 0 ∧ kP C u = p ∧ kC C u = c := by
  constructor
  · intro q
    refine h.2.2.2.2 p c hp hc (fun e => ?_)
    rw [e] at q
    exact absurd q (by decide)
  · rintro ⟨u, hu, e1, e2⟩
    obtain ⟨-, -, ⟨n, n0, n9, en⟩, e, -⟩ := h.2.2.1 u hu
    rw [← e1, ← e2, e, en, show (0 : Int32) = nI 0 from rfl]
    exact nI_lt n0 (by omega)
theorem l_999 (z : Int64) : z + 1000 - 1 = z + 999 := by
  rw [Int64.sub_eq_add_neg, Int64.add_assoc, show (1000 + -1 : Int64) = 999 by decide]
theorem m_asks_0 {M : MS} {pa ch w : Nat} (h : m_q M pa ch w = 0) : m_asks M pa ch w = 0 := by
  unfold m_asks
  rw [h]
  generalize (mI M 10 (12 * pa + ch)).toInt64 = a
  generalize (1000 + (mI M 4 ch).toInt64) = b
  rw [show (0 * a * b + 999 : Int64) = 999 by grind]; decide
/-- what is told of items is alike -/
def Fi (C : CS) (M : MS) : Prop := ∀ k, k < 12 → ∀ j, j < 10 → kI C (j + 1) k = mI M j k
theorem sc_l {s : Nat} (h : s ≤ 200) : (1000 + nI s : Int32).toInt64 = 1000 + (nI s).toInt64 := by
  rw [show (1000 : Int32) + nI s = nI (1000 + s) from nI_add 1000 s, nI_l (by omega), nI_l (by omega), show (1000 : Int64) = lN 1000 from rfl, lN_add]
/-- what a line asks of its child -/
theorem as1_eq {C : CS} {M : MS} (h : Ln C M) (hF : Fi C M) (hs : ∀ k, k < 12 → ∃ s, s ≤ 200 ∧ kI C 5 k = nI s) (hR : Rw C M) {u k w : Nat} (hu : u < kN C 0) : c_as1 C k w u = if kC C u = k then m_asks M (kP C u) k w else 0 := by
  obtain ⟨hp, hc, ⟨n, n0, n9, en⟩, e0, e1, e2⟩ := h.2.2.1 u hu
  unfold c_as1
  by_cases hk : kC C u = k
  · rw [if_pos hk]
    subst hk
    have eL : cLd C (kP C u) = mLd M (kP C u) := by unfold cLd mLd; rw [hF _ hp 2 (by decide)]
    have hpos : 0 < mI M 10 (12 * kP C u + kC C u) := by rw [e0, en]; exact nI_lt (a := 0) n0 (by omega)
    by_cases hc2 : inR (nI w) (kL C 1 u) (kL C 2 u) = true ∧ w + cLd C (kP C u) < 12
    · rw [if_pos ⟨rfl, hc2⟩]
      obtain ⟨h1, h2⟩ := hc2
      simp only [inR, Bool.and_eq_true, decide_eq_true_eq] at h1
      rw [eL] at h2
      unfold m_asks m_q c_of
      rw [if_pos ⟨hpos, h2, by rw [e1]; exact h1.1, by rw [e2]; exact h1.2⟩, e0, eL, (hR _ hp _ h2).2]
      obtain ⟨s, hs1, hs2⟩ := hs _ hc
      have : mI M 4 (kC C u) = nI s := by rw [← hs2]; exact (hF _ hc 4 (by decide)).symm
      rw [hs2, this, sc_l hs1]
      rw [l_999]
    · rw [if_neg (fun q => hc2 q.2)]
      refine (m_asks_0 ?_).symm
      unfold m_q
      refine if_neg (fun q => hc2 ⟨?_, by rw [eL]; exact q.2.1⟩)
      simp only [inR, Bool.and_eq_true, decide_eq_true_eq]
      exact ⟨by rw [← e1]; exact q.2.2.1, by rw [← e2]; exact q.2.2.2⟩
  · rw [if_neg (fun q => hk q.1), if_neg hk]
theorem c_as_sg (C : CS) (k w n : Nat) : c_as C k w n = sg (c_as1 C k w) n := by
  induction n with
  | zero => rfl
  | succ n ih => rw [c_as, sg, ih]
theorem m_gs_sg (M : MS) (i w n : Nat) : m_gs M i w n = m_g0 M i w + sg (fun a => m_asks M a i w) n := by
  induction n with
  | zero => rw [m_gs, sg]; grind
  | succ n ih => rw [m_gs, sg, ih]; grind
theorem as_eq {C : CS} {M : MS} (h : Ln C M) (hF : Fi C M) (hs : ∀ k, k < 12 → ∃ s, s ≤ 200 ∧ kI C 5 k = nI s) (hR : Rw C M) {k : Nat} (hk : k < 12) (w : Nat) : c_as C k w (kN C 0) = sg (fun a => m_asks M a k w) 12 := by
  rw [c_as_sg]
  have e1 : sg (c_as1 C k w) (kN C 0) = sg (fun u => sg (fun a => if kC C u = k ∧ kP C u = a then m_asks M a k w else 0) 12) (kN C 0) := by
    refine sg_c (fun u hu => ?_)
    rw [as1_eq h hF hs hR hu]
    by_cases e : kC C u = k
    · rw [if_pos e, sg_one (j := kP C u) (h.2.2.1 u hu).1 (fun i _ hi => if_neg (fun q => hi q.2.symm)), if_pos ⟨e, rfl⟩]
    · rw [if_neg e, sg_c (g := fun _ => 0) (fun a _ => if_neg (fun q => e q.1)), sg_0]
  rw [e1, sg_sw]
  refine sg_c (fun a ha => ?_)
  by_cases e : 0 < mI M 10 (12 * a + k)
  · obtain ⟨u, hu, eu1, eu2⟩ := (h.pos ha hk).mp e
    rw [sg_one (j := u) hu (fun i hi hne => if_neg (fun q => hne (h.2.2.2.1 i u hi hu (by rw [q.2, eu1]) (by rw [q.1, eu2])))), if_pos ⟨eu2, eu1⟩]
  · rw [m_asks_0 (show m_q M a k w = 0 from if_neg (fun q => e q.1))]
    rw [sg_c (g := fun _ => 0) (fun u _ => ite_self 0), sg_0]
/-- gross needs anew: alike -/
theorem g_eq {C : CS} {M : MS} (h : Ln C M) (hB : Bk C M 1) (hF : Fi C M) (hs : ∀ k, k < 12 → ∃ s, s ≤ 200 ∧ kI C 5 k = nI s) (hR : Rw C M) {k w : Nat} (hk : k < 12) (hw : w < 12) : c_g C k w = m_gs M k w 12 := by
  unfold c_g
  rw [m_gs_sg, as_eq h hF hs hR hk, bk_g0 hB k w hw]
