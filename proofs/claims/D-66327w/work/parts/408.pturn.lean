/-! PLAIN LAW: turns by rank on both sides -/
theorem gs_eq {C : CS} {M : MS} (h : St C M) (hR : Rw C M) {i w : Nat} (hi : i < 12) (hw : w < 12) : m_gs M i w 12 = c_g C i w := (g_eq h.ln h.b1 h.fi h.sc hR hi hw).symm
theorem plm_eq {C C' : CS} {M : MS} (h : St C M) (hR : Rw C M) {i : Nat} (hi : i < 12) (hc : cS4 C C') (hg : ∀ w, w < 12 → kA C' 0 i w = c_g C i w) {w : Nat} (hw : w < 12) : PLm (mG M i) i w = PLc C' i w := by
  have hS : St C' (mG M i) := h.of hc (fun _ _ => rfl) rfl
  refine (pl_eq hi hS.fi (fun v hv => ?_) hw).symm
  unfold c_la m_lacks
  rw [hS.fi i hi 3 (by decide), ba_eq hS.b2 hv (hS.fi i hi 7 (by decide)) (fun u hu => ?_)]
  rw [mG_18 M hu, hg u hu, gs_eq h hR hi hu]
theorem c2_13 (C : CS) : kI (c2 C) 13 = kI (c_t1 C) 13 := by
  show up2 (kI (c_t1 C)) 12 (kQ C 0) 0 13 = _
  exact up2_m (by decide)
def Ls (C : CS) (M : MS) (t N : Nat) (X : MS × Nat) : Prop :=
  (∀ m, m < N → 0 < kN (c_it C m).1 4) ∧
  (N ≤ sm (fun k => if 12 * Lk C k + k < t then 1 else 0) 12) ∧
  (QI (c_it C N).1) ∧
  (HP (q_rank C) (kQ (c_it C N).1) (kN (c_it C N).1 4)) ∧
  (cS4 C (c_it C N).1) ∧
  (∀ k, k < 12 → kI (c_it C N).1 13 k ≠ 0 → t ≤ 12 * Lk C k + k) ∧
  (∀ k, k < 12 → kI (c_it C N).1 12 k ≠ 0 → kI (c_it C N).1 13 k ≠ 0) ∧
  (J2 (c_it C N).1) ∧
  (Jt (c_it C N).1) ∧
  (Rw (c_it C N).1 X.1) ∧
  (∀ k, k < 12 → t ≤ 12 * Lk C k + k → (kI (c_it C N).1 12 k ≠ 0 ↔ (mS M 19 = 0 ∨ mI X.1 17 k ≠ 0))) ∧
  (∀ k, k < 12 → 12 * Lk C k + k < t → mI X.1 17 k = 0) ∧
  ((c_it C N).2 = X.2) ∧
  (∀ j, j ≠ 17 → mI X.1 j = mI M j) ∧
  (mS X.1 = mS M)
theorem Ls.a {C : CS} {M : MS} {t N : Nat} {X : MS × Nat} (h_ : Ls C M t N X) : ∀ m, m < N → 0 < kN (c_it C m).1 4 := h_.1
theorem Ls.b {C : CS} {M : MS} {t N : Nat} {X : MS × Nat} (h_ : Ls C M t N X) : N ≤ sm (fun k => if 12 * Lk C k + k < t then 1 else 0) 12 := h_.2.1
theorem Ls.q {C : CS} {M : MS} {t N : Nat} {X : MS × Nat} (h_ : Ls C M t N X) : QI (c_it C N).1 := h_.2.2.1
theorem Ls.h {C : CS} {M : MS} {t N : Nat} {X : MS × Nat} (h_ : Ls C M t N X) : HP (q_rank C) (kQ (c_it C N).1) (kN (c_it C N).1 4) := h_.2.2.2.1
theorem Ls.s {C : CS} {M : MS} {t N : Nat} {X : MS × Nat} (h_ : Ls C M t N X) : cS4 C (c_it C N).1 := h_.2.2.2.2.1
theorem Ls.e {C : CS} {M : MS} {t N : Nat} {X : MS × Nat} (h_ : Ls C M t N X) : ∀ k, k < 12 → kI (c_it C N).1 13 k ≠ 0 → t ≤ 12 * Lk C k + k := h_.2.2.2.2.2.1
theorem Ls.j1 {C : CS} {M : MS} {t N : Nat} {X : MS × Nat} (h_ : Ls C M t N X) : ∀ k, k < 12 → kI (c_it C N).1 12 k ≠ 0 → kI (c_it C N).1 13 k ≠ 0 := h_.2.2.2.2.2.2.1
theorem Ls.j2 {C : CS} {M : MS} {t N : Nat} {X : MS × Nat} (h_ : Ls C M t N X) : J2 (c_it C N).1 := h_.2.2.2.2.2.2.2.1
theorem Ls.j3 {C : CS} {M : MS} {t N : Nat} {X : MS × Nat} (h_ : Ls C M t N X) : Jt (c_it C N).1 := h_.2.2.2.2.2.2.2.2.1
theorem Ls.rw {C : CS} {M : MS} {t N : Nat} {X : MS × Nat} (h_ : Ls C M t N X) : Rw (c_it C N).1 X.1 := h_.2.2.2.2.2.2.2.2.2.1
theorem Ls.tl {C : CS} {M : MS} {t N : Nat} {X : MS × Nat} (h_ : Ls C M t N X) : ∀ k, k < 12 → t ≤ 12 * Lk C k + k → (kI (c_it C N).1 12 k ≠ 0 ↔ (mS M 19 = 0 ∨ mI X.1 17 k ≠ 0)) := h_.2.2.2.2.2.2.2.2.2.2.1
theorem Ls.t0 {C : CS} {M : MS} {t N : Nat} {X : MS × Nat} (h_ : Ls C M t N X) : ∀ k, k < 12 → 12 * Lk C k + k < t → mI X.1 17 k = 0 := h_.2.2.2.2.2.2.2.2.2.2.2.1
theorem Ls.n {C : CS} {M : MS} {t N : Nat} {X : MS × Nat} (h_ : Ls C M t N X) : (c_it C N).2 = X.2 := h_.2.2.2.2.2.2.2.2.2.2.2.2.1
theorem Ls.mi {C : CS} {M : MS} {t N : Nat} {X : MS × Nat} (h_ : Ls C M t N X) : ∀ j, j ≠ 17 → mI X.1 j = mI M j := h_.2.2.2.2.2.2.2.2.2.2.2.2.2.1
theorem Ls.ms {C : CS} {M : MS} {t N : Nat} {X : MS × Nat} (h_ : Ls C M t N X) : mS X.1 = mS M := h_.2.2.2.2.2.2.2.2.2.2.2.2.2.2
theorem netb_iff (M : MS) (i : Nat) : m_netb M i = true ↔ ((mS M 19 = 0 ∨ mI M 17 i ≠ 0) ∨ ∃ w, w < 12 ∧ m_gs M i w 12 ≠ mL M 18 (12 * i + w)) := by
  unfold m_netb
  rw [Bool.or_eq_true, Bool.or_eq_true, dif_iff, decide_eq_true_eq, decide_eq_true_eq]
/-- no one's turn -/
theorem ls_none {C : CS} {M : MS} {t N : Nat} {X : MS × Nat} (h : Ls C M t N X) (hn : ∀ k, k < 12 → 12 * Lk C k + k ≠ t) : Ls C M (t + 1) N X := by
  refine ⟨h.a, Nat.le_trans h.b (sm_le (fun k hk => ?_)), h.q, h.h, h.s, fun k hk q => ?_, h.j1, h.j2, h.j3, h.rw, fun k hk q => h.tl k hk (by omega), fun k hk q => h.t0 k hk (by have := hn k hk; omega), h.n, h.mi, h.ms⟩
  · split
    · rw [if_pos (by omega)]; exact Nat.le_refl _
    · exact Nat.zero_le _
  · have := h.e k hk q
    have := hn k hk
    omega
/-- the reference nets one that doesn't wait: nothing becomes another -/
theorem ls_skip {C : CS} {M : MS} {t N : Nat} {X : MS × Nat} (hS : St C M) (hL : Lv C M) (h : Ls C M t N X) {i : Nat} (hi : i < 12) (ht : 12 * Lk C i + i = t) (hw0 : kI (c_it C N).1 13 i = 0) : Ls C M (t + 1) N (m_net X.1 i, if m_netb X.1 i = true then X.2 + 1 else X.2) := by
  have hS2 : St (c_it C N).1 X.1 := hS.of h.s h.mi (by rw [h.ms])
  have htold : kI (c_it C N).1 12 i = 0 := Classical.byContradiction (fun q => h.j1 i hi q hw0)
  have hg : ∀ w, w < 12 → kA (c_it C N).1 0 i w = c_g (c_it C N).1 i w := by
    refine h.j2 i hi hw0 htold (fun u hu eu => ?_)
    rw [h.s.2.1 0 (by decide)] at hu
    rw [h.s.2.2.2.1] at eu
    rw [h.s.2.2.1]
    have hp := (hS.ln.2.2.1 u hu).1
    have hE := hS.mE hu
    rw [eu] at hE
    have hlt := hL.lt hp hi hE
    refine Classical.byContradiction (fun q => ?_)
    have := h.e _ hp (h.j1 _ hp q)
    omega
  have hnb : ¬ m_netb X.1 i = true := by
    rw [netb_iff]
    rintro (q | ⟨w, hw, q⟩)
    · rw [h.ms] at q
      exact (h.tl i hi (by omega)).mpr q htold
    · exact q (by rw [gs_eq hS2 h.rw hi hw, (h.rw i hi w hw).1, hg w hw])
  rw [if_neg hnb]
  refine ⟨h.a, Nat.le_trans h.b (sm_le (fun k hk => ?_)), h.q, h.h, h.s, fun k hk q => ?_, h.j1, h.j2, h.j3, fun k hk w hw => ?_, fun k hk q => ?_, fun k hk q => ?_, h.n, fun j hj => ?_, h.ms⟩
  · split
    · rw [if_pos (by omega)]; exact Nat.le_refl _
    · exact Nat.zero_le _
  · have h1 := h.e k hk q
    by_cases e : k = i
    · subst e; exact absurd hw0 q
    · omega
  · by_cases e : k = i
    · subst e
      refine ⟨?_, ?_⟩
      · show mL (m_net X.1 k) 18 (12 * k + w) = _
        rw [mnet_18 X.1 hw, gs_eq hS2 h.rw hi hw, hg w hw]
      · show mL (m_net X.1 k) 19 (12 * k + w) = _
        rw [mnet_19 X.1 hw, plm_eq hS2 h.rw hi (cS4.rf _) hg hw, (h.j3.1 k hk htold w hw).1]
    · show mL (m_net X.1 i) 18 _ = _ ∧ mL (m_net X.1 i) 19 _ = _
      rw [mnet_o X.1 i (Or.inl rfl) e hw, mnet_o X.1 i (Or.inr rfl) e hw]
      exact h.rw k hk w hw
  · show _ ↔ (mS M 19 = 0 ∨ mI (m_net X.1 i) 17 k ≠ 0)
    rw [mnet_17, if_neg (by intro e; subst e; omega)]
    exact h.tl k hk (by omega)
  · show mI (m_net X.1 i) 17 k = 0
    rw [mnet_17]
    by_cases e : k = i
    · rw [if_pos e]
    · rw [if_neg e]; exact h.t0 k hk (by omega)
  · show mI (m_net X.1 i) j = _
    rw [mnet_I X.1 i hj, h.mi j hj]
theorem rank_n {C : CS} {M : MS} (hL : Lv C M) {k : Nat} (hk : k < 12) : q_rank C k = nI (12 * Lk C k + k) := by
  unfold q_rank
  rw [(hL k hk).1, show (12 : Int32) = nI 12 from rfl, ← nI_add]
  congr 1
  have := (hL k hk).2.1
  refine i_c12 (P := fun a => nI 12 * nI a = nI (12 * a)) ?_ ?_ ?_ ?_ ?_ ?_ ?_ ?_ ?_ ?_ ?_ ?_ (show Lk C k < 12 by omega) <;> decide
/-- one that waits has its turn on both sides -/
theorem ls_turn {C : CS} {M : MS} {t N : Nat} {X : MS × Nat} (hS : St C M) (hL : Lv C M) (hC : CC C) (h : Ls C M t N X) {i : Nat} (hi : i < 12) (ht : 12 * Lk C i + i = t) (hw0 : kI (c_it C N).1 13 i ≠ 0) : Ls C M (t + 1) (N + 1) (m_net X.1 i, if m_netb X.1 i = true then X.2 + 1 else X.2) := by
  have hS2 : St (c_it C N).1 X.1 := hS.of h.s h.mi (by rw [h.ms])
  -- it is the queue's first
  have h1 : cnt (kQ (c_it C N).1) (kN (c_it C N).1 4) i = 1 := by rw [h.q.2 i hi, if_neg hw0]
  obtain ⟨p, hp, ep⟩ := cnt_in (Q := kQ (c_it C N).1) (n := kN (c_it C N).1 4) (k := i) (by omega)
  have hpos : 0 < kN (c_it C N).1 4 := by omega
  have hq12 := h.q.1 0 hpos
  have e0 : kQ (c_it C N).1 0 = i := by
    have h2 := hp_top h.h p hp
    rw [ep, rank_n hL hi, rank_n hL hq12] at h2
    have hl1 := (hL i hi).2.1
    have hl2 := (hL _ hq12).2.1
    have h3 : 12 * Lk C (kQ (c_it C N).1 0) + kQ (c_it C N).1 0 ≤ 12 * Lk C i + i := n_ge h2 (by omega) (by omega)
    have h4 : kI (c_it C N).1 13 (kQ (c_it C N).1 0) ≠ 0 := by
      intro q
      have h5 := cnt_pos (Q := kQ (c_it C N).1) hpos
      rw [h.q.2 _ hq12, if_pos q] at h5
      omega
    have h6 := h.e _ hq12 h4
    omega
  have hc12 : ∀ u, u < kN (c_it C N).1 0 → kC (c_it C N).1 u < 12 := fun u hu => (hS2.ln.2.2.1 u hu).2.1
  have hCt : CC (c_it C N).1 := hC.s4 h.s
  have es : (c_it C (N + 1)).1 = c_st (c_it C N).1 := rfl
  have hst := c_st_s (c_it C N).1
  have hsb : c_sb (c_it C N).1 = true ↔ m_netb X.1 i = true := by
    rw [sb_iff, netb_iff, e0, h.ms]
    rw [← h.tl i hi (by omega)]
    constructor
    · rintro (⟨w, hw, q⟩ | q)
      · exact Or.inr ⟨w, hw, by rw [gs_eq hS2 h.rw hi hw, (h.rw i hi w hw).1]; exact q⟩
      · exact Or.inl q
    · rintro (q | ⟨w, hw, q⟩)
      · exact Or.inr q
      · rw [gs_eq hS2 h.rw hi hw, (h.rw i hi w hw).1] at q
        exact Or.inl ⟨w, hw, q⟩
  -- what the turn lays
  have hself : ∀ u, u < kN (c_it C N).1 0 → kC (c_it C N).1 u = i → kP (c_it C N).1 u ≠ i := by
    intro u hu eu ep
    have hE := hS2.mE hu
    rw [eu, ep] at hE
    have hE' : mE M i i := ⟨hE.1, hE.2.1, by have := hE.2.2; rw [h.mi 10 (by decide)] at this; exact this⟩
    have := hL.lt hi hi hE'
    omega
  have hA0 : ∀ w, w < 12 → kA (c_st (c_it C N).1) 0 i w = c_g (c_it C N).1 i w := by
    intro w hw
    by_cases e : c_sb (c_it C N).1 = true
    · rw [st_t e, kids_A, net_0, c2_A]
      show (if 0 = 0 ∧ i = kQ (c_it C N).1 0 ∧ w < 12 then c_g (c_it C N).1 i w else kA (c_it C N).1 0 i w) = _
      rw [if_pos ⟨rfl, e0.symm, hw⟩]
    · rw [st_f e, gr_A]
      show (if 0 = 0 ∧ i = kQ (c_it C N).1 0 ∧ w < 12 then c_g (c_it C N).1 i w else kA (c_it C N).1 0 i w) = _
      rw [if_pos ⟨rfl, e0.symm, hw⟩]
  have hAo : ∀ k, k ≠ i → ∀ j, kA (c_st (c_it C N).1) j k = kA (c_it C N).1 j k := by
    intro k hk j
    by_cases e : c_sb (c_it C N).1 = true
    · rw [st_t e, kids_A, net_k _ (by rw [e0]; exact hk), c2_A]
      funext w
      show (if j = 0 ∧ k = kQ (c_it C N).1 0 ∧ w < 12 then c_g (c_it C N).1 k w else kA (c_it C N).1 j k w) = _
      rw [if_neg (fun q => hk (by rw [q.2.1, e0]))]
    · rw [st_f e, gr_A]
      funext w
      show (if j = 0 ∧ k = kQ (c_it C N).1 0 ∧ w < 12 then c_g (c_it C N).1 k w else kA (c_it C N).1 j k w) = _
      rw [if_neg (fun q => hk (by rw [q.2.1, e0]))]
  have hA2 : ∀ k, kA (c_st (c_it C N).1) 2 k 0 = kA (c_it C N).1 2 k 0 := by
    intro k
    by_cases e : c_sb (c_it C N).1 = true
    · rw [st_t e, kids_A, net_20, c2_A]
      show (if 2 = 0 ∧ k = kQ (c_it C N).1 0 ∧ 0 < 12 then c_g (c_it C N).1 k 0 else kA (c_it C N).1 2 k 0) = _
      rw [if_neg (by omega)]
    · rw [st_f e, gr_A]
      show (if 2 = 0 ∧ k = kQ (c_it C N).1 0 ∧ 0 < 12 then c_g (c_it C N).1 k 0 else kA (c_it C N).1 2 k 0) = _
      rw [if_neg (by omega)]
  have hT : ∀ k, kI (c_st (c_it C N).1) 12 k = if k = i then 0 else kI (c_it C N).1 12 k := by
    intro k
    by_cases e : c_sb (c_it C N).1 = true
    · rw [st_t e, kids_I _ _ _ (by decide), (c_net_s _ _).2.2.2.1]
      show up2 (kI (c_gr (c_t1 (c_it C N).1) (kQ (c_it C N).1 0))) 12 (kQ (c_it C N).1 0) 0 12 k = _
      rw [up2_w, e0]
      show (if k = i then (0 : Int32) else kI (c_t1 (c_it C N).1) 12 k) = _
      rw [t1_I _ (by decide)]
    · rw [st_f e]
      show kI (c_t1 (c_it C N).1) 12 k = _
      rw [t1_I _ (by decide)]
      by_cases q : k = i
      · rw [if_pos q]
        subst q
        refine Classical.byContradiction (fun z => e ?_)
        rw [sb_iff, e0]
        exact Or.inr z
      · rw [if_neg q]
  have hW : ∀ k, kI (c_st (c_it C N).1) 13 k ≠ 0 → (k ≠ i ∧ kI (c_it C N).1 13 k ≠ 0) ∨ ∃ u, u < kN (c_it C N).1 0 ∧ kP (c_it C N).1 u = i ∧ kC (c_it C N).1 u = k := by
    intro k
    by_cases e : c_sb (c_it C N).1 = true
    · rw [st_t e, kids_13, (c_net_s _ _).2.2.2.1, e0, (c_net_s (c2 (c_it C N).1) i).1.2.2.1, (c_net_s (c2 (c_it C N).1) i).1.2.2.2.1, (c2_s (c_it C N).1).2.2.1, (c2_s (c_it C N).1).2.2.2.1]
      rintro (q | q)
      · left
        have q2 : kI (c_t1 (c_it C N).1) 13 k ≠ 0 := by
          have : kI (c2 (c_it C N).1) 13 = kI (c_t1 (c_it C N).1) 13 := c2_13 _
          rw [this] at q
          exact q
        rw [t1_13, e0] at q2
        by_cases z : k = i
        · rw [if_pos z] at q2; exact absurd rfl q2
        · rw [if_neg z] at q2; exact ⟨z, q2⟩
      · exact Or.inr q
    · rw [st_f e]
      intro q
      left
      have q2 : kI (c_t1 (c_it C N).1) 13 k ≠ 0 := q
      rw [t1_13, e0] at q2
      by_cases z : k = i
      · rw [if_pos z] at q2; exact absurd rfl q2
      · rw [if_neg z] at q2; exact ⟨z, q2⟩
  have hW2 : ∀ k, k ≠ i → kI (c_it C N).1 13 k ≠ 0 → kI (c_st (c_it C N).1) 13 k ≠ 0 := by
    intro k hk q
    have q2 : kI (c_t1 (c_it C N).1) 13 k ≠ 0 := by rw [t1_13, e0, if_neg hk]; exact q
    by_cases e : c_sb (c_it C N).1 = true
    · rw [st_t e, kids_13, (c_net_s _ _).2.2.2.1]
      left
      have : kI (c2 (c_it C N).1) 13 = kI (c_t1 (c_it C N).1) 13 := c2_13 _
      rw [this]; exact q2
    · rw [st_f e]; exact q2
  have hW3 : c_sb (c_it C N).1 = true → ∀ u, u < kN (c_it C N).1 0 → kP (c_it C N).1 u = i → kI (c_st (c_it C N).1) 13 (kC (c_it C N).1 u) ≠ 0 := by
    intro e u hu eu
    rw [st_t e, kids_13, e0, (c_net_s (c2 (c_it C N).1) i).1.2.2.1, (c_net_s (c2 (c_it C N).1) i).1.2.2.2.1, (c2_s (c_it C N).1).2.2.1, (c2_s (c_it C N).1).2.2.2.1]
    exact Or.inr ⟨u, hu, eu, rfl⟩
  have hA3 : ∀ w, w < 12 → kA (c_st (c_it C N).1) 3 i w = PLc (c_st (c_it C N).1) i w ∧ kA (c_st (c_it C N).1) 4 i w = c_ba (c_st (c_it C N).1) i (w + 1) + gotC (c_st (c_it C N).1) i (w + 1) := by
    intro w hw
    by_cases e : c_sb (c_it C N).1 = true
    · have hc2 : CC (c2 (c_it C N).1) := hCt.s4 (c2_s _)
      have h20 : kA (c2 (c_it C N).1) 2 i 0 = 0 := by
        rw [c2_A]
        show (if 2 = 0 ∧ i = kQ (c_it C N).1 0 ∧ 0 < 12 then c_g (c_it C N).1 i 0 else kA (c_it C N).1 2 i 0) = 0
        rw [if_neg (by omega)]
        exact h.j3.2 i hi
      have hs4 : cS4 (c2 (c_it C N).1) (c_st (c_it C N).1) := by
        rw [st_t e]
        exact (c_net_s _ _).1.tr (c_kids_s _ _ _)
      have hrow : ∀ w, w < 12 → kA (c_st (c_it C N).1) 0 i w = kA (c2 (c_it C N).1) 0 i w := by
        intro w _
        rw [st_t e, kids_A, net_0]
      rw [PL_of hs4 hrow hw, ba_of hs4 (fun v hv => hrow v (by omega)), got_of hs4 hrow (by omega)]
      rw [st_t e, kids_A, e0]
      exact ⟨net_3 hc2 hi h20 hw, net_4 hc2 hi h20 hw⟩
    · have hs4 := hst
      have htold : kI (c_it C N).1 12 i = 0 := by
        refine Classical.byContradiction (fun z => e ?_)
        rw [sb_iff, e0]
        exact Or.inr z
      have hrow : ∀ w, w < 12 → kA (c_st (c_it C N).1) 0 i w = kA (c_it C N).1 0 i w := by
        intro w hw
        rw [hA0 w hw]
        refine Classical.byContradiction (fun z => e ?_)
        rw [sb_iff, e0]
        exact Or.inl ⟨w, hw, z⟩
      rw [PL_of hs4 hrow hw, ba_of hs4 (fun v hv => hrow v (by omega)), got_of hs4 hrow (by omega)]
      have q := h.j3.1 i hi htold w hw
      rw [st_f e, gr_A]
      show (if 3 = 0 ∧ i = kQ (c_it C N).1 0 ∧ w < 12 then c_g (c_it C N).1 i w else kA (c_it C N).1 3 i w) = _ ∧ (if 4 = 0 ∧ i = kQ (c_it C N).1 0 ∧ w < 12 then c_g (c_it C N).1 i w else kA (c_it C N).1 4 i w) = _
      rw [if_neg (by omega), if_neg (by omega)]
      exact q
  refine ⟨fun m hm => ?_, ?_, ?_, ?_, h.s.tr hst, fun k hk q => ?_, fun k hk q => ?_, ?_, ⟨fun k hk q w hw => ?_, fun k hk => ?_⟩, fun k hk w hw => ?_, fun k hk q => ?_, fun k hk q => ?_, ?_, fun j hj => ?_, h.ms⟩
  · by_cases e : m = N
    · subst e; exact hpos
    · exact h.a m (by omega)
  · have h5 := h.b
    have h6 : sm (fun k => (if 12 * Lk C k + k < t then 1 else 0) + (if i = k then 1 else 0)) 12 ≤ sm (fun k => if 12 * Lk C k + k < t + 1 then 1 else 0) 12 := by
      refine sm_le (fun k hk => ?_)
      by_cases e : i = k
      · subst e; rw [if_neg (by omega), if_pos rfl, if_pos (by omega)]; exact Nat.le_refl _
      · rw [if_neg e]
        split
        · rw [if_pos (by omega)]; exact Nat.le_refl _
        · exact Nat.zero_le _
    rw [sm_c, sm_1 hi] at h6
    omega
  · rw [es]; exact c_st_Q h.q hpos hc12
  · rw [es]
    have e1 := rank_of h.s
    rw [← e1]
    exact st_HP (by rw [e1]; exact h.h) hpos
  · rw [es] at q
    rcases hW k q with ⟨z1, z2⟩ | ⟨u, hu, z1, z2⟩
    · have := h.e k hk z2; omega
    · have hE := hS2.mE hu
      rw [z1, z2] at hE
      have hE' : mE M i k := ⟨hE.1, hE.2.1, by have := hE.2.2; rw [h.mi 10 (by decide)] at this; exact this⟩
      have := hL.lt hi hk hE'
      omega
  · rw [es] at q ⊢
    rw [hT] at q
    by_cases e : k = i
    · rw [if_pos e] at q; exact absurd rfl q
    · rw [if_neg e] at q; exact hW2 k e (h.j1 k hk q)
  · rw [es]
    intro k hk q1 q2 q3 w hw
    by_cases e : k = i
    · subst e
      rw [hA0 w hw]
      refine (g_of hst (fun u hu eu v hv => ?_) w).symm
      rw [hAo _ (hself u hu eu)]
    · have hne : ∀ u, u < kN (c_it C N).1 0 → kC (c_it C N).1 u = k → c_sb (c_it C N).1 = true → kP (c_it C N).1 u ≠ i := by
        intro u hu eu hb ep
        have := hW3 hb u hu ep
        rw [eu] at this
        exact this q1
      have hn1 : kI (c_it C N).1 13 k = 0 := Classical.byContradiction (fun z => hW2 k e z q1)
      have hn2 : kI (c_it C N).1 12 k = 0 := Classical.byContradiction (fun z => h.j1 k hk z hn1)
      rw [hAo k e]
      rw [g_of hst (fun u hu eu v hv => ?_) w]
      · refine h.j2 k hk hn1 hn2 (fun u hu eu => ?_) w hw
        have z := q3 u (by rw [hst.2.1 0 (by decide)]; exact hu) (by rw [hst.2.2.2.1]; exact eu)
        rw [hst.2.2.1, hT] at z
        by_cases ep : kP (c_it C N).1 u = i
        · rw [ep]
          refine Classical.byContradiction (fun y => ?_)
          exact hne u hu eu (by rw [sb_iff, e0]; exact Or.inr y) ep
        · rw [if_neg ep] at z; exact z
      · by_cases ep : kP (c_it C N).1 u = i
        · by_cases hb : c_sb (c_it C N).1 = true
          · exact absurd ep (hne u hu eu hb)
          · rw [st_f hb, gr_A]
            show (if 3 = 0 ∧ kP (c_it C N).1 u = kQ (c_it C N).1 0 ∧ v < 12 then c_g (c_it C N).1 (kP (c_it C N).1 u) v else kA (c_it C N).1 3 (kP (c_it C N).1 u) v) = _
            rw [if_neg (by omega)]
        · rw [hAo _ ep]
  · rw [es] at q ⊢
    by_cases e : k = i
    · subst e; exact hA3 w hw
    · rw [hT, if_neg e] at q
      have z := h.j3.1 k hk q w hw
      have hrow : ∀ w, w < 12 → kA (c_st (c_it C N).1) 0 k w = kA (c_it C N).1 0 k w := fun w _ => by rw [hAo k e]
      rw [PL_of hst hrow hw, ba_of hst (fun v hv => hrow v (by omega)), got_of hst hrow (by omega), hAo k e, hAo k e]
      exact z
  · rw [es, hA2]; exact h.j3.2 k hk
  · rw [es]
    by_cases e : k = i
    · subst e
      refine ⟨?_, ?_⟩
      · show mL (m_net X.1 k) 18 (12 * k + w) = _
        rw [mnet_18 X.1 hw, gs_eq hS2 h.rw hi hw, hA0 w hw]
      · show mL (m_net X.1 k) 19 (12 * k + w) = _
        rw [mnet_19 X.1 hw, plm_eq hS2 h.rw hi hst hA0 hw, (hA3 w hw).1]
    · show mL (m_net X.1 i) 18 _ = _ ∧ mL (m_net X.1 i) 19 _ = _
      rw [mnet_o X.1 i (Or.inl rfl) e hw, mnet_o X.1 i (Or.inr rfl) e hw, hAo k e, hAo k e]
      exact h.rw k hk w hw
  · show kI (c_it C (N + 1)).1 12 k ≠ 0 ↔ (mS M 19 = 0 ∨ mI (m_net X.1 i) 17 k ≠ 0)
    have e : k ≠ i := by intro e; subst e; omega
    rw [es, hT, if_neg e, mnet_17, if_neg e]
    exact h.tl k hk (by omega)
  · show mI (m_net X.1 i) 17 k = 0
    rw [mnet_17]
    by_cases e : k = i
    · rw [if_pos e]
    · rw [if_neg e]; exact h.t0 k hk (by omega)
  · show (if c_sb (c_it C N).1 = true then (c_it C N).2 + 1 else (c_it C N).2) = if m_netb X.1 i = true then X.2 + 1 else X.2
    rw [h.n]
    by_cases e : c_sb (c_it C N).1 = true
    · rw [if_pos e, if_pos (hsb.mp e)]
    · rw [if_neg e, if_neg (fun q => e (hsb.mpr q))]
  · show mI (m_net X.1 i) j = _
    rw [mnet_I X.1 i hj, h.mi j hj]
theorem ls_step {C : CS} {M : MS} {t N : Nat} {X : MS × Nat} (hS : St C M) (hL : Lv C M) (hC : CC C) (h : Ls C M t N X) {lev i : Nat} (hi : i < 12) (hl : lev < 5) (ht : 12 * lev + i = t) : ∃ N', Ls C M (t + 1) N' (m_rs X lev i) := by
  have e : m_lvl X.1 i = nI (Lk C i) := by rw [m_lvl_c (h.mi 10 (by decide))]; exact hL.lvl hi
  have h4 := (hL i hi).2.1
  by_cases q : Lk C i = lev
  · rw [m_rs_t (by rw [e, q])]
    by_cases w : kI (c_it C N).1 13 i = 0
    · exact ⟨N, ls_skip hS hL h hi (by omega) w⟩
    · exact ⟨N + 1, ls_turn hS hL hC h hi (by omega) w⟩
  · rw [m_rs_f (by rw [e]; intro z; exact q ((nI_eq (by omega) (by omega)).mp z))]
    exact ⟨N, ls_none h (fun k hk z => q (by have : k = i := by omega
                                             subst this; omega))⟩
theorem ls_lev {C : CS} {M : MS} {N : Nat} {X : MS × Nat} (hS : St C M) (hL : Lv C M) (hC : CC C) {lev : Nat} (hl : lev < 5) (h : Ls C M (12 * lev) N X) (n : Nat) (hn : n ≤ 12) : ∃ N', Ls C M (12 * lev + n) N' (m_r1 X lev n) := by
  induction n with
  | zero => exact ⟨N, h⟩
  | succ n ih =>
    obtain ⟨N', h'⟩ := ih (by omega)
    exact ls_step hS hL hC h' (by omega) hl rfl
theorem ls_all {C : CS} {M : MS} {N : Nat} (hS : St C M) (hL : Lv C M) (hC : CC C) {M1 : MS} (h : Ls C M 0 N (m_r2 M1 0)) (n : Nat) (hn : n ≤ 5) : ∃ N', Ls C M (12 * n) N' (m_r2 M1 n) := by
  induction n with
  | zero => exact ⟨N, h⟩
  | succ n ih =>
    obtain ⟨N', h'⟩ := ih (by omega)
    exact ls_lev hS hL hC (by omega) h' 12 (Nat.le_refl _)
