/-! PLAIN LAW: the relation -/
def Rel (C : CS) (M : MS) : Prop :=
  (St C M) ∧
  (Lv C M) ∧
  (Rw C M) ∧
  (Jt C) ∧
  (J2 C) ∧
  (∀ k, k < 12 → (kI C 12 k ≠ 0 ↔ (mS M 19 = 0 ∨ mI M 17 k ≠ 0))) ∧
  (kT C = mS M 20) ∧
  (kT C = 0 → ∀ k, k < 12 → kI C 12 k = 0) ∧
  (kN C 4 = 0) ∧
  (∀ k, k < 12 → kI C 13 k = 0)
theorem Rel.st {C : CS} {M : MS} (h_ : Rel C M) : St C M := h_.1
theorem Rel.lv {C : CS} {M : MS} (h_ : Rel C M) : Lv C M := h_.2.1
theorem Rel.rw {C : CS} {M : MS} (h_ : Rel C M) : Rw C M := h_.2.2.1
theorem Rel.jt {C : CS} {M : MS} (h_ : Rel C M) : Jt C := h_.2.2.2.1
theorem Rel.j2 {C : CS} {M : MS} (h_ : Rel C M) : J2 C := h_.2.2.2.2.1
theorem Rel.tl {C : CS} {M : MS} (h_ : Rel C M) : ∀ k, k < 12 → (kI C 12 k ≠ 0 ↔ (mS M 19 = 0 ∨ mI M 17 k ≠ 0)) := h_.2.2.2.2.2.1
theorem Rel.tg {C : CS} {M : MS} (h_ : Rel C M) : kT C = mS M 20 := h_.2.2.2.2.2.2.1
theorem Rel.t0 {C : CS} {M : MS} (h_ : Rel C M) : kT C = 0 → ∀ k, k < 12 → kI C 12 k = 0 := h_.2.2.2.2.2.2.2.1
theorem Rel.q0 {C : CS} {M : MS} (h_ : Rel C M) : kN C 4 = 0 := h_.2.2.2.2.2.2.2.2.1
theorem Rel.w0 {C : CS} {M : MS} (h_ : Rel C M) : ∀ k, k < 12 → kI C 13 k = 0 := h_.2.2.2.2.2.2.2.2.2
theorem Rel.cc {C : CS} {M : MS} (h : Rel C M) : CC C := h.st.cc
theorem Rel.mc {C : CS} {M : MS} (h : Rel C M) : MC M := h.st.mc
theorem Rel.qi {C : CS} {M : MS} (h : Rel C M) : QI C := by
  unfold QI
  rw [h.q0]
  exact ⟨fun i hi => by omega, fun k hk => by rw [h.w0 k hk]; rfl⟩
theorem Lv.of {C C' : CS} {M M' : MS} (h : Lv C M) (h1 : kI C' 11 = kI C 11) (h2 : mI M' 10 = mI M 10) : Lv C' M' := by
  unfold Lv Lk at h ⊢
  have e : mE M' = mE M := by funext p c; unfold mE; rw [h2]
  rw [h1, e]
  exact h
theorem Rel_0 : Rel C0 M0 := by
  refine ⟨⟨fun k _ j hj => ?_, ?_, ?_, ?_, ?_, fun k _ j => ?_, fun j _ _ => ⟨rfl, Nat.zero_le _⟩⟩, fun k hk => ?_, fun k _ w _ => ⟨rfl, rfl⟩, ⟨fun k _ h => ?_, fun k _ => rfl⟩, fun k _ _ h => ?_, fun k _ => ?_, rfl, fun h => ?_, rfl, fun k _ => rfl⟩
  · show (if j + 1 = 2 ∨ j + 1 = 12 then (1 : Int32) else 0) = if j = 1 then 1 else 0
    by_cases e : j = 1
    · rw [if_pos (Or.inl (by omega)), if_pos e]
    · rw [if_neg (by omega), if_neg e]
  · exact ⟨rfl, fun i hi => absurd hi (Nat.not_lt_zero i), fun i hi => absurd hi (Nat.not_lt_zero i)⟩
  · exact ⟨rfl, fun i hi => absurd hi (Nat.not_lt_zero i), fun i hi => absurd hi (Nat.not_lt_zero i)⟩
  · exact ⟨rfl, fun i hi => absurd hi (Nat.not_lt_zero i), fun i hi => absurd hi (Nat.not_lt_zero i)⟩
  · exact ⟨Nat.zero_le _, rfl, fun u hu => absurd hu (Nat.not_lt_zero u), fun u v hu => absurd hu (Nat.not_lt_zero u), fun p c _ _ q => absurd rfl q⟩
  · show fok j (if j = 2 ∨ j = 12 then (1 : Int32) else 0)
    refine ⟨fun e => ?_, fun e => ?_, fun e => ?_, fun e => ?_, fun e => ?_, fun e => ?_⟩ <;> subst e
    · exact ⟨0, by omega, rfl⟩
    · exact ⟨1, by omega, by omega, rfl⟩
    · exact ⟨0, by omega, rfl⟩
    · exact ⟨0, by omega, rfl⟩
    · exact ⟨0, by omega, rfl⟩
    · exact ⟨0, by omega, rfl⟩
  · refine ⟨rfl, Nat.zero_le _, True.intro, ?_⟩
    rintro ⟨p, ⟨_, _, q⟩, _⟩
    exact absurd q (by show ¬ (0 : Int32) < 0; decide)
  · exact absurd h (by show ¬ (1 : Int32) = 0; decide)
  · exact absurd h (by show ¬ (1 : Int32) = 0; decide)
  · exact ⟨fun _ => Or.inl rfl, fun _ => by show (1 : Int32) ≠ 0; decide⟩
  · exact absurd h (by show ¬ (1 : Int32) = 0; decide)
/-- a call that tells of those of which D says so, and replans nothing -/
theorem Rel_gen {C C' : CS} {M M' : MS} (D : Nat → Prop) (h : Rel C M) (st' : St C' M') (lv' : Lv C' M') (hA : kA C' = kA C) (hL : mL M' = mL M)
    (h12 : ∀ q, q < 12 → (D q → kI C' 12 q ≠ 0) ∧ (¬ D q → kI C' 12 q = kI C 12 q)) (h17 : ∀ q, q < 12 → (D q → mI M' 17 q ≠ 0) ∧ (¬ D q → mI M' 17 q = mI M 17 q)) (h19 : mS M' 19 = mS M 19)
    (hT : kT C' = mS M' 20) (hT0 : kT C' = 0 → (∀ q, q < 12 → ¬ D q) ∧ kT C = 0) (hN : kN C' 4 = kN C 4) (h13 : kI C' 13 = kI C 13)
    (hf : ∀ q, q < 12 → ¬ D q → ∀ j, j < 8 → mI M' j q = mI M j q)
    (hs : ∀ K, K < 2 → ∀ q, q < 12 → ¬ D q → ∀ w, w < 12 → m_sum M' K (nI q) (nI w) (mCt M' K) = m_sum M K (nI q) (nI w) (mCt M K))
    (hl : ∀ j, j = 10 ∨ j = 11 ∨ j = 12 → ∀ a, a < 12 → ∀ q, q < 12 → ¬ D q → mI M' j (12 * a + q) = mI M j (12 * a + q)) : Rel C' M' := by
  have hR : Rw C' M' := fun k hk w hw => by rw [hA, hL]; exact h.rw k hk w hw
  have hfk : ∀ q, q < 12 → ¬ D q → ∀ j, 1 ≤ j → j ≤ 8 → kI C' j q = kI C j q := by
    intro q hq hd j j1 j8
    have e1 := st'.fi q hq (j - 1) (by omega)
    have e2 := h.st.fi q hq (j - 1) (by omega)
    rw [show j - 1 + 1 = j by omega] at e1 e2
    rw [e1, e2]
    exact hf q hq hd (j - 1) (by omega)
  have hba : ∀ q, q < 12 → ¬ D q → ∀ w, w < 12 → c_ba C' q (w + 1) = c_ba C q (w + 1) := by
    intro q hq hd w hw
    rw [ba_eq st'.b2 hw (st'.fi q hq 7 (by decide)) (fun v hv => (hR q hq v hv).1), ba_eq h.st.b2 hw (h.st.fi q hq 7 (by decide)) (fun v hv => (h.rw q hq v hv).1)]
    unfold m_bare
    rw [hf q hq hd 7 (by decide), hs 1 (by decide) q hq hd w hw, hL]
  have hla : ∀ q, q < 12 → ¬ D q → ∀ w, w < 12 → c_la C' q w = c_la C q w := by
    intro q hq hd w hw
    unfold c_la
    rw [hba q hq hd w hw, hfk q hq hd 4 (by decide) (by decide)]
  have htold : ∀ q, q < 12 → kI C' 12 q = 0 → ¬ D q ∧ kI C 12 q = 0 := by
    intro q hq e
    have hd : ¬ D q := fun d => (h12 q hq).1 d e
    exact ⟨hd, by rw [← (h12 q hq).2 hd]; exact e⟩
  refine ⟨st', lv', hR, ⟨fun k hk hk0 w hw => ?_, fun k hk => by rw [hA]; exact h.jt.2 k hk⟩, ?_, fun k hk => ?_, hT, fun q k hk => ?_, by rw [hN]; exact h.q0, fun k hk => by rw [h13]; exact h.w0 k hk⟩
  · obtain ⟨hd, h0⟩ := htold k hk hk0
    have z := h.jt.1 k hk h0 w hw
    have e1 : ∀ v, v < 12 → PLc C' k v = PLc C k v := fun v hv => PLc_of (fun j j1 j8 => hfk k hk hd j j1 j8) (hla k hk hd) hv
    rw [hA, e1 w hw, hba k hk hd w hw, ← sg_pl, sg_c (g := PLc C k) (fun v hv => e1 v (by omega)), sg_pl]
    exact z
  · intro k hk k13 k12 hpar w hw
    obtain ⟨hd, h0⟩ := htold k hk k12
    have hnE : ∀ p, D p → p < 12 → ¬ 0 < mI M' 10 (12 * p + k) := by
      intro p dp hp q
      obtain ⟨u, hu, e1, e2⟩ := (st'.ln.pos hp hk).mp q
      have := hpar u hu e2
      rw [e1] at this
      exact (h12 p hp).1 dp this
    have e1 := h.j2 k hk (by rw [← h13]; exact k13) h0 (fun u hu eu => by
      obtain ⟨hp, hc, _⟩ := h.st.ln.2.2.1 u hu
      have hpos := (h.st.ln.pos hp hc).mpr ⟨u, hu, rfl, rfl⟩
      rw [eu] at hpos
      rw [← hl 10 (Or.inl rfl) _ hp k hk hd] at hpos
      obtain ⟨v, hv, z1, z2⟩ := (st'.ln.pos hp hk).mp hpos
      have := hpar v hv z2
      rw [z1] at this
      exact (htold _ hp this).2) w hw
    rw [hA, e1, g_eq h.st.ln h.st.b1 h.st.fi h.st.sc h.rw hk hw, g_eq st'.ln st'.b1 st'.fi st'.sc hR hk hw, m_gs_sg, m_gs_sg]
    have eg : m_g0 M' k w = m_g0 M k w := by
      unfold m_g0
      rw [hs 0 (by decide) k hk hd w hw]
      by_cases e : 0 < w
      · rw [if_pos e, if_pos e, hs 0 (by decide) k hk hd (w - 1) (by omega)]
      · rw [if_neg e, if_neg e]
    have ea : sg (fun a => m_asks M' a k w) 12 = sg (fun a => m_asks M a k w) 12 := by
      refine sg_c (fun a ha => ?_)
      by_cases da : D a
      · have q1 := hnE a da ha
        have q2 := q1
        rw [hl 10 (Or.inl rfl) a ha k hk hd] at q2
        rw [m_asks_0 (show m_q M a k w = 0 from if_neg (fun q => q2 q.1)), m_asks_0 (show m_q M' a k w = 0 from if_neg (fun q => q1 q.1))]
      · unfold m_asks m_q
        have eL : mLd M' a = mLd M a := by unfold mLd; rw [hf a ha da 2 (by decide)]
        rw [hl 10 (Or.inl rfl) a ha k hk hd, hl 11 (Or.inr (Or.inl rfl)) a ha k hk hd, hl 12 (Or.inr (Or.inr rfl)) a ha k hk hd, eL, hL, hf k hk hd 4 (by decide)]
    rw [eg, ea]
  · by_cases d : D k
    · exact ⟨fun _ => Or.inr ((h17 k hk).1 d), fun _ => (h12 k hk).1 d⟩
    · rw [(h12 k hk).2 d, (h17 k hk).2 d, h19]; exact h.tl k hk
  · obtain ⟨q1, q2⟩ := hT0 q
    rw [(h12 k hk).2 (q1 k hk)]
    exact h.t0 q2 k hk
/-- the reference's fault alone -/
theorem Rel_x {C : CS} {M : MS} (h : Rel C M) (x : Int32) : Rel C (mz M 0 x) :=
  ⟨⟨h.st.fi, h.st.b1, h.st.b2, h.st.b3, h.st.ln, h.st.fb, h.st.bc⟩, h.lv, h.rw, h.jt, h.j2, h.tl, h.tg, h.t0, h.q0, h.w0⟩
theorem mz_0 (M : MS) (x : Int32) : mS (mz M 0 x) 0 = x := by
  show va_up (mS M) 0 x 0 = x
  exact va_up_self _ _ _
/-- levels that were tried are read by no one -/
theorem Rel_V {C : CS} {M : MS} (h : Rel C M) (V : Nat → Int32) : Rel (rV C V) M := by
  have hc : cS4 C (rV C V) := ⟨fun _ _ _ => rfl, fun _ _ => rfl, rfl, rfl, rfl, rfl⟩
  refine Rel_gen (fun _ => False) h (h.st.of hc (fun _ _ => rfl) rfl) (h.lv.of rfl rfl) rfl rfl (fun q _ => ⟨fun z => z.elim, fun _ => rfl⟩) (fun q _ => ⟨fun z => z.elim, fun _ => rfl⟩) rfl h.tg (fun q => ⟨fun _ _ => id, q⟩) rfl rfl (fun _ _ _ _ _ => rfl) (fun _ _ _ _ _ _ _ => rfl) (fun _ _ _ _ _ _ _ => rfl)
theorem rep_aux {C C1 : CS} {M : MS} (h : Rel C M) (hc0 : cS4 C C1) (hA1 : kA C1 = kA C) (hI1 : ∀ j, j ≠ 13 → kI C1 j = kI C j) (h131 : ∀ q, q < 12 → kI C 12 q ≠ 0 → kI C1 13 q ≠ 0) (hQ1 : QI C1) (hH1 : HP (q_rank C) (kQ C1) (kN C1 4)) : ∃ N, N ≤ 12 ∧ (∀ m, m < N → 0 < kN (c_it C1 m).1 4) ∧ kN (c_it C1 N).1 4 = 0 ∧ ∀ X, m_r2 M 5 = X → nI (c_it C1 N).2 = nI X.2 ∧ Rel (rT (c_it C1 N).1 0) (mz (mz X.1 19 1) 20 0) := by
  have hS : St C1 (mz M 0 0) := h.st.of hc0 (fun _ _ => rfl) rfl
  have hL : Lv C1 (mz M 0 0) := h.lv.of (hc0.1 11 (by decide) (by decide)) rfl
  have hrow : ∀ k w, w < 12 → kA C1 0 k w = kA C 0 k w := fun k w _ => by rw [hA1]
  have h0 : Ls C1 (mz M 0 0) 0 0 (m_r2 M 0) := by
    refine ⟨fun m hm => by omega, Nat.zero_le _, hQ1, ?_, cS4.rf _, fun _ _ _ => Nat.zero_le _, fun k hk q => ?_, ?_, ⟨fun k hk q w hw => ?_, fun k hk => ?_⟩, fun k hk w hw => ?_, fun k hk _ => ?_, fun k hk q => by omega, rfl, fun _ _ => rfl, rfl⟩
    · show HP (q_rank C1) (kQ C1) (kN C1 4)
      rw [rank_of hc0]
      exact hH1
    · show kI C1 13 k ≠ 0
      have q' : kI C1 12 k ≠ 0 := q
      rw [hI1 12 (by decide)] at q'
      exact h131 k hk q'
    · show J2 C1
      intro k hk q1 q2 q3 w hw
      rw [hI1 12 (by decide)] at q2
      rw [hA1, g_of hc0 (fun u _ _ v _ => by rw [hA1]) w]
      refine h.j2 k hk (h.w0 k hk) q2 (fun u hu eu => ?_) w hw
      have z := q3 u (by rw [hc0.2.1 0 (by decide)]; exact hu) (by rw [hc0.2.2.2.1]; exact eu)
      rw [hI1 12 (by decide), hc0.2.2.1] at z
      exact z
    · have q' : kI C1 12 k = 0 := q
      rw [hI1 12 (by decide)] at q'
      show kA C1 3 k w = PLc C1 k w ∧ kA C1 4 k w = c_ba C1 k (w + 1) + gotC C1 k (w + 1)
      rw [PL_of hc0 (hrow k) hw, ba_of hc0 (fun v hv => hrow k v (by omega)), got_of hc0 (hrow k) (by omega), hA1]
      exact h.jt.1 k hk q' w hw
    · show kA C1 2 k 0 = 0
      rw [hA1]; exact h.jt.2 k hk
    · show mL M 18 (12 * k + w) = kA C1 0 k w ∧ mL M 19 (12 * k + w) = kA C1 3 k w
      rw [hA1]; exact h.rw k hk w hw
    · show kI C1 12 k ≠ 0 ↔ (mS (mz M 0 0) 19 = 0 ∨ mI M 17 k ≠ 0)
      rw [hI1 12 (by decide)]
      exact h.tl k hk
  obtain ⟨N, hE⟩ := ls_all hS hL hS.cc h0 5 (Nat.le_refl _)
  have hr : ∀ k, k < 12 → 12 * Lk C1 k + k < 12 * 5 := fun k hk => by have := (hL k hk).2.1; omega
  have hw : ∀ k, k < 12 → kI (c_it C1 N).1 13 k = 0 := fun k hk => Classical.byContradiction (fun q => by have := hE.e k hk q; have := hr k hk; omega)
  have ht : ∀ k, k < 12 → kI (c_it C1 N).1 12 k = 0 := fun k hk => Classical.byContradiction (fun q => hE.j1 k hk q (hw k hk))
  have hkN : kN (c_it C1 N).1 4 = 0 := by
    have e := cnt_sum hE.q.1
    have e2 : sm (cnt (kQ (c_it C1 N).1) (kN (c_it C1 N).1 4)) 12 ≤ sm (fun _ => 0) 12 := sm_le (fun k hk => by rw [hE.q.2 k hk, if_pos (hw k hk)]; exact Nat.le_refl _)
    have e3 : sm (fun _ => 0) 12 = 0 := rfl
    omega
  have hN12 : N ≤ 12 := by
    have e2 : sm (fun k => if 12 * Lk C1 k + k < 12 * 5 then 1 else 0) 12 ≤ sm (fun _ => 1) 12 := sm_le (fun k hk => by split <;> omega)
    have e3 : sm (fun _ => 1) 12 = 12 := rfl
    have := hE.b
    omega
  refine ⟨N, hN12, hE.a, hkN, fun X eX => ?_⟩
  rw [eX] at hE
  have hm : ∀ j, j ≠ 17 → mI (mz (mz X.1 19 1) 20 0) j = mI M j := fun j hj => hE.mi j hj
  have hs5 : cS4 (c_it C1 N).1 (rT (c_it C1 N).1 0) := ⟨fun _ _ _ => rfl, fun _ _ => rfl, rfl, rfl, rfl, rfl⟩
  have hs4 : cS4 C (rT (c_it C1 N).1 0) := (hc0.tr hE.s).tr hs5
  have e19 : mS (mz (mz X.1 19 1) 20 0) 19 = 1 := rfl
  have e20 : mS (mz (mz X.1 19 1) 20 0) 20 = 0 := rfl
  have e14 : mS (mz (mz X.1 19 1) 20 0) 14 = mS M 14 := by
    show mS X.1 14 = _
    rw [hE.ms]; rfl
  refine ⟨by rw [hE.n], ⟨h.st.of hs4 hm e14, h.lv.of (hs4.1 11 (by decide) (by decide)) (hm 10 (by decide)), fun k hk w hw => hE.rw k hk w hw, ⟨fun k hk q w hw => ?_, hE.j3.2⟩, ?_, fun k hk => ?_, e20.symm, fun _ k hk => ht k hk, hkN, hw⟩⟩
  · rw [PL_of hs5 (fun _ _ => rfl) hw, ba_of hs5 (fun _ _ => rfl), got_of hs5 (fun _ _ => rfl) (by omega)]
    exact hE.j3.1 k hk q w hw
  · intro k hk q1 q2 q3 w hw
    rw [g_of hs5 (fun _ _ _ _ _ => rfl) w]
    exact hE.j2 k hk q1 q2 q3 w hw
  · rw [e19]
    refine ⟨fun q => absurd (ht k hk) q, fun q => ?_⟩
    rcases q with q | q
    · exact absurd q (by decide)
    · exact absurd (hE.t0 k hk (hr k hk)) q
theorem r_replan {C : CS} {M : MS} (h : Rel C M) : ∃ N, N ≤ 12 ∧ (∀ m, m < N → 0 < kN (c_it (c_r0 C 12) m).1 4) ∧ kN (c_it (c_r0 C 12) N).1 4 = 0 ∧ nI (c_it (c_r0 C 12) N).2 = m_rpr M ∧ Rel (rT (c_it (c_r0 C 12) N).1 0) (m_rp M) := by
  obtain ⟨N, h1, h2, h3, h4⟩ := rep_aux h (c_r0_s C 12) (r0_A C 12) (fun j hj => r0_I C 12 hj) (fun q hq z => (r0_13 C 12 q).mpr (Or.inr ⟨hq, z⟩)) (c_r0_Q h.qi (Nat.le_refl _)) (HP_r0 (by rw [h.q0]; intro i _ hi; omega) 12)
  obtain ⟨h5, h6⟩ := h4 _ rfl
  exact ⟨N, h1, h2, h3, h5, h6⟩
