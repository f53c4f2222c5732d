/-! PLAIN LAW: calls that tell -/
theorem in_0 {x : Int32} {n : Nat} (hn : n < 2 ^ 31) (h : inR x 0 (nI n) = true) : ∃ a, a ≤ n ∧ x = nI a := by
  simp only [inR, Bool.and_eq_true, decide_eq_true_eq] at h
  exact nI_of2 (nI_toInt hn) (Int32.not_lt.mpr h.1) h.2
theorem in_1 {x : Int32} {n : Nat} (hn : n < 2 ^ 31) (h : inR x 1 (nI n) = true) : ∃ a, 1 ≤ a ∧ a ≤ n ∧ x = nI a := by
  simp only [inR, Bool.and_eq_true, decide_eq_true_eq] at h
  obtain ⟨a, ha, e⟩ := nI_of2 (nI_toInt hn) (Int32.not_lt.mpr (Int32.le_trans (by decide) h.1)) h.2
  subst e
  exact ⟨a, n_ge (a := a) (b := 1) h.1 (by omega) (by omega), ha, rfl⟩
theorem up2_i {f : Nat → Nat → Int32} {j k j' k' : Nat} {v : Int32} : up2 f j k v j' k' = if j' = j ∧ k' = k then v else f j' k' := rfl
/-- fields of one item, told of -/
theorem Rel_fld {C : CS} {M : MS} (h : Rel C M) {k : Nat} (hk : k < 12) {I' J' : Nat → Nat → Int32} (hI : ∀ j q, (q ≠ k ∨ 9 ≤ j) → I' j q = kI C j q) (hJ : ∀ j q, (q ≠ k ∨ 8 ≤ j) → J' j q = mI M j q) (hF : ∀ j, j < 8 → I' (j + 1) k = J' j k) (hb : ∀ j, fok j (I' j k)) : Rel (c_tell (rI C I') k) (m_tell (J', mL M, mS (mz M 0 0)) k) := by
  have eI : ∀ j q, j ≠ 12 → kI (c_tell (rI C I') k) j q = I' j q := fun j q hj => congrFun (show up2 I' 12 k 1 j = I' j from up2_m hj) q
  have eJ : ∀ j q, j ≠ 17 → mI (m_tell (J', mL M, mS (mz M 0 0)) k) j q = J' j q := fun j q hj => congrFun (show up2 J' 17 k 1 j = J' j from up2_m hj) q
  have eJ2 : ∀ j, j ≠ 17 → 8 ≤ j → mI (m_tell (J', mL M, mS (mz M 0 0)) k) j = mI M j := fun j hj h8 => by funext q; rw [eJ j q hj, hJ j q (Or.inr h8)]
  have hB : ∀ j, 1 ≤ j → j ≤ 3 → Bk (c_tell (rI C I') k) (m_tell (J', mL M, mS (mz M 0 0)) k) j := by
    intro j j1 j3
    have := h.st.bk j1 j3
    unfold Bk mCt at this ⊢
    rw [eJ2 13 (by decide) (by decide), eJ2 14 (by decide) (by decide), eJ2 15 (by decide) (by decide), eJ2 16 (by decide) (by decide)]
    exact this
  have hst : St (c_tell (rI C I') k) (m_tell (J', mL M, mS (mz M 0 0)) k) := by
    refine ⟨fun q hq j hj => ?_, hB 1 (by decide) (by decide), hB 2 (by decide) (by decide), hB 3 (by decide) (by decide), ?_, fun q hq j => ?_, fun j j1 j3 => ?_⟩
    · rw [eI _ _ (by omega), eJ _ _ (by omega)]
      by_cases e : q = k
      · by_cases e8 : j < 8
        · rw [e]; exact hF j e8
        · rw [hI _ _ (Or.inr (by omega)), hJ _ _ (Or.inr (by omega))]; exact h.st.fi q hq j hj
      · rw [hI _ _ (Or.inl e), hJ _ _ (Or.inl e)]; exact h.st.fi q hq j hj
    · have := h.st.ln
      unfold Ln at this ⊢
      rw [eJ2 10 (by decide) (by decide), eJ2 11 (by decide) (by decide), eJ2 12 (by decide) (by decide)]
      exact this
    · by_cases e12 : j = 12
      · exact ⟨fun z => by omega, fun z => by omega, fun z => by omega, fun z => by omega, fun z => by omega, fun z => by omega⟩
      · rw [eI _ _ e12]
        by_cases e : q = k
        · rw [e]; exact hb j
        · rw [hI _ _ (Or.inl e)]; exact h.st.fb q hq j
    · rw [eJ2 13 (by decide) (by decide)]
      exact h.st.bc j j1 j3
  have hlv : Lv (c_tell (rI C I') k) (m_tell (J', mL M, mS (mz M 0 0)) k) := h.lv.of (by funext q; rw [eI _ _ (by decide), hI _ _ (Or.inr (by decide))]) (eJ2 10 (by decide) (by decide))
  refine Rel_gen (fun q => q = k) h hst hlv rfl rfl (fun q _ => ⟨fun e => ?_, fun e => ?_⟩) (fun q _ => ⟨fun e => ?_, fun e => ?_⟩) rfl rfl (fun q => ?_) rfl ?_ (fun q _ e j hj => ?_) (fun K _ q _ _ w _ => ?_) (fun j hj a _ q _ _ => ?_)
  · show up2 I' 12 k 1 12 q ≠ 0
    rw [e, up2_s]; decide
  · show up2 I' 12 k 1 12 q = _
    rw [up2_n (Or.inr e), hI _ _ (Or.inl e)]
  · show up2 J' 17 k 1 17 q ≠ 0
    rw [e, up2_s]; decide
  · show up2 J' 17 k 1 17 q = _
    rw [up2_n (Or.inr e), hJ _ _ (Or.inl e)]
  · exact absurd q (by show ¬ (1 : Int32) = 0; decide)
  · funext q; rw [eI _ _ (by decide), hI _ _ (Or.inr (by decide))]
  · rw [eJ _ _ (by omega), hJ _ _ (Or.inl e)]
  · unfold mCt
    rw [eJ2 13 (by decide) (by decide)]
    generalize (mI M 13 K).toNatClampNeg = n
    induction n with
    | zero => rfl
    | succ n ih => rw [m_sum, m_sum, ih, eJ2 14 (by decide) (by decide), eJ2 15 (by decide) (by decide), eJ2 16 (by decide) (by decide)]
  · rw [eJ _ _ (by omega), hJ _ _ (Or.inr (by omega))]
theorem fok_o {j : Nat} {v : Int32} (h : j = 0 ∨ j = 6 ∨ j = 7 ∨ 9 ≤ j) : fok j v := ⟨fun z => by omega, fun z => by omega, fun z => by omega, fun z => by omega, fun z => by omega, fun z => by omega⟩
theorem r_item {C : CS} {M : MS} (h : Rel C M) (o : Int64) (i r z d s : Int32) : (k_item C o i r z d s).1 = mS (m_item M i r z d s) 0 ∧ Rel (k_item C o i r z d s).2.1 (m_item M i r z d s) := by
  unfold k_item
  cases h1 : in12 i with
  | false => rw [m_item_1 h1]; exact ⟨(mz_0 _ _).symm, Rel_x h 1⟩
  | true =>
    cases h2 : (inR r 0 3 && inR z 1 1000 && inR d 0 4 && inR s 0 1000) with
    | false => rw [m_item_2 h1 h2]; exact ⟨(mz_0 _ _).symm, Rel_x h 2⟩
    | true =>
      obtain ⟨k, hk, e⟩ := in12_t h1
      subst e
      rw [m_item_0 hk h2]
      simp only [Bool.true_eq_false, if_false, nI_cl hk]
      simp only [Bool.and_eq_true] at h2
      refine ⟨rfl, Rel_fld h hk (I' := up2 (up2 (up2 (up2 (kI C) 1 k r) 2 k z) 3 k d) 4 k s) (J' := up2 (up2 (up2 (up2 (mI M) 0 k r) 1 k z) 2 k d) 3 k s) (fun j q e => ?_) (fun j q e => ?_) (fun j hj => ?_) (fun j => ?_)⟩
      · simp only [up2_i]; rw [if_neg (by omega), if_neg (by omega), if_neg (by omega), if_neg (by omega)]
      · simp only [up2_i]; rw [if_neg (by omega), if_neg (by omega), if_neg (by omega), if_neg (by omega)]
      · simp only [up2_i, and_true]
        have := h.st.fi k hk j (by omega)
        rcases (show j = 0 ∨ j = 1 ∨ j = 2 ∨ j = 3 ∨ 4 ≤ j by omega) with q | q | q | q | q
        · subst q; rfl
        · subst q; rfl
        · subst q; rfl
        · subst q; rfl
        · rw [if_neg (by omega), if_neg (by omega), if_neg (by omega), if_neg (by omega), if_neg (by omega), if_neg (by omega), if_neg (by omega), if_neg (by omega)]; exact this
      · simp only [up2_i, and_true]
        have := h.st.fb k hk j
        by_cases j4 : j = 4
        · rw [if_pos j4]; subst j4
          obtain ⟨a, ha, e⟩ := in_0 (n := 1000) (by decide) h2.2
          exact ⟨fun z => by omega, fun z => by omega, fun z => by omega, fun _ => ⟨a, ha, e⟩, fun z => by omega, fun z => by omega⟩
        · rw [if_neg j4]
          by_cases j3 : j = 3
          · rw [if_pos j3]; subst j3
            obtain ⟨a, ha, e⟩ := in_0 (n := 4) (by decide) h2.1.2
            exact ⟨fun z => by omega, fun z => by omega, fun _ => ⟨a, ha, e⟩, fun z => by omega, fun z => by omega, fun z => by omega⟩
          · rw [if_neg j3]
            by_cases j2 : j = 2
            · rw [if_pos j2]; subst j2
              obtain ⟨a, h0, ha, e⟩ := in_1 (n := 1000) (by decide) h2.1.1.2
              exact ⟨fun z => by omega, fun _ => ⟨a, h0, ha, e⟩, fun z => by omega, fun z => by omega, fun z => by omega, fun z => by omega⟩
            · rw [if_neg j2]
              by_cases j1 : j = 1
              · rw [if_pos j1]; subst j1
                obtain ⟨a, ha, e⟩ := in_0 (n := 3) (by decide) h2.1.1.1
                exact ⟨fun _ => ⟨a, ha, e⟩, fun z => by omega, fun z => by omega, fun z => by omega, fun z => by omega, fun z => by omega⟩
              · rw [if_neg j1]; exact this
theorem r_costs {C : CS} {M : MS} (h : Rel C M) (o : Int64) (i r z d : Int32) : (k_costs C o i r z d).1 = mS (m_costs M i r z d) 0 ∧ Rel (k_costs C o i r z d).2.1 (m_costs M i r z d) := by
  unfold k_costs
  cases h1 : in12 i with
  | false => rw [m_costs_1 h1]; exact ⟨(mz_0 _ _).symm, Rel_x h 1⟩
  | true =>
    cases h2 : (inR r 0 200 && inR z 0 100000 && inR d 0 100) with
    | false => rw [m_costs_2 h1 h2]; exact ⟨(mz_0 _ _).symm, Rel_x h 2⟩
    | true =>
      obtain ⟨k, hk, e⟩ := in12_t h1
      subst e
      rw [m_costs_0 hk h2]
      simp only [Bool.true_eq_false, if_false, nI_cl hk]
      simp only [Bool.and_eq_true] at h2
      refine ⟨rfl, Rel_fld h hk (I' := up2 (up2 (up2 (kI C) 5 k r) 6 k z) 7 k d) (J' := up2 (up2 (up2 (mI M) 4 k r) 5 k z) 6 k d) (fun j q e => ?_) (fun j q e => ?_) (fun j hj => ?_) (fun j => ?_)⟩
      · simp only [up2_i]; rw [if_neg (by omega), if_neg (by omega), if_neg (by omega)]
      · simp only [up2_i]; rw [if_neg (by omega), if_neg (by omega), if_neg (by omega)]
      · simp only [up2_i, and_true]
        have := h.st.fi k hk j (by omega)
        rcases (show j = 4 ∨ j = 5 ∨ j = 6 ∨ (j ≠ 4 ∧ j ≠ 5 ∧ j ≠ 6) by omega) with q | q | q | q
        · subst q; rfl
        · subst q; rfl
        · subst q; rfl
        · rw [if_neg (by omega), if_neg (by omega), if_neg (by omega), if_neg (by omega), if_neg (by omega), if_neg (by omega)]; exact this
      · simp only [up2_i, and_true]
        have := h.st.fb k hk j
        by_cases j7 : j = 7
        · rw [if_pos j7]; exact fok_o (by omega)
        · rw [if_neg j7]
          by_cases j6 : j = 6
          · rw [if_pos j6]; exact fok_o (by omega)
          · rw [if_neg j6]
            by_cases j5 : j = 5
            · rw [if_pos j5]; subst j5
              obtain ⟨a, ha, e⟩ := in_0 (n := 200) (by decide) h2.1.1
              exact ⟨fun z => by omega, fun z => by omega, fun z => by omega, fun z => by omega, fun _ => ⟨a, ha, e⟩, fun z => by omega⟩
            · rw [if_neg j5]; exact this
theorem r_stock {C : CS} {M : MS} (h : Rel C M) (o : Int64) (i r : Int32) : (k_stock C o i r).1 = mS (m_stock M i r) 0 ∧ ((k_stock C o i r).1 = 0 → (k_stock C o i r).2.2 = (m_stockr M i r).toInt64) ∧ Rel (k_stock C o i r).2.1 (m_stock M i r) := by
  unfold k_stock
  cases h1 : in12 i with
  | false => rw [(m_stock_1 h1).1]; exact ⟨(mz_0 _ _).symm, fun q => absurd q (show ¬ (1 : Int32) = 0 by decide), Rel_x h 1⟩
  | true =>
    cases h2 : inR r 0 10000 with
    | false => rw [(m_stock_2 h1 h2).1]; exact ⟨(mz_0 _ _).symm, fun q => absurd q (show ¬ (2 : Int32) = 0 by decide), Rel_x h 2⟩
    | true =>
      obtain ⟨k, hk, e⟩ := in12_t h1
      subst e
      rw [(m_stock_0 hk h2).1, (m_stock_0 hk h2).2]
      simp only [Bool.true_eq_false, if_false, nI_cl hk]
      refine ⟨rfl, fun _ => by rw [h.st.fi k hk 7 (by decide)], Rel_fld h hk (I' := up2 (kI C) 8 k r) (J' := up2 (mI M) 7 k r) (fun j q e => ?_) (fun j q e => ?_) (fun j hj => ?_) (fun j => ?_)⟩
      · simp only [up2_i]; rw [if_neg (by omega)]
      · simp only [up2_i]; rw [if_neg (by omega)]
      · simp only [up2_i, and_true]
        have := h.st.fi k hk j (by omega)
        by_cases q : j = 7
        · subst q; rfl
        · rw [if_neg (by omega), if_neg (by omega)]; exact this
      · simp only [up2_i, and_true]
        have := h.st.fb k hk j
        by_cases j8 : j = 8
        · rw [if_pos j8]; subst j8
          obtain ⟨a, ha, e⟩ := in_0 (n := 10000) (by decide) h2
          exact ⟨fun z => by omega, fun z => by omega, fun z => by omega, fun z => by omega, fun z => by omega, fun _ => ⟨a, ha, e⟩⟩
        · rw [if_neg j8]; exact this
/-- a call that tells of nothing: books of reservations, centres -/
theorem Rel_same {C C' : CS} {M M' : MS} (h : Rel C M) (st' : St C' M') (hI : ∀ j, j ≠ 9 → j ≠ 10 → kI C' j = kI C j) (hJ : ∀ j, j < 8 ∨ (10 ≤ j ∧ j ≤ 12) ∨ j = 17 → mI M' j = mI M j) (hA : kA C' = kA C) (hL : mL M' = mL M) (hT : kT C' = kT C) (h19 : mS M' 19 = mS M 19) (h20 : mS M' 20 = mS M 20) (hN : kN C' 4 = kN C 4) (hs : ∀ K, K < 2 → ∀ q w, m_sum M' K q w (mCt M' K) = m_sum M K q w (mCt M K)) : Rel C' M' := by
  refine Rel_gen (fun _ => False) h st' (h.lv.of (hI 11 (by decide) (by decide)) (hJ 10 (by omega))) hA hL (fun q _ => ⟨fun z => z.elim, fun _ => by rw [hI 12 (by decide) (by decide)]⟩) (fun q _ => ⟨fun z => z.elim, fun _ => by rw [hJ 17 (by omega)]⟩) h19 (by rw [hT, h20]; exact h.tg) (fun q => ⟨fun _ _ => id, by rw [← hT]; exact q⟩) hN (hI 13 (by decide) (by decide)) (fun q _ _ j hj => by rw [hJ j (Or.inl hj)]) (fun K hK q _ _ w _ => hs K hK _ _) (fun j hj a _ q _ _ => by rw [hJ j (by omega)])
theorem r_made {C : CS} {M : MS} (h : Rel C M) (o : Int64) (i r z : Int32) : (k_made C o i r z).1 = mS (m_made M i r z) 0 ∧ Rel (k_made C o i r z).2.1 (m_made M i r z) := by
  unfold k_made
  cases h1 : (in12 i && inR r 0 2) with
  | false => rw [m_made_1 h1]; exact ⟨(mz_0 _ _).symm, Rel_x h 1⟩
  | true =>
    cases h2 : inR z 0 9 with
    | false => rw [m_made_2 h1 h2]; exact ⟨(mz_0 _ _).symm, Rel_x h 2⟩
    | true =>
      have h1' := h1
      rw [Bool.and_eq_true] at h1'
      obtain ⟨k, hk, e⟩ := in12_t h1'.1
      subst e
      rw [m_made_0 hk h1'.2 h2]
      simp only [Bool.true_eq_false, if_false, nI_cl hk]
      refine ⟨rfl, ?_⟩
      have eI : ∀ j, j ≠ 9 → j ≠ 10 → kI (c_made C k r z) j = kI C j := fun j h9 h10 => by
        show up2 (up2 (kI C) 9 k r) 10 k z j = _
        rw [up2_m h10, up2_m h9]
      have eJ : ∀ j, j ≠ 8 → j ≠ 9 → mI (mi (mi (mz M 0 0) 8 k r) 9 k z) j = mI M j := fun j h8 h9 => by
        show up2 (up2 (mI M) 8 k r) 9 k z j = _
        rw [up2_m h9, up2_m h8]
      have eS : ∀ K q w n, m_sum (mi (mi (mz M 0 0) 8 k r) 9 k z) K q w n = m_sum M K q w n := by
        intro K q w n
        induction n with
        | zero => rfl
        | succ n ih => rw [m_sum, m_sum, ih, eJ 14 (by decide) (by decide), eJ 15 (by decide) (by decide), eJ 16 (by decide) (by decide)]
      have hB : ∀ j, 1 ≤ j → j ≤ 3 → Bk (c_made C k r z) (mi (mi (mz M 0 0) 8 k r) 9 k z) j := by
        intro j j1 j3
        have := h.st.bk j1 j3
        unfold Bk mCt at this ⊢
        rw [eJ 13 (by decide) (by decide), eJ 14 (by decide) (by decide), eJ 15 (by decide) (by decide), eJ 16 (by decide) (by decide)]
        exact this
      refine Rel_same h ⟨fun q hq j hj => ?_, hB 1 (by decide) (by decide), hB 2 (by decide) (by decide), hB 3 (by decide) (by decide), ?_, fun q hq j => ?_, fun j j1 j3 => ?_⟩ eI (fun j hj => eJ j (by omega) (by omega)) rfl rfl rfl rfl rfl rfl (fun K _ q w => ?_)
      · show up2 (up2 (kI C) 9 k r) 10 k z (j + 1) q = up2 (up2 (mI M) 8 k r) 9 k z j q
        simp only [up2_i]
        have := h.st.fi q hq j hj
        by_cases e1 : j = 9 ∧ q = k
        · rw [if_pos ⟨by omega, e1.2⟩, if_pos e1]
        · rw [if_neg (by omega), if_neg e1]
          by_cases e2 : j = 8 ∧ q = k
          · rw [if_pos ⟨by omega, e2.2⟩, if_pos e2]
          · rw [if_neg (by omega), if_neg e2]; exact this
      · have := h.st.ln
        unfold Ln at this ⊢
        rw [eJ 10 (by decide) (by decide), eJ 11 (by decide) (by decide), eJ 12 (by decide) (by decide)]
        exact this
      · by_cases e9 : j = 9
        · exact fok_o (by omega)
        · by_cases e10 : j = 10
          · exact fok_o (by omega)
          · rw [eI j e9 e10]; exact h.st.fb q hq j
      · rw [eJ 13 (by decide) (by decide)]; exact h.st.bc j j1 j3
      · unfold mCt; rw [eJ 13 (by decide) (by decide), eS]
