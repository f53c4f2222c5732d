/-! PLAIN LAW: questions -/
theorem r_level {C : CS} {M : MS} (h : Rel C M) (o : Int64) (i : Int32) : (k_level C o i).1 = mS (mz M 0 (x_lev i)) 0 ∧ ((k_level C o i).1 = 0 → (k_level C o i).2.2 = (m_levr M i).toInt64) ∧ Rel (k_level C o i).2.1 (mz M 0 (x_lev i)) := by
  unfold k_level x_lev m_levr
  cases h1 : in12 i with
  | false => exact ⟨(mz_0 _ _).symm, fun q => absurd q (show ¬ (1 : Int32) = 0 by decide), Rel_x h 1⟩
  | true =>
    obtain ⟨k, hk, e⟩ := in12_t h1
    subst e
    simp only [Bool.true_eq_false, if_false, if_true, nI_cl hk]
    exact ⟨(mz_0 _ _).symm, fun _ => by rw [h.lv.lvl hk, (h.lv k hk).1], Rel_x h 0⟩
theorem r_gross {C : CS} {M : MS} (h : Rel C M) (o : Int64) (i w : Int32) : (k_gross C o i w).1 = mS (mz M 0 (x_wrong M i w)) 0 ∧ ((k_gross C o i w).1 = 0 → (k_gross C o i w).2.2 = m_rd M 18 i w) ∧ Rel (k_gross C o i w).2.1 (mz M 0 (x_wrong M i w)) := by
  unfold k_gross m_rd
  cases h1 : (in12 i && in12 w) with
  | false => rw [xw_1 h1]; exact ⟨(mz_0 _ _).symm, fun q => absurd q (show ¬ (1 : Int32) = 0 by decide), Rel_x h 1⟩
  | true =>
    by_cases h2 : kT C = 0
    · have h2' : mS M 20 = 0 := by rw [← h.tg]; exact h2
      rw [xw_0 h1 h2', decide_eq_true h2]
      rw [Bool.and_eq_true] at h1
      obtain ⟨a, ha, e⟩ := in12_t h1.1
      subst e
      obtain ⟨b, hb, e⟩ := in12_t h1.2
      subst e
      simp only [Bool.true_eq_false, if_false, if_true, nI_cl ha, nI_cl hb]
      exact ⟨(mz_0 _ _).symm, fun _ => (h.rw a ha b hb).1.symm, Rel_x h 0⟩
    · have h2' : ¬ mS M 20 = 0 := by rw [← h.tg]; exact h2
      rw [xw_2 h1 h2', decide_eq_false h2]
      exact ⟨(mz_0 _ _).symm, fun q => absurd q (show ¬ (2 : Int32) = 0 by decide), Rel_x h 2⟩
theorem r_planned {C : CS} {M : MS} (h : Rel C M) (o : Int64) (i w : Int32) : (k_planned C o i w).1 = mS (mz M 0 (x_wrong M i w)) 0 ∧ ((k_planned C o i w).1 = 0 → (k_planned C o i w).2.2 = m_rd M 19 i w) ∧ Rel (k_planned C o i w).2.1 (mz M 0 (x_wrong M i w)) := by
  unfold k_planned m_rd
  cases h1 : (in12 i && in12 w) with
  | false => rw [xw_1 h1]; exact ⟨(mz_0 _ _).symm, fun q => absurd q (show ¬ (1 : Int32) = 0 by decide), Rel_x h 1⟩
  | true =>
    by_cases h2 : kT C = 0
    · have h2' : mS M 20 = 0 := by rw [← h.tg]; exact h2
      rw [xw_0 h1 h2', decide_eq_true h2]
      rw [Bool.and_eq_true] at h1
      obtain ⟨a, ha, e⟩ := in12_t h1.1
      subst e
      obtain ⟨b, hb, e⟩ := in12_t h1.2
      subst e
      simp only [Bool.true_eq_false, if_false, if_true, nI_cl ha, nI_cl hb]
      exact ⟨(mz_0 _ _).symm, fun _ => (h.rw a ha b hb).2.symm, Rel_x h 0⟩
    · have h2' : ¬ mS M 20 = 0 := by rw [← h.tg]; exact h2
      rw [xw_2 h1 h2', decide_eq_false h2]
      exact ⟨(mz_0 _ _).symm, fun q => absurd q (show ¬ (2 : Int32) = 0 by decide), Rel_x h 2⟩
/-- what both reckon alike once nothing is told -/
theorem bal_eq {C : CS} {M : MS} (h : Rel C M) (h0 : kT C = 0) {a b : Nat} (ha : a < 12) (hb : b < 12) : kA C 4 a b = m_bal M a b := by
  have z := h.jt.1 a ha (h.t0 h0 a ha)
  unfold m_bal
  rw [(z b hb).2, ba_eq h.st.b2 hb (h.st.fi a ha 7 (by decide)) (fun v hv => (h.rw a ha v hv).1), m_up_sg, ← sg_pl]
  congr 1
  refine sg_c (fun v hv => ?_)
  rw [(h.rw a ha v (by omega)).2, (z v (by omega)).1]
theorem fr_eq {C : CS} {M : MS} (h : Rel C M) {a v : Nat} (ha : a < 12) (hv : v < 12) : c_fr C a (v + 1) = m_free M a v := by
  unfold m_free m_bare
  rw [c_fr_sg, m_up_sg, m_up_sg, h.st.fi a ha 7 (by decide), bk_all h.st.b2 a v hv, bk_all h.st.b3 a v hv, sg_c (f := fun w => mL M 18 (12 * a + w)) (g := kA C 0 a) (fun u hu => (h.rw a ha u (by omega)).1), sg_c (f := fun w => mL M 19 (12 * a + w)) (g := kA C 3 a) (fun u hu => (h.rw a ha u (by omega)).2)]
  show _ = (mI M 7 a).toInt64 + m_sum M 1 (nI a) (nI v) (mCt M 1) - sg (kA C 0 a) (v + 1) + sg (kA C 3 a) (v + 1) - m_sum M 2 (nI a) (nI v) (mCt M 2)
  show (mI M 7 a).toInt64 + m_sum M 1 (nI a) (nI v) (mCt M 1) + sg (kA C 3 a) (v + 1) - sg (kA C 0 a) (v + 1) - m_sum M 2 (nI a) (nI v) (mCt M 2) = _
  generalize (mI M 7 a).toInt64 + m_sum M 1 (nI a) (nI v) (mCt M 1) = x
  generalize sg (kA C 3 a) (v + 1) = y
  generalize sg (kA C 0 a) (v + 1) = z
  congr 1
  rw [Int64.sub_eq_add_neg, Int64.sub_eq_add_neg, Int64.add_assoc, Int64.add_assoc, Int64.add_comm y]
theorem r_balance {C : CS} {M : MS} (h : Rel C M) (o : Int64) (i w : Int32) : (k_balance C o i w).1 = mS (mz M 0 (x_wrong M i w)) 0 ∧ ((k_balance C o i w).1 = 0 → (k_balance C o i w).2.2 = m_balr M i w) ∧ Rel (k_balance C o i w).2.1 (mz M 0 (x_wrong M i w)) := by
  unfold k_balance m_balr
  cases h1 : (in12 i && in12 w) with
  | false => rw [xw_1 h1]; exact ⟨(mz_0 _ _).symm, fun q => absurd q (show ¬ (1 : Int32) = 0 by decide), Rel_x h 1⟩
  | true =>
    by_cases h2 : kT C = 0
    · have h2' : mS M 20 = 0 := by rw [← h.tg]; exact h2
      rw [xw_0 h1 h2', decide_eq_true h2]
      rw [Bool.and_eq_true] at h1
      obtain ⟨a, ha, e⟩ := in12_t h1.1
      subst e
      obtain ⟨b, hb, e⟩ := in12_t h1.2
      subst e
      simp only [Bool.true_eq_false, if_false, if_true, nI_cl ha, nI_cl hb]
      exact ⟨(mz_0 _ _).symm, fun _ => bal_eq h h2 ha hb, Rel_x h 0⟩
    · have h2' : ¬ mS M 20 = 0 := by rw [← h.tg]; exact h2
      rw [xw_2 h1 h2', decide_eq_false h2]
      exact ⟨(mz_0 _ _).symm, fun q => absurd q (show ¬ (2 : Int32) = 0 by decide), Rel_x h 2⟩
theorem ctr_iff (C : CS) (k : Nat) (n : Int32) (wk m : Nat) : c_tr C k n wk m = true ↔ ∀ v, v < m → v < wk ∨ n.toInt64 ≤ c_fr C k (v + 1) := by
  induction m with
  | zero => exact ⟨fun _ v hv => by omega, fun _ => rfl⟩
  | succ m ih =>
    unfold c_tr
    rw [Bool.and_eq_true, ih, Bool.or_eq_true, decide_eq_true_eq, decide_eq_true_eq]
    constructor
    · rintro ⟨h1, h2⟩ v hv
      by_cases e : v = m
      · subst e; exact h2
      · exact h1 v (by omega)
    · intro h; exact ⟨fun v hv => h v (by omega), h m (by omega)⟩
theorem mtr_iff (M : MS) (i : Nat) (n : Int32) (wk m : Nat) : m_tr M i n wk m = true ↔ ∀ k, k < m → n.toInt64 ≤ m_free M i (wk + k) := by
  induction m with
  | zero => exact ⟨fun _ v hv => by omega, fun _ => rfl⟩
  | succ m ih =>
    unfold m_tr
    rw [Bool.and_eq_true, ih, decide_eq_true_eq]
    constructor
    · rintro ⟨h1, h2⟩ v hv
      by_cases e : v = m
      · subst e; exact h2
      · exact h1 v (by omega)
    · intro h; exact ⟨fun v hv => h v (by omega), h m (by omega)⟩
theorem tr_eq {C : CS} {M : MS} (h : Rel C M) {a w : Nat} (ha : a < 12) (n : Int32) (hw : w ≤ 12) : c_tr C a n w 12 = m_tr M a n w (12 - w) := by
  have : c_tr C a n w 12 = true ↔ m_tr M a n w (12 - w) = true := by
    rw [ctr_iff, mtr_iff]
    constructor
    · intro q k hk
      have z := (q (w + k) (by omega)).resolve_left (by omega)
      rw [fr_eq h ha (by omega)] at z
      exact z
    · intro q v hv
      by_cases e : v < w
      · exact Or.inl e
      · right
        have z := q (v - w) (by omega)
        rw [show w + (v - w) = v by omega] at z
        rw [fr_eq h ha hv]; exact z
  cases e1 : c_tr C a n w 12 <;> cases e2 : m_tr M a n w (12 - w) <;> simp_all
theorem pm_eq {C : CS} {M : MS} (h : Rel C M) {a : Nat} (ha : a < 12) (n : Int32) : ∀ f w, w + f = 12 → c_pm C a n f w = m_pr M a n f w := by
  intro f
  induction f with
  | zero => intro w _; rfl
  | succ f ih =>
    intro w hw
    rw [c_pm, m_pr, tr_eq h ha n (by omega), ih (w + 1) (by omega)]
theorem r_promise {C : CS} {M : MS} (h : Rel C M) (o : Int64) (i n w : Int32) : (k_promise C o i n w).1 = mS (mz M 0 (x_prom M i n w)) 0 ∧ ((k_promise C o i n w).1 = 0 → (k_promise C o i n w).2.2 = (m_prr M i n w).toInt64) ∧ Rel (k_promise C o i n w).2.1 (mz M 0 (x_prom M i n w)) := by
  unfold k_promise
  cases h1 : (in12 i && in12 w) with
  | false => rw [xp_1 h1]; exact ⟨(mz_0 _ _).symm, fun q => absurd q (show ¬ (1 : Int32) = 0 by decide), Rel_x h 1⟩
  | true =>
    cases h2 : inR n 1 1000 with
    | false => rw [xp_2 h1 h2]; exact ⟨(mz_0 _ _).symm, fun q => absurd q (show ¬ (2 : Int32) = 0 by decide), Rel_x h 2⟩
    | true =>
      by_cases h3 : kT C = 0
      · have h3' : mS M 20 = 0 := by rw [← h.tg]; exact h3
        have z := xp_0 h1 h2 h3'
        rw [Bool.and_eq_true] at h1
        obtain ⟨a, ha, e⟩ := in12_t h1.1
        subst e
        obtain ⟨b, hb, e⟩ := in12_t h1.2
        subst e
        rw [m_prr_0 ha hb z, z, decide_eq_true h3]
        simp only [Bool.true_eq_false, if_false, nI_cl ha, nI_cl hb]
        exact ⟨(mz_0 _ _).symm, fun _ => by rw [pm_eq h ha n _ _ (by omega)], Rel_x h 0⟩
      · have h3' : ¬ mS M 20 = 0 := by rw [← h.tg]; exact h3
        rw [xp_3 h1 h2 h3', decide_eq_false h3]
        exact ⟨(mz_0 _ _).symm, fun q => absurd q (show ¬ (3 : Int32) = 0 by decide), Rel_x h 3⟩
theorem r_reserve {C : CS} {M : MS} (h : Rel C M) (o : Int64) (i n w : Int32) : (k_reserve C o i n w).1 = mS (m_res M i n w) 0 ∧ ((k_reserve C o i n w).1 = 0 → (k_reserve C o i n w).2.2 = (m_resr M i n w).toInt64) ∧ Rel (k_reserve C o i n w).2.1 (m_res M i n w) := by
  unfold k_reserve
  obtain ⟨bc1, bc2⟩ := h.st.bc 3 (by decide) (by decide)
  have bc1' : mI M 13 2 = nI (kN C 3) := bc1
  cases h1 : (in12 i && in12 w) with
  | false => rw [(m_res_x (xr_1 h1) (by decide)).1]; exact ⟨(mz_0 _ _).symm, fun q => absurd q (show ¬ (1 : Int32) = 0 by decide), Rel_x h 1⟩
  | true =>
    cases h2 : inR n 1 1000 with
    | false => rw [(m_res_x (xr_2 h1 h2) (by decide)).1]; exact ⟨(mz_0 _ _).symm, fun q => absurd q (show ¬ (2 : Int32) = 0 by decide), Rel_x h 2⟩
    | true =>
      by_cases h3 : kT C = 0
      · have h3' : mS M 20 = 0 := by rw [← h.tg]; exact h3
        by_cases h4 : kN C 3 < 24
        · have h4' : ¬ mI M 13 2 = 24 := by
            rw [bc1']; intro q
            have := (nI_eq (a := kN C 3) (b := 24) (by omega) (by omega)).mp q
            omega
          have z := xr_0 h1 h2 ⟨h3', h4'⟩
          rw [Bool.and_eq_true] at h1
          obtain ⟨a, ha, e⟩ := in12_t h1.1
          subst e
          obtain ⟨b, hb, e⟩ := in12_t h1.2
          subst e
          obtain ⟨m, _, hm, e⟩ := in_1 (n := 1000) (by decide) h2
          subst e
          rw [decide_eq_true h3, decide_eq_true h4]
          simp only [Bool.true_eq_false, if_false, nI_cl ha, nI_cl hb, tr_eq h ha (nI m) (show b ≤ 12 by omega)]
          have ec : mCt M 2 = kN C 3 := mct_j h.st (j := 3) (by decide) (by decide)
          cases ht : m_tr M a (nI m) b (12 - b) with
          | true =>
            rw [(m_res_t ha hb z ht).1, (m_res_t ha hb z ht).2]
            refine ⟨rfl, fun _ => by rw [ec]; rfl, ?_⟩
            have hst0 : St C (mz M 0 0) := (Rel_x h 0).st
            have hst : St (cAddE C 3 (nI a) (nI b) (nI m)) (m_add (mz M 0 0) 2 (nI a) (nI b) (nI m)) := St_add hst0 (j := 3) (by decide) (by decide) h4 ha hb hm
            refine Rel_same h hst (fun _ _ _ => rfl) (fun j hj => add_Io _ _ _ _ _ (by omega)) rfl rfl rfl rfl rfl ?_ (fun K hK q v => ?_)
            · show kN (cAddE C 3 (nI a) (nI b) (nI m)) 4 = kN C 4
              rw [addE_N, if_neg (by omega)]
            · have e1 : mCt (m_add (mz M 0 0) 2 (nI a) (nI b) (nI m)) K = mCt M K := by
                unfold mCt
                rw [add_I, if_neg (by omega), if_neg (by omega), if_neg (by omega), if_neg (by omega)]
                rfl
              rw [e1]
              have hK24 := h.mc.c24 (K := K) (by omega)
              refine sum_c (fun e he => Or.inl ⟨?_, ?_, ?_⟩)
              · rw [add_I, if_neg (by omega), if_neg (by omega), if_neg (by omega), if_neg (by omega)]; rfl
              · rw [add_I, if_neg (by omega), if_neg (by omega), if_neg (by omega), if_neg (by omega)]; rfl
              · rw [add_I, if_neg (by omega), if_neg (by omega), if_neg (by omega), if_neg (by omega)]; rfl
          | false =>
            rw [(m_res_f ha hb z ht).1, (m_res_f ha hb z ht).2]
            exact ⟨rfl, fun _ => rfl, Rel_x h 0⟩
        · have h4' : mI M 13 2 = 24 := by rw [bc1', show kN C 3 = 24 by omega]; rfl
          rw [(m_res_x (xr_3 h1 h2 (fun q => q.2 h4')) (by decide)).1, decide_eq_true h3, decide_eq_false h4]
          exact ⟨(mz_0 _ _).symm, fun q => absurd q (show ¬ (3 : Int32) = 0 by decide), Rel_x h 3⟩
      · have h3' : ¬ mS M 20 = 0 := by rw [← h.tg]; exact h3
        rw [(m_res_x (xr_3 h1 h2 (fun q => h3' q.1)) (by decide)).1, decide_eq_false h3]
        exact ⟨(mz_0 _ _).symm, fun q => absurd q (show ¬ (3 : Int32) = 0 by decide), Rel_x h 3⟩
theorem ld_eq {C : CS} {M : MS} (h : Rel C M) (ce : Int32) (wk : Nat) : ∀ n, n ≤ 12 → c_ld C ce wk n = m_ld M ce wk n := by
  intro n
  induction n with
  | zero => intro _; rfl
  | succ n ih =>
    intro hn
    have eL : cLd C n = mLd M n := by unfold cLd mLd; rw [h.st.fi n (by omega) 2 (by decide)]
    rw [c_ld, m_ld, ih (by omega), eL, h.st.fi n (by omega) 8 (by decide), h.st.fi n (by omega) 9 (by decide)]
    by_cases e : mI M 8 n = ce ∧ wk + mLd M n < 12
    · rw [if_pos e, if_pos e, (h.rw n (by omega) _ e.2).2]
    · rw [if_neg e, if_neg e]; grind
theorem r_load {C : CS} {M : MS} (h : Rel C M) (o : Int64) (ce w : Int32) : (k_load C o ce w).1 = mS (mz M 0 (x_load M ce w)) 0 ∧ ((k_load C o ce w).1 = 0 → (k_load C o ce w).2.2 = m_ldr M ce w) ∧ Rel (k_load C o ce w).2.1 (mz M 0 (x_load M ce w)) := by
  unfold k_load m_ldr
  cases h1 : (inR ce 0 2 && in12 w) with
  | false => rw [xl_1 h1]; exact ⟨(mz_0 _ _).symm, fun q => absurd q (show ¬ (1 : Int32) = 0 by decide), Rel_x h 1⟩
  | true =>
    by_cases h2 : kT C = 0
    · have h2' : mS M 20 = 0 := by rw [← h.tg]; exact h2
      rw [xl_0 h1 h2', decide_eq_true h2]
      simp only [Bool.true_eq_false, if_false, if_true]
      exact ⟨(mz_0 _ _).symm, fun _ => ld_eq h ce _ 12 (Nat.le_refl _), Rel_x h 0⟩
    · have h2' : ¬ mS M 20 = 0 := by rw [← h.tg]; exact h2
      rw [xl_2 h1 h2', decide_eq_false h2]
      exact ⟨(mz_0 _ _).symm, fun q => absurd q (show ¬ (2 : Int32) = 0 by decide), Rel_x h 2⟩
theorem sh_eq {C : CS} {M : MS} (h : Rel C M) (h0 : kT C = 0) {a : Nat} (ha : a < 12) : ∀ n, n ≤ 12 → c_sh (kA C 4 a) n = m_sh M a n := by
  intro n
  induction n with
  | zero => intro _; rfl
  | succ n ih => intro hn; rw [c_sh, m_sh, ih (by omega), bal_eq h h0 ha (by omega)]
theorem shn_eq {C : CS} {M : MS} (h : Rel C M) (h0 : kT C = 0) : ∀ n, n ≤ 12 → c_shn C n = m_shn M n := by
  intro n
  induction n with
  | zero => intro _; rfl
  | succ n ih => intro hn; rw [c_shn, m_shn, ih (by omega), sh_eq h h0 (by omega) 12 (Nat.le_refl _)]
theorem r_count {C : CS} {M : MS} (h : Rel C M) (o : Int64) (x : Int32) : (k_count C o x).1 = mS (mz M 0 (x_count M x)) 0 ∧ ((k_count C o x).1 = 0 → (k_count C o x).2.2 = (m_cnt M x).toInt64) ∧ Rel (k_count C o x).2.1 (mz M 0 (x_count M x)) := by
  unfold k_count
  have b1 : mI M 13 0 = nI (kN C 1) := (h.st.bc 1 (by decide) (by decide)).1
  have b2 : mI M 13 1 = nI (kN C 2) := (h.st.bc 2 (by decide) (by decide)).1
  have b3 : mI M 13 2 = nI (kN C 3) := (h.st.bc 3 (by decide) (by decide)).1
  by_cases h4 : x = 4 ∧ ¬ kT C = 0
  · have e1 : x_count M x = 1 := by unfold x_count; rw [← h.tg, if_pos h4]
    rw [e1, decide_eq_true h4.1, decide_eq_false h4.2]
    exact ⟨(mz_0 _ _).symm, fun q => absurd q (show ¬ (1 : Int32) = 0 by decide), Rel_x h 1⟩
  · have e1 : x_count M x = 0 := by unfold x_count; rw [← h.tg, if_neg h4]
    have e2 : (!(decide (x = 4)) || decide (kT C = 0)) = true := by
      by_cases q : x = 4
      · have : kT C = 0 := Classical.byContradiction (fun z => h4 ⟨q, z⟩)
        rw [decide_eq_true this, Bool.or_true]
      · rw [decide_eq_false q]; rfl
    rw [e1, e2]
    simp only [Bool.true_eq_false, if_false]
    refine ⟨(mz_0 _ _).symm, fun _ => ?_, Rel_x h 0⟩
    congr 1
    unfold c_cnt m_cnt
    rw [e1, if_neg (show ¬ (0 : Int32) = 1 by decide), b1, b2, b3, h.st.ln.2.1, ← h.tg]
    by_cases q : x = 4
    · have : kT C = 0 := Classical.byContradiction (fun z => h4 ⟨q, z⟩)
      rw [shn_eq h this 12 (Nat.le_refl _)]
    · rw [if_neg q, if_neg q]
