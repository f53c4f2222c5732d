/-! PLAIN LAW: books -/
theorem sum_c {M M' : MS} {K : Nat} {i w : Int32} {n : Nat} (h : ∀ e, e < n → (mI M' 14 (24 * K + e) = mI M 14 (24 * K + e) ∧ mI M' 15 (24 * K + e) = mI M 15 (24 * K + e) ∧ mI M' 16 (24 * K + e) = mI M 16 (24 * K + e)) ∨ (¬ mI M' 14 (24 * K + e) = i ∧ ¬ mI M 14 (24 * K + e) = i)) : m_sum M' K i w n = m_sum M K i w n := by
  induction n with
  | zero => rfl
  | succ n ih =>
    rw [m_sum, m_sum, ih (fun e he => h e (by omega))]
    rcases h n (by omega) with ⟨h1, h2, h3⟩ | ⟨h1, h2⟩
    · rw [h1, h2, h3]
    · rw [if_neg (fun q => h1 q.1), if_neg (fun q => h2 q.1)]
theorem add_I (M : MS) (K : Nat) (i w n : Int32) (j q : Nat) : mI (m_add M K i w n) j q = if j = 13 ∧ q = K then nI (mCt M K + 1) else if j = 16 ∧ q = 24 * K + mCt M K then n else if j = 15 ∧ q = 24 * K + mCt M K then w else if j = 14 ∧ q = 24 * K + mCt M K then i else mI M j q := rfl
theorem add_Io (M : MS) (K : Nat) (i w n : Int32) {j : Nat} (h : j ≠ 13 ∧ j ≠ 14 ∧ j ≠ 15 ∧ j ≠ 16) : mI (m_add M K i w n) j = mI M j := by
  funext q
  rw [add_I, if_neg (fun z => h.1 z.1), if_neg (fun z => h.2.2.2 z.1), if_neg (fun z => h.2.2.1 z.1), if_neg (fun z => h.2.1 z.1)]
theorem addE_E (C : CS) (j : Nat) (a b n : Int32) (k i f : Nat) : kE (cAddE C j a b n) k i f = if k = j ∧ i = kN C j then (if f = 0 then a else if f = 1 then b else n) else kE C k i f := rfl
theorem addE_N (C : CS) (j : Nat) (a b n : Int32) (q : Nat) : kN (cAddE C j a b n) q = if q = j then kN C j + 1 else kN C q := rfl
theorem mct_j {C : CS} {M : MS} (h : St C M) {j : Nat} (h1 : 1 ≤ j) (h3 : j ≤ 3) : mCt M (j - 1) = kN C j := (h.bk h1 h3).1.symm
theorem St_add {C : CS} {M : MS} (h : St C M) {j : Nat} (j1 : 1 ≤ j) (j3 : j ≤ 3) (hn : kN C j < 24) {a b n : Nat} (ha : a < 12) (hb : b < 12) (hm : n ≤ 1000) : St (cAddE C j (nI a) (nI b) (nI n)) (m_add M (j - 1) (nI a) (nI b) (nI n)) := by
  have ec := mct_j h j1 j3
  have hB : ∀ q, 1 ≤ q → q ≤ 3 → Bk (cAddE C j (nI a) (nI b) (nI n)) (m_add M (j - 1) (nI a) (nI b) (nI n)) q := by
    intro q q1 q3
    obtain ⟨c1, c2, c3⟩ := h.bk q1 q3
    have hq24 := (h.bc q q1 q3).2
    unfold Bk
    by_cases e : q = j
    · subst e
      rw [addE_N, if_pos rfl]
      refine ⟨?_, fun i hi => ?_, fun i hi => ?_⟩
      · unfold mCt
        rw [add_I, if_pos ⟨rfl, rfl⟩, nI_clamp (by omega)]
        omega
      · by_cases ei : i = kN C q
        · subst ei
          simp [addE_E, add_I, ec]
        · obtain ⟨d0, d1, d2⟩ := c2 i (by omega)
          refine ⟨?_, ?_, ?_⟩
          · rw [addE_E, add_I, ec, if_neg (fun z => ei z.2), if_neg (by omega), if_neg (by omega), if_neg (by omega), if_neg (by omega)]; exact d0
          · rw [addE_E, add_I, ec, if_neg (fun z => ei z.2), if_neg (by omega), if_neg (by omega), if_neg (by omega), if_neg (by omega)]; exact d1
          · rw [addE_E, add_I, ec, if_neg (fun z => ei z.2), if_neg (by omega), if_neg (by omega), if_neg (by omega), if_neg (by omega)]; exact d2
      · by_cases ei : i = kN C q
        · subst ei
          exact ⟨⟨a, ha, by simp [addE_E]⟩, ⟨b, hb, by simp [addE_E]⟩, ⟨n, hm, by simp [addE_E]⟩⟩
        · simp only [addE_E]
          rw [if_neg (fun z => ei z.2), if_neg (fun z => ei z.2), if_neg (fun z => ei z.2)]
          exact c3 i (by omega)
    · rw [addE_N, if_neg e]
      refine ⟨?_, fun i hi => ?_, fun i hi => ?_⟩
      · unfold mCt
        rw [add_I, if_neg (by omega), if_neg (by omega), if_neg (by omega), if_neg (by omega)]
        exact c1
      · obtain ⟨d0, d1, d2⟩ := c2 i hi
        refine ⟨?_, ?_, ?_⟩
        · rw [addE_E, add_I, ec, if_neg (fun z => e z.1), if_neg (by omega), if_neg (by omega), if_neg (by omega), if_neg (by omega)]; exact d0
        · rw [addE_E, add_I, ec, if_neg (fun z => e z.1), if_neg (by omega), if_neg (by omega), if_neg (by omega), if_neg (by omega)]; exact d1
        · rw [addE_E, add_I, ec, if_neg (fun z => e z.1), if_neg (by omega), if_neg (by omega), if_neg (by omega), if_neg (by omega)]; exact d2
      · simp only [addE_E]
        rw [if_neg (fun z => e z.1), if_neg (fun z => e z.1), if_neg (fun z => e z.1)]
        exact c3 i hi
  refine ⟨fun k hk q hq => ?_, hB 1 (by decide) (by decide), hB 2 (by decide) (by decide), hB 3 (by decide) (by decide), ?_, h.fb, fun q q1 q3 => ?_⟩
  · rw [add_Io _ _ _ _ _ (by omega)]; exact h.fi k hk q hq
  · have := h.ln
    unfold Ln at this ⊢
    rw [add_Io _ _ _ _ _ (by omega), add_Io _ _ _ _ _ (by omega), add_Io _ _ _ _ _ (by omega), addE_N, if_neg (by omega)]
    exact this
  · rw [addE_N, add_I]
    by_cases e : q = j
    · subst e
      rw [if_pos rfl, if_pos ⟨rfl, rfl⟩, ec]
      exact ⟨rfl, by omega⟩
    · rw [if_neg e, if_neg (by omega), if_neg (by omega), if_neg (by omega), if_neg (by omega)]
      exact h.bc q q1 q3
theorem add_sum {M : MS} (hM : MC M) {K : Nat} (hK : K < 3) (h24 : mCt M K < 24) {a : Nat} (ha : a < 12) (w n : Int32) {K' q : Nat} (hK' : K' < 3) (hq : q < 12) (hqa : K' = K → q ≠ a) (v : Int32) : m_sum (m_add M K (nI a) w n) K' (nI q) v (mCt (m_add M K (nI a) w n) K') = m_sum M K' (nI q) v (mCt M K') := by
  have h24' := hM.c24 hK'
  have hold : ∀ m, m ≤ mCt M K' → m_sum (m_add M K (nI a) w n) K' (nI q) v m = m_sum M K' (nI q) v m := by
    intro m hm
    refine sum_c (fun e he => Or.inl ?_)
    have hne : 24 * K' + e ≠ 24 * K + mCt M K := by
      by_cases z : K' = K
      · subst z; omega
      · omega
    refine ⟨?_, ?_, ?_⟩ <;> rw [add_I, if_neg (by omega), if_neg (fun z => hne z.2), if_neg (fun z => hne z.2), if_neg (fun z => hne z.2)]
  by_cases e : K' = K
  · subst e
    have ec : mCt (m_add M K' (nI a) w n) K' = mCt M K' + 1 := by
      conv => lhs; unfold mCt
      rw [add_I, if_pos ⟨rfl, rfl⟩, nI_clamp (by omega)]
    rw [ec, m_sum, hold _ (Nat.le_refl _), if_neg]
    rintro ⟨z, _⟩
    rw [add_I, if_neg (by omega), if_neg (by omega), if_neg (by omega), if_pos ⟨rfl, rfl⟩] at z
    exact hqa rfl ((nI_eq (by omega) (by omega)).mp z).symm
  · have ec : mCt (m_add M K (nI a) w n) K' = mCt M K' := by
      unfold mCt
      rw [add_I, if_neg (by omega), if_neg (by omega), if_neg (by omega), if_neg (by omega)]
    rw [ec]; exact hold _ (Nat.le_refl _)
theorem St_tell {C : CS} {M : MS} (h : St C M) (k : Nat) (x : Int32) : St (c_tell C k) (m_tell (mz M 0 x) k) := by
  refine h.of ⟨fun j _ hj => ?_, fun _ _ => rfl, rfl, rfl, rfl, rfl⟩ (fun j hj => ?_) rfl
  · show up2 (kI C) 12 k 1 j = _; exact up2_m (by omega)
  · show up2 (mI M) 17 k 1 j = _; exact up2_m hj
theorem Rel_add {C : CS} {M : MS} (h : Rel C M) {j : Nat} (j1 : 1 ≤ j) (j2 : j ≤ 2) (hn : kN C j < 24) {a b n : Nat} (ha : a < 12) (hb : b < 12) (hm : n ≤ 1000) : Rel (cAddE (c_tell C a) j (nI a) (nI b) (nI n)) (m_add (m_tell (mz M 0 0) a) (j - 1) (nI a) (nI b) (nI n)) := by
  have hst := St_tell h.st a 0
  have h2 := St_add hst j1 (by omega) hn ha hb hm
  have ec : mCt (m_tell (mz M 0 0) a) (j - 1) = kN C j := mct_j hst j1 (by omega)
  have eS : ∀ K q w m, m_sum (m_tell (mz M 0 0) a) K q w m = m_sum M K q w m := by
    intro K q w m
    induction m with
    | zero => rfl
    | succ m ih => rw [m_sum, m_sum, ih]; rfl
  refine Rel_gen (fun q => q = a) h h2 (h.lv.of ?_ ?_) rfl rfl (fun q _ => ⟨fun e => ?_, fun e => ?_⟩) (fun q _ => ⟨fun e => ?_, fun e => ?_⟩) rfl rfl (fun q => ?_) ?_ ?_ (fun q _ e i hi => ?_) (fun K hK q hq e w _ => ?_) (fun i hi x _ q _ _ => ?_)
  · show up2 (kI C) 12 a 1 11 = _; exact up2_m (by decide)
  · rw [add_Io _ _ _ _ _ (by omega)]; show up2 (mI M) 17 a 1 10 = _; exact up2_m (by decide)
  · show up2 (kI C) 12 a 1 12 q ≠ 0
    rw [e, up2_s]; decide
  · show up2 (kI C) 12 a 1 12 q = _
    rw [up2_n (Or.inr e)]
  · rw [add_Io _ _ _ _ _ (by omega)]
    show up2 (mI M) 17 a 1 17 q ≠ 0
    rw [e, up2_s]; decide
  · rw [add_Io _ _ _ _ _ (by omega)]
    show up2 (mI M) 17 a 1 17 q = _
    rw [up2_n (Or.inr e)]
  · exact absurd q (by show ¬ (1 : Int32) = 0; decide)
  · rw [addE_N, if_neg (by omega)]; rfl
  · show up2 (kI C) 12 a 1 13 = _; exact up2_m (by decide)
  · rw [add_Io _ _ _ _ _ (by omega)]
    show up2 (mI M) 17 a 1 i q = _
    rw [up2_m (by omega)]
  · rw [add_sum hst.mc (K := j - 1) (by omega) (by rw [ec]; exact hn) ha _ _ (by omega) hq (fun _ => e), eS]; rfl
  · rw [add_Io _ _ _ _ _ (by omega)]
    show up2 (mI M) 17 a 1 i _ = _
    rw [up2_m (by omega)]
theorem r_ent {C : CS} {M : MS} (h : Rel C M) {j : Nat} (j1 : 1 ≤ j) (j2 : j ≤ 2) (o : Int64) (i w n : Int32) (k3 : Int32 × CS × Int64) (hk3 : k3 = if (in12 i && in12 w) = false then (1, C, o) else if (inR n 0 1000) = false then (2, C, o) else if (decide (kN C j < 24)) = false then (3, C, o) else (0, cAddE (c_tell C i.toNatClampNeg) j i w n, (nI (kN C j)).toInt64)) : k3.1 = mS (m_addT M (j - 1) i w n) 0 ∧ (k3.1 = 0 → k3.2.2 = (m_addTr M (j - 1) i w n).toInt64) ∧ Rel k3.2.1 (m_addT M (j - 1) i w n) := by
  obtain ⟨bc1, bc2⟩ := h.st.bc j j1 (by omega)
  cases h1 : (in12 i && in12 w) with
  | false =>
    rw [h1] at hk3; rw [hk3, (m_addT_1 h1).1]; exact ⟨(mz_0 _ _).symm, fun q => absurd q (show ¬ (1 : Int32) = 0 by decide), Rel_x h 1⟩
  | true =>
    rw [h1] at hk3
    cases h2 : inR n 0 1000 with
    | false => rw [h2] at hk3; rw [hk3, (m_addT_2 h1 h2).1]; exact ⟨(mz_0 _ _).symm, fun q => absurd q (show ¬ (2 : Int32) = 0 by decide), Rel_x h 2⟩
    | true =>
      rw [h2] at hk3
      simp only [Bool.true_eq_false, if_false] at hk3
      by_cases h3 : kN C j < 24
      · rw [decide_eq_true h3] at hk3
        simp only [Bool.true_eq_false, if_false] at hk3
        have h1' := h1
        rw [Bool.and_eq_true] at h1'
        obtain ⟨a, ha, e⟩ := in12_t h1'.1
        subst e
        obtain ⟨b, hb, e⟩ := in12_t h1'.2
        subst e
        obtain ⟨m, hm, e⟩ := in_0 (n := 1000) (by decide) h2
        subst e
        have h4 : ¬ mI M 13 (j - 1) = 24 := by
          rw [bc1]; intro q
          have := (nI_eq (a := kN C j) (b := 24) (by omega) (by omega)).mp q
          omega
        rw [hk3, (m_addT_0 ha h1'.2 h2 h4).1, (m_addT_0 ha h1'.2 h2 h4).2, nI_cl ha]
        exact ⟨rfl, fun _ => by rw [bc1], Rel_add h j1 j2 h3 ha hb hm⟩
      · rw [decide_eq_false h3] at hk3
        simp only [if_true] at hk3
        have h4 : mI M 13 (j - 1) = 24 := by rw [bc1, show kN C j = 24 by omega]; rfl
        rw [hk3, (m_addT_3 h1 h2 h4).1]
        exact ⟨(mz_0 _ _).symm, fun q => absurd q (show ¬ (3 : Int32) = 0 by decide), Rel_x h 3⟩
theorem r_demand {C : CS} {M : MS} (h : Rel C M) (o : Int64) (i w n : Int32) : (k_demand C o i w n).1 = mS (m_addT M 0 i w n) 0 ∧ ((k_demand C o i w n).1 = 0 → (k_demand C o i w n).2.2 = (m_addTr M 0 i w n).toInt64) ∧ Rel (k_demand C o i w n).2.1 (m_addT M 0 i w n) := r_ent h (j := 1) (by decide) (by decide) o i w n _ rfl
theorem r_order {C : CS} {M : MS} (h : Rel C M) (o : Int64) (i w n : Int32) : (k_order C o i w n).1 = mS (m_addT M 1 i w n) 0 ∧ ((k_order C o i w n).1 = 0 → (k_order C o i w n).2.2 = (m_addTr M 1 i w n).toInt64) ∧ Rel (k_order C o i w n).2.1 (m_addT M 1 i w n) := r_ent h (j := 2) (by decide) (by decide) o i w n _ rfl
/-! an entry's quantity -/
theorem St_set {C : CS} {M : MS} (h : St C M) {j u n : Nat} (j1 : 1 ≤ j) (j3 : j ≤ 3) (hu : u < kN C j) (hn : n ≤ 1000) : St (rE C (up3 (kE C) j u 2 (nI n))) (mi (mz M 0 0) 16 (24 * (j - 1) + u) (nI n)) := by
  have eJ : ∀ i, i ≠ 16 → mI (mi (mz M 0 0) 16 (24 * (j - 1) + u) (nI n)) i = mI M i := fun i hi => by
    show up2 (mI M) 16 _ _ i = _
    exact up2_m hi
  have hB : ∀ q, 1 ≤ q → q ≤ 3 → Bk (rE C (up3 (kE C) j u 2 (nI n))) (mi (mz M 0 0) 16 (24 * (j - 1) + u) (nI n)) q := by
    intro q q1 q3
    obtain ⟨c1, c2, c3⟩ := h.bk q1 q3
    have hq24 := (h.bc q q1 q3).2
    have hj24 := (h.bc j j1 j3).2
    unfold Bk mCt
    rw [eJ 13 (by decide), eJ 14 (by decide), eJ 15 (by decide)]
    refine ⟨c1, fun i hi => ?_, fun i hi => ?_⟩
    · obtain ⟨d0, d1, d2⟩ := c2 i hi
      refine ⟨?_, ?_, ?_⟩
      · show (if q = j ∧ i = u ∧ 0 = 2 then nI n else kE C q i 0) = _
        rw [if_neg (by omega)]; exact d0
      · show (if q = j ∧ i = u ∧ 1 = 2 then nI n else kE C q i 1) = _
        rw [if_neg (by omega)]; exact d1
      · show (if q = j ∧ i = u ∧ 2 = 2 then nI n else kE C q i 2) = if 16 = 16 ∧ 24 * (q - 1) + i = 24 * (j - 1) + u then nI n else mI M 16 (24 * (q - 1) + i)
        by_cases e : q = j ∧ i = u
        · rw [if_pos ⟨e.1, e.2, rfl⟩, if_pos ⟨rfl, by rw [e.1, e.2]⟩]
        · have hi' : i < kN C q := hi
          rw [if_neg (by omega), if_neg (by omega)]; exact d2
    · obtain ⟨d0, d1, d2⟩ := c3 i hi
      refine ⟨?_, ?_, ?_⟩
      · show ∃ a, a < 12 ∧ (if q = j ∧ i = u ∧ 0 = 2 then nI n else kE C q i 0) = nI a
        rw [if_neg (by omega)]; exact d0
      · show ∃ a, a < 12 ∧ (if q = j ∧ i = u ∧ 1 = 2 then nI n else kE C q i 1) = nI a
        rw [if_neg (by omega)]; exact d1
      · show ∃ a, a ≤ 1000 ∧ (if q = j ∧ i = u ∧ 2 = 2 then nI n else kE C q i 2) = nI a
        by_cases e : q = j ∧ i = u
        · rw [if_pos ⟨e.1, e.2, rfl⟩]; exact ⟨n, hn, rfl⟩
        · rw [if_neg (by omega)]; exact d2
  refine ⟨fun k hk q hq => ?_, hB 1 (by decide) (by decide), hB 2 (by decide) (by decide), hB 3 (by decide) (by decide), ?_, h.fb, fun q q1 q3 => ?_⟩
  · rw [eJ q (by omega)]; exact h.fi k hk q hq
  · have := h.ln
    unfold Ln at this ⊢
    rw [eJ 10 (by decide), eJ 11 (by decide), eJ 12 (by decide)]
    exact this
  · rw [eJ 13 (by decide)]; exact h.bc q q1 q3
theorem set_sum {C : CS} {M : MS} (h : St C M) {j u : Nat} (j1 : 1 ≤ j) (j3 : j ≤ 3) (hu : u < kN C j) (v : Int32) {K : Nat} (hK : K < 3) {q : Int32} (hq : K = j - 1 → ¬ mI M 14 (24 * (j - 1) + u) = q) (w : Int32) : m_sum (mi (mz M 0 0) 16 (24 * (j - 1) + u) v) K q w (mCt (mi (mz M 0 0) 16 (24 * (j - 1) + u) v) K) = m_sum M K q w (mCt M K) := by
  have eJ : ∀ i, i ≠ 16 → mI (mi (mz M 0 0) 16 (24 * (j - 1) + u) v) i = mI M i := fun i hi => by
    show up2 (mI M) 16 _ _ i = _
    exact up2_m hi
  have hj24 := (h.bc j j1 j3).2
  have hK24 := h.mc.c24 hK
  have ec : mCt (mi (mz M 0 0) 16 (24 * (j - 1) + u) v) K = mCt M K := by unfold mCt; rw [eJ 13 (by decide)]
  rw [ec]
  refine sum_c (fun e he => ?_)
  rw [eJ 14 (by decide), eJ 15 (by decide)]
  by_cases z : 24 * K + e = 24 * (j - 1) + u
  · refine Or.inr ?_
    have hKj : K = j - 1 := by omega
    rw [z]
    exact ⟨hq hKj, hq hKj⟩
  · refine Or.inl ⟨rfl, rfl, ?_⟩
    show up2 (mI M) 16 _ _ 16 _ = _
    exact up2_n (Or.inr z)
theorem r_change {C : CS} {M : MS} (h : Rel C M) (o : Int64) (kd x n : Int32) : (k_change C o kd x n).1 = mS (m_change M kd x n) 0 ∧ ((k_change C o kd x n).1 = 0 → (k_change C o kd x n).2.2 = (m_changer M kd x n).toInt64) ∧ Rel (k_change C o kd x n).2.1 (m_change M kd x n) := by
  unfold k_change
  cases h1 : inR kd 0 1 with
  | false =>
    have h1' : ¬ (kd = 0 ∨ kd = 1) := by
      rintro (e | e) <;> subst e <;> exact absurd h1 (by decide)
    rw [(m_change_1 h1').1]
    exact ⟨(mz_0 _ _).symm, fun q => absurd q (show ¬ (1 : Int32) = 0 by decide), Rel_x h 1⟩
  | true =>
    obtain ⟨K, hK, e⟩ := in_0 (n := 1) (by decide) h1
    subst e
    obtain ⟨bc1, bc2⟩ := h.st.bc (K + 1) (by omega) (by omega)
    rw [show K + 1 - 1 = K by omega] at bc1
    have eK : (nI K).toNatClampNeg = K := nI_clamp (by omega)
    rw [eK]
    cases h2 : inR x 0 (nI (kN C (K + 1)) - 1) with
    | false =>
      have h2' : inR x 0 (mI M 13 K - 1) = false := by rw [bc1]; exact h2
      rw [(m_change_2 (by omega) h2').1]
      exact ⟨(mz_0 _ _).symm, fun q => absurd q (show ¬ (2 : Int32) = 0 by decide), Rel_x h 2⟩
    | true =>
      obtain ⟨u, hu, e⟩ := inR_in (by omega) h2
      subst e
      have ec : mCt M K = kN C (K + 1) := mct_j h.st (j := K + 1) (by omega) (by omega)
      cases h3 : inR n 0 1000 with
      | false =>
        have e1 : x_change M (nI K) (nI u) n = 1 := by
          unfold x_change
          have e3 : nI K = 0 ∨ nI K = 1 := by
            rcases (show K = 0 ∨ K = 1 by omega) with e | e <;> subst e
            · exact Or.inl (by decide)
            · exact Or.inr (by decide)
          rw [if_pos e3, eK, bc1, h2, h3]; rfl
        have e2 : m_change M (nI K) (nI u) n = mz M 0 1 := by
          unfold m_change; rw [e1, if_neg (by decide)]
        rw [e2]
        exact ⟨(mz_0 _ _).symm, fun q => absurd q (show ¬ (1 : Int32) = 0 by decide), Rel_x h 1⟩
      | true =>
        obtain ⟨m, hm, e⟩ := in_0 (n := 1000) (by decide) h3
        subst e
        obtain ⟨c1, c2, c3⟩ := h.st.bk (j := K + 1) (by omega) (by omega)
        obtain ⟨⟨a, ha, ea⟩, _⟩ := c3 u hu
        have d := c2 u hu
        rw [show K + 1 - 1 = K by omega] at d
        have ea' : mI M 14 (24 * K + u) = nI a := by rw [← d.1, ea]
        have z := m_change_0 (M := M) (K := K) (u := u) (a := a) (n := nI m) (by omega) (by rw [ec]; exact hu) h.mc h3 ha ea'
        rw [z.1, z.2]
        have eu : (nI u).toNatClampNeg = u := nI_clamp (by omega)
        simp only [Bool.true_eq_false, if_false, eu, ea, nI_cl ha]
        refine ⟨rfl, fun _ => by rw [d.2.2], ?_⟩
        have hst := St_set h.st (j := K + 1) (by omega) (by omega) hu hm
        rw [show K + 1 - 1 = K by omega] at hst
        have hst2 : St (c_tell (rE C (up3 (kE C) (K + 1) u 2 (nI m))) a) (m_tell (mi (mz M 0 0) 16 (24 * K + u) (nI m)) a) := by
          refine hst.of ⟨fun j _ hj => ?_, fun _ _ => rfl, rfl, rfl, rfl, rfl⟩ (fun j hj => ?_) rfl
          · show up2 (kI C) 12 a 1 j = _; exact up2_m (by omega)
          · show up2 (mI (mi (mz M 0 0) 16 (24 * K + u) (nI m))) 17 a 1 j = _; exact up2_m hj
        have eJ : ∀ i, i ≠ 16 → i ≠ 17 → mI (m_tell (mi (mz M 0 0) 16 (24 * K + u) (nI m)) a) i = mI M i := fun i hi h7 => by
          show up2 (up2 (mI M) 16 (24 * K + u) (nI m)) 17 a 1 i = _
          rw [up2_m h7, up2_m hi]
        refine Rel_gen (fun q => q = a) h hst2 (h.lv.of ?_ (eJ 10 (by decide) (by decide))) rfl rfl (fun q _ => ⟨fun e => ?_, fun e => ?_⟩) (fun q _ => ⟨fun e => ?_, fun e => ?_⟩) rfl rfl (fun q => ?_) rfl ?_ (fun q _ e i hi => ?_) (fun K' hK' q hq e w _ => ?_) (fun i hi x _ q _ _ => ?_)
        · show up2 (kI C) 12 a 1 11 = _; exact up2_m (by decide)
        · show up2 (kI C) 12 a 1 12 q ≠ 0
          rw [e, up2_s]; decide
        · show up2 (kI C) 12 a 1 12 q = _
          rw [up2_n (Or.inr e)]
        · show up2 (up2 (mI M) 16 (24 * K + u) (nI m)) 17 a 1 17 q ≠ 0
          rw [e, up2_s]; decide
        · show up2 (up2 (mI M) 16 (24 * K + u) (nI m)) 17 a 1 17 q = _
          rw [up2_n (Or.inr e), up2_m (by decide)]
        · exact absurd q (by show ¬ (1 : Int32) = 0; decide)
        · show up2 (kI C) 12 a 1 13 = _; exact up2_m (by decide)
        · rw [eJ i (by omega) (by omega)]
        · have y := set_sum h.st (j := K + 1) (u := u) (by omega) (by omega) hu (nI m) (K := K') (by omega) (q := nI q) (fun _ => by rw [show K + 1 - 1 = K by omega, ea']; intro z; exact e ((nI_eq (by omega) (by omega)).mp z).symm) (nI w)
          rw [show K + 1 - 1 = K by omega] at y
          rw [← y]
          have : ∀ m', m_sum (m_tell (mi (mz M 0 0) 16 (24 * K + u) (nI m)) a) K' (nI q) (nI w) m' = m_sum (mi (mz M 0 0) 16 (24 * K + u) (nI m)) K' (nI q) (nI w) m' := by
            intro m'
            induction m' with
            | zero => rfl
            | succ m' ih => rw [m_sum, m_sum, ih]; rfl
          rw [this]; rfl
        · rw [eJ i (by omega) (by omega)]
theorem r_giveBack {C : CS} {M : MS} (h : Rel C M) (o : Int64) (x : Int32) : (k_giveBack C o x).1 = mS (m_gb M x) 0 ∧ ((k_giveBack C o x).1 = 0 → (k_giveBack C o x).2.2 = (m_gbr M x).toInt64) ∧ Rel (k_giveBack C o x).2.1 (m_gb M x) := by
  unfold k_giveBack
  obtain ⟨bc1, bc2⟩ := h.st.bc 3 (by decide) (by decide)
  have bc1' : mI M 13 2 = nI (kN C 3) := bc1
  cases h1 : inR x 0 (nI (kN C 3) - 1) with
  | false =>
    rw [(m_gb_1 (by rw [bc1']; exact h1)).1]
    exact ⟨(mz_0 _ _).symm, fun q => absurd q (show ¬ (1 : Int32) = 0 by decide), Rel_x h 1⟩
  | true =>
    obtain ⟨u, hu, e⟩ := inR_in (by omega) h1
    subst e
    have ec : mCt M 2 = kN C 3 := mct_j h.st (j := 3) (by decide) (by decide)
    have z := m_gb_0 (M := M) (u := u) h.mc (by rw [ec]; exact hu)
    rw [z.1, z.2]
    have eu : (nI u).toNatClampNeg = u := nI_clamp (by omega)
    simp only [Bool.true_eq_false, if_false, eu]
    obtain ⟨c1, c2, c3⟩ := h.st.b3
    have d : kE C 3 u 2 = mI M 16 (48 + u) := (c2 u hu).2.2
    refine ⟨rfl, fun _ => by rw [d], ?_⟩
    have hst : St (rE C (up3 (kE C) 3 u 2 0)) (mi (mz M 0 0) 16 (48 + u) 0) := St_set h.st (j := 3) (n := 0) (by decide) (by decide) hu (by omega)
    refine Rel_same h hst (fun _ _ _ => rfl) (fun j hj => ?_) rfl rfl rfl rfl rfl rfl (fun K hK q w => ?_)
    · show up2 (mI M) 16 _ _ j = _; exact up2_m (by omega)
    · exact set_sum h.st (j := 3) (u := u) (by decide) (by decide) hu 0 (K := K) (by omega) (fun e => by omega) w
