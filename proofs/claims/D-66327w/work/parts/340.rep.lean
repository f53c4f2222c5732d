/-! REPLANNING: what is in the queue, one turn, all turns -/
def cnt (Q : Nat → Nat) : Nat → Nat → Nat
  | 0, _ => 0
  | n + 1, k => cnt Q n k + (if Q n = k then 1 else 0)
theorem cnt_up (Q : Nat → Nat) (a x n k : Nat) : cnt (va_up Q a x) n k + (if a < n ∧ Q a = k then 1 else 0) = cnt Q n k + (if a < n ∧ x = k then 1 else 0) := by
  induction n with
  | zero => simp [cnt]
  | succ n ih =>
    unfold cnt
    by_cases e : n = a
    · subst e
      rw [va_up_self]
      simp only [Nat.lt_irrefl, false_and, if_false, Nat.lt_succ_self, true_and] at ih ⊢
      omega
    · rw [va_up_ne _ _ e]
      by_cases h : a < n
      · simp only [h, show a < n + 1 by omega, true_and] at ih ⊢
        omega
      · simp only [h, show ¬ a < n + 1 by omega, false_and, if_false] at ih ⊢
        omega
theorem cnt_sw (Q : Nat → Nat) {a b n : Nat} (ha : a < n) (hb : b < n) (k : Nat) : cnt (qsw Q a b) n k = cnt Q n k := by
  unfold qsw
  have h1 := cnt_up (va_up Q a (Q b)) b (Q a) n k
  have h2 := cnt_up Q a (Q b) n k
  have h3 : va_up Q a (Q b) b = Q b := by
    by_cases e : b = a
    · subst e; rw [va_up_self]
    · rw [va_up_ne _ _ e]
  rw [h3] at h1
  simp only [ha, hb, true_and] at h1 h2
  omega
theorem cnt_qup (R : Nat → Int32) (n k : Nat) : ∀ f v Q, v < n → cnt (q_up R f v Q) n k = cnt Q n k := by
  intro f
  induction f with
  | zero => intro v Q _; rfl
  | succ f ih =>
    intro v Q hv
    unfold q_up
    split
    · rw [ih _ _ (by omega), cnt_sw Q hv (by omega)]
    · rfl
theorem cnt_qdn (R : Nat → Int32) (n k : Nat) : ∀ f v Q, v < n → cnt (q_dn R n f v Q) n k = cnt Q n k := by
  intro f
  induction f with
  | zero => intro v Q _; rfl
  | succ f ih =>
    intro v Q hv
    unfold q_dn
    have hb := q_ls_b (fun i => R (Q i)) hv
    split
    · rfl
    · rw [ih _ _ hb.1, cnt_sw Q hv hb.1]
/-- the sum of a row's first n -/
def sm (f : Nat → Nat) : Nat → Nat
  | 0 => 0
  | n + 1 => sm f n + f n
theorem sm_le {f g : Nat → Nat} {n : Nat} (h : ∀ k, k < n → f k ≤ g k) : sm f n ≤ sm g n := by
  induction n with
  | zero => exact Nat.le_refl _
  | succ n ih => have := ih (fun k hk => h k (by omega)); have := h n (by omega); unfold sm; omega
theorem sm_c (f g : Nat → Nat) (n : Nat) : sm (fun k => f k + g k) n = sm f n + sm g n := by
  induction n with
  | zero => rfl
  | succ n ih => unfold sm; omega
theorem sm_1 {a n : Nat} (h : a < n) : sm (fun k => if a = k then 1 else 0) n = 1 := by
  induction n with
  | zero => omega
  | succ n ih =>
    unfold sm
    by_cases e : a = n
    · subst e
      have : sm (fun k => if a = k then 1 else 0) a ≤ sm (fun _ => 0) a := sm_le (fun k hk => by rw [if_neg (by omega)]; exact Nat.le_refl _)
      have z : ∀ m, sm (fun _ => 0) m = 0 := fun m => by
        induction m with
        | zero => rfl
        | succ m ih => unfold sm; omega
      rw [z] at this
      simp
      omega
    · rw [ih (by omega), if_neg e]
theorem cnt_sum {Q : Nat → Nat} {n : Nat} (h : ∀ i, i < n → Q i < 12) : sm (cnt Q n) 12 = n := by
  induction n with
  | zero => rfl
  | succ n ih =>
    have e : cnt Q (n + 1) = fun k => cnt Q n k + (if Q n = k then 1 else 0) := rfl
    rw [e, sm_c, ih (fun i hi => h i (by omega)), sm_1 (h n (by omega))]
theorem cnt_pos {Q : Nat → Nat} {n i : Nat} (hi : i < n) : 1 ≤ cnt Q n (Q i) := by
  induction n with
  | zero => omega
  | succ n ih =>
    unfold cnt
    by_cases e : i = n
    · subst e; rw [if_pos rfl]; omega
    · have := ih (by omega); omega
theorem cnt_in {Q : Nat → Nat} {n k : Nat} (h : 1 ≤ cnt Q n k) : ∃ i, i < n ∧ Q i = k := by
  induction n with
  | zero => simp [cnt] at h
  | succ n ih =>
    unfold cnt at h
    by_cases e : Q n = k
    · exact ⟨n, by omega, e⟩
    · rw [if_neg e] at h
      obtain ⟨i, hi, he⟩ := ih (by omega)
      exact ⟨i, by omega, he⟩
/-- the queue holds those that wait, each once -/
def QI (C : CS) : Prop := (∀ i, i < kN C 4 → kQ C i < 12) ∧ ∀ k, k < 12 → cnt (kQ C) (kN C 4) k = if kI C 13 k = 0 then 0 else 1
theorem QI.of {C C' : CS} (h : QI C) (e1 : kI C' 13 = kI C 13) (e2 : kN C' 4 = kN C 4) (e3 : kQ C' = kQ C) : QI C' := by
  unfold QI
  rw [e1, e2, e3]
  exact h
theorem QI.room {C : CS} (h : QI C) {k : Nat} (hk : k < 12) (h0 : kI C 13 k = 0) : kN C 4 < 12 := by
  have e := cnt_sum h.1
  have h1 : sm (fun j => cnt (kQ C) (kN C 4) j + (if k = j then 1 else 0)) 12 ≤ sm (fun _ => 1) 12 := sm_le (fun j hj => by
    show cnt (kQ C) (kN C 4) j + (if k = j then 1 else 0) ≤ 1
    rw [h.2 j hj]
    by_cases e : k = j
    · subst e; rw [if_pos h0, if_pos rfl]; exact Nat.le_refl _
    · rw [if_neg e]; split <;> omega)
  rw [sm_c, e, sm_1 hk] at h1
  have : sm (fun _ => 1) 12 = 12 := rfl
  omega
theorem qup_lt (R : Nat → Int32) (n : Nat) : ∀ f v Q, v < n → (∀ i, i < n → Q i < 12) → ∀ i, i < n → q_up R f v Q i < 12 := by
  intro f
  induction f with
  | zero => intro v Q _ h; exact h
  | succ f ih =>
    intro v Q hv h
    unfold q_up
    split
    · refine ih _ _ (by omega) (fun i hi => ?_)
      unfold qsw va_up
      split
      · exact h _ hv
      · split
        · exact h _ (by omega)
        · exact h _ hi
    · exact h
theorem qdn_lt (R : Nat → Int32) (n : Nat) : ∀ f v Q, v < n → (∀ i, i < n → Q i < 12) → ∀ i, i < n → q_dn R n f v Q i < 12 := by
  intro f
  induction f with
  | zero => intro v Q _ h; exact h
  | succ f ih =>
    intro v Q hv h
    unfold q_dn
    have hb := q_ls_b (fun i => R (Q i)) hv
    split
    · exact h
    · refine ih _ _ hb.1 (fun i hi => ?_)
      unfold qsw va_up
      split
      · exact h _ hv
      · split
        · exact h _ hb.1
        · exact h _ hi
theorem QI_put {C : CS} {k : Nat} (h : QI C) (hk : k < 12) (h0 : kI C 13 k = 0) : QI (c_put (ci C 13 k 1) k) := by
  have e1 : kN (c_put (ci C 13 k 1) k) 4 = kN C 4 + 1 := cQ_N _ _ _
  have e2 : kQ (c_put (ci C 13 k 1) k) = q_up (q_rank (ci C 13 k 1)) (kN C 4 + 1) (kN C 4) (va_up (kQ C) (kN C 4) k) := rfl
  have e3 : kI (c_put (ci C 13 k 1) k) 13 = va_up (kI C 13) k 1 := by
    show up2 (kI C) 13 k 1 13 = _
    rw [up2_w]
  unfold QI
  rw [e1, e2, e3]
  have hb : ∀ i, i < kN C 4 + 1 → va_up (kQ C) (kN C 4) k i < 12 := fun i hi => by
    by_cases e : i = kN C 4
    · rw [e, va_up_self]; exact hk
    · rw [va_up_ne _ _ e]; exact h.1 i (by omega)
  refine ⟨qup_lt _ _ _ _ _ (by omega) hb, fun j hj => ?_⟩
  rw [cnt_qup _ _ _ _ _ _ (by omega)]
  show cnt (va_up (kQ C) (kN C 4) k) (kN C 4) j + (if va_up (kQ C) (kN C 4) k (kN C 4) = j then 1 else 0) = _
  rw [va_up_self]
  have h1 := cnt_up (kQ C) (kN C 4) k (kN C 4) j
  simp only [Nat.lt_irrefl, false_and, if_false, Nat.add_zero] at h1
  rw [h1, h.2 j hj]
  by_cases e : j = k
  · subst e; rw [va_up_self, if_pos h0, if_pos rfl, if_neg (by decide)]
  · rw [va_up_ne _ _ e, if_neg (show ¬ k = j from fun q => e q.symm), Nat.add_zero]
theorem QI_aw {C : CS} {k : Nat} (h : QI C) (hk : k < 12) : QI (c_aw C k) := by
  unfold c_aw
  split
  · rename_i h0; exact QI_put h hk h0
  · exact h
theorem QI_tk {C : CS} (h : QI C) (h0 : 0 < kN C 4) : QI (ci (c_tk C) 13 (kQ C 0) 0) := by
  have e3 : kI (ci (c_tk C) 13 (kQ C 0) 0) 13 = va_up (kI C 13) (kQ C 0) 0 := by
    have : kI (c_tk C) = kI C := by unfold c_tk; split <;> rfl
    show up2 (kI (c_tk C)) 13 (kQ C 0) 0 13 = _
    rw [this, up2_w]
  have hc : ∀ k, k < 12 → cnt (kQ (c_tk C)) (kN (c_tk C) 4) k + (if kQ C 0 = k then 1 else 0) = cnt (kQ C) (kN C 4) k := by
    intro k hk
    unfold c_tk
    split
    · rename_i e
      rw [cQ_N, e]
      show 0 + _ = cnt (kQ C) 1 k
      unfold cnt cnt
      rfl
    · rename_i e
      rw [cQ_N]
      show cnt (q_dn (q_rank C) (kN C 4 - 1) (kN C 4 - 1) 0 (va_up (kQ C) 0 (kQ C (kN C 4 - 1)))) (kN C 4 - 1) k + _ = _
      rw [cnt_qdn _ _ _ _ _ _ (by omega)]
      have h1 := cnt_up (kQ C) 0 (kQ C (kN C 4 - 1)) (kN C 4 - 1) k
      simp only [show 0 < kN C 4 - 1 by omega, true_and] at h1
      rw [h1]
      have h2 : cnt (kQ C) (kN C 4 - 1 + 1) k = cnt (kQ C) (kN C 4 - 1) k + (if kQ C (kN C 4 - 1) = k then 1 else 0) := rfl
      rw [show kN C 4 - 1 + 1 = kN C 4 by omega] at h2
      exact h2.symm
  have hl : ∀ i, i < kN (c_tk C) 4 → kQ (c_tk C) i < 12 := by
    unfold c_tk
    split
    · intro i hi; rw [cQ_N] at hi; omega
    · intro i hi
      rw [cQ_N] at hi
      refine qdn_lt _ _ _ _ _ (by omega) (fun j hj => ?_) i hi
      by_cases e : j = 0
      · rw [e, va_up_self]; exact h.1 _ (by omega)
      · rw [va_up_ne _ _ e]; exact h.1 _ (by omega)
  refine ⟨hl, fun k hk => ?_⟩
  rw [e3]
  have h1 := hc k hk
  rw [h.2 k hk] at h1
  by_cases e : k = kQ C 0
  · subst e
    rw [va_up_self, if_pos rfl]
    rw [if_pos rfl] at h1
    have h2 := cnt_pos (Q := kQ C) h0
    rw [h.2 _ hk] at h2
    show cnt (kQ (c_tk C)) (kN (c_tk C) 4) _ = 0
    split at h1 <;> omega
  · rw [va_up_ne _ _ e]
    rw [if_neg (fun q => e q.symm)] at h1
    exact h1
/-- states that differ in plans, told, waits, the queue alone -/
def cS4 (C C' : CS) : Prop := (∀ j, 1 ≤ j → j ≤ 11 → kI C' j = kI C j) ∧ (∀ j, j < 4 → kN C' j = kN C j) ∧ kP C' = kP C ∧ kC C' = kC C ∧ kL C' = kL C ∧ kE C' = kE C
theorem cS4.rf (C : CS) : cS4 C C := ⟨fun _ _ _ => rfl, fun _ _ => rfl, rfl, rfl, rfl, rfl⟩
theorem cS4.tr {A B C : CS} (h : cS4 A B) (h2 : cS4 B C) : cS4 A C := ⟨fun j a b => (h2.1 j a b).trans (h.1 j a b), fun j a => (h2.2.1 j a).trans (h.2.1 j a), h2.2.2.1.trans h.2.2.1, h2.2.2.2.1.trans h.2.2.2.1, h2.2.2.2.2.1.trans h.2.2.2.2.1, h2.2.2.2.2.2.trans h.2.2.2.2.2⟩
theorem CC.s4 {C C' : CS} (h : CC C) (e : cS4 C C') : CC C' := by
  have h1 : ∀ k, cLd C' k = cLd C k := fun k => by simp only [cLd, e.1 3 (by decide) (by decide)]
  have h2 : ∀ k, cSz C' k = cSz C k := fun k => by simp only [cSz, e.1 2 (by decide) (by decide)]
  have h3 : ∀ k, cRu C' k = cRu C k := fun k => by simp only [cRu, e.1 1 (by decide) (by decide)]
  obtain ⟨a, b, c, d⟩ := h
  refine ⟨fun k hk => ?_, fun k hk => ?_, fun k hk => ?_, fun j j1 j3 i hi => ?_⟩
  · rw [e.1 3 (by decide) (by decide), h1]; exact a k hk
  · rw [e.1 2 (by decide) (by decide), h2]; exact b k hk
  · rw [e.1 1 (by decide) (by decide), h3]; exact c k hk
  · rw [e.2.2.2.2.2]; rw [e.2.1 j (by omega)] at hi; exact d j j1 j3 i hi
theorem cS4_cQ (C : CS) (n : Nat) (Q : Nat → Nat) : cS4 C (cQ C n Q) := ⟨fun _ _ _ => rfl, fun j hj => cQ_n C n Q (by omega), rfl, rfl, rfl, rfl⟩
theorem cS4_ci (C : CS) {j : Nat} (k : Nat) (v : Int32) (h : 12 ≤ j) : cS4 C (ci C j k v) := ⟨fun i _ hi => up2_m (by omega), fun _ _ => rfl, rfl, rfl, rfl, rfl⟩
theorem cS4_rA (C : CS) (x : Nat → Nat → Nat → Int64) : cS4 C (rA C x) := ⟨fun _ _ _ => rfl, fun _ _ => rfl, rfl, rfl, rfl, rfl⟩
theorem cS4_aw (C : CS) (k : Nat) : cS4 C (c_aw C k) := by
  unfold c_aw
  split
  · exact (cS4_ci C k 1 (by decide)).tr (cS4_cQ _ _ _)
  · exact cS4.rf C
theorem cS4_tk (C : CS) : cS4 C (c_tk C) := by
  unfold c_tk
  split <;> exact cS4_cQ _ _ _
theorem c_lks_s (C : CS) (k n : Nat) : cS4 C (c_lks C k n) ∧ kQ (c_lks C k n) = kQ C ∧ kN (c_lks C k n) = kN C ∧ kI (c_lks C k n) = kI C ∧ kT (c_lks C k n) = kT C ∧ kV (c_lks C k n) = kV C := by
  induction n with
  | zero => exact ⟨⟨fun _ _ _ => rfl, fun _ _ => rfl, rfl, rfl, rfl, rfl⟩, rfl, rfl, rfl, rfl, rfl⟩
  | succ n ih => exact ⟨ih.1.tr ⟨fun _ _ _ => rfl, fun _ _ => rfl, rfl, rfl, rfl, rfl⟩, ih.2⟩
theorem c_net_s (C : CS) (k : Nat) : cS4 C (c_net C k) ∧ kQ (c_net C k) = kQ C ∧ kN (c_net C k) = kN C ∧ kI (c_net C k) = kI C ∧ kT (c_net C k) = kT C ∧ kV (c_net C k) = kV C := by
  unfold c_net c_n2 c_wr c_pr
  split
  · unfold c_plc c_pl c_wr
    have h := c_lks_s (c_n1 C k 12) k (12 - cLd (c_n1 C k 12) k)
    exact ⟨((cS4_rA C _).tr h.1).tr ((cS4_rA _ _).tr (cS4_rA _ _)), h.2⟩
  · unfold c_pl c_wr
    exact ⟨(cS4_rA C _).tr ((cS4_rA _ _).tr (cS4_rA _ _)), rfl, rfl, rfl, rfl, rfl⟩
/-- children of k wait -/
def c_kids (C : CS) (k : Nat) : Nat → CS
  | 0 => C
  | n + 1 => if kP C n = k then c_aw (c_kids C k n) (kC C n) else c_kids C k n
theorem c_kids_s (C : CS) (k n : Nat) : cS4 C (c_kids C k n) := by
  induction n with
  | zero => exact cS4.rf C
  | succ n ih =>
    unfold c_kids
    split
    · exact ih.tr (cS4_aw _ _)
    · exact ih
theorem c_kids_Q {C : CS} (h : QI C) (k : Nat) {n : Nat} (hc : ∀ i, i < n → kC C i < 12) : QI (c_kids C k n) := by
  induction n with
  | zero => exact h
  | succ n ih =>
    unfold c_kids
    split
    · exact QI_aw (ih (fun i hi => hc i (by omega))) (hc n (by omega))
    · exact ih (fun i hi => hc i (by omega))
/-- those that were told of wait -/
def c_r0 (C : CS) : Nat → CS
  | 0 => C
  | n + 1 => if kI (c_r0 C n) 12 n = 0 then c_r0 C n else c_aw (c_r0 C n) n
theorem c_r0_s (C : CS) (n : Nat) : cS4 C (c_r0 C n) := by
  induction n with
  | zero => exact cS4.rf C
  | succ n ih =>
    unfold c_r0
    split
    · exact ih
    · exact ih.tr (cS4_aw _ _)
theorem c_r0_Q {C : CS} (h : QI C) {n : Nat} (hn : n ≤ 12) : QI (c_r0 C n) := by
  induction n with
  | zero => exact h
  | succ n ih =>
    unfold c_r0
    split
    · exact ih (by omega)
    · exact QI_aw (ih (by omega)) (by omega)
/-- a turn: the taken one, what grows finds, whether it is netted, what is then -/
def c_t1 (C : CS) : CS := ci (c_tk C) 13 (kQ C 0) 0
def c_sb (C : CS) : Bool := c_df (c_t1 C) (kQ C 0) 12 || decide (¬ kI C 12 (kQ C 0) = 0)
def c_st (C : CS) : CS := if c_sb C = true then c_kids (c_net (ci (c_gr (c_t1 C) (kQ C 0)) 12 (kQ C 0) 0) (kQ C 0)) (kQ C 0) (kN C 0) else c_gr (c_t1 C) (kQ C 0)
def c_it (C : CS) : Nat → CS × Nat
  | 0 => (C, 0)
  | n + 1 => (c_st (c_it C n).1, if c_sb (c_it C n).1 = true then (c_it C n).2 + 1 else (c_it C n).2)
theorem c_it_le (C : CS) (n : Nat) : (c_it C n).2 ≤ n := by
  induction n with
  | zero => exact Nat.le_refl _
  | succ n ih => show (if c_sb (c_it C n).1 = true then (c_it C n).2 + 1 else (c_it C n).2) ≤ _; split <;> omega
theorem c_t1_s (C : CS) : cS4 C (c_t1 C) := (cS4_tk C).tr (cS4_ci _ _ _ (by decide))
theorem c_gr_s (C : CS) (k : Nat) : cS4 C (c_gr C k) := cS4_rA _ _
theorem c_tk_I (C : CS) : kI (c_tk C) = kI C := by unfold c_tk; split <;> rfl
theorem c_t1_12 (C : CS) (k : Nat) : kI (c_t1 C) 12 k = kI C 12 k := by
  show up2 (kI (c_tk C)) 13 (kQ C 0) 0 12 k = _
  rw [up2_m (by decide), c_tk_I]
theorem c_st_s (C : CS) : cS4 C (c_st C) := by
  unfold c_st
  split
  · exact (((c_t1_s C).tr (c_gr_s _ _)).tr ((cS4_ci _ _ _ (by decide)).tr (c_net_s _ _).1)).tr (c_kids_s _ _ _)
  · exact (c_t1_s C).tr (c_gr_s _ _)
/-- behind netting, ahead of the children -/
theorem c_nk_Q {C : CS} (h : QI C) (h0 : 0 < kN C 4) : QI (c_net (ci (c_gr (c_t1 C) (kQ C 0)) 12 (kQ C 0) 0) (kQ C 0)) := by
  have h1 : QI (ci (c_gr (c_t1 C) (kQ C 0)) 12 (kQ C 0) 0) := (QI_tk h h0).of (show up2 (kI (c_t1 C)) 12 (kQ C 0) 0 13 = kI (c_t1 C) 13 from up2_m (by decide)) rfl rfl
  have z := c_net_s (ci (c_gr (c_t1 C) (kQ C 0)) 12 (kQ C 0) 0) (kQ C 0)
  exact h1.of (by rw [z.2.2.2.1]) (by rw [z.2.2.1]) z.2.1
theorem c_st_Q {C : CS} (h : QI C) (h0 : 0 < kN C 4) (hc : ∀ i, i < kN C 0 → kC C i < 12) : QI (c_st C) := by
  unfold c_st
  split
  · refine c_kids_Q (c_nk_Q h h0) _ (fun i hi => ?_)
    have z := ((c_t1_s C).tr (c_gr_s _ (kQ C 0))).tr ((cS4_ci (c_gr (c_t1 C) (kQ C 0)) (kQ C 0) 0 (by decide)).tr (c_net_s (ci (c_gr (c_t1 C) (kQ C 0)) 12 (kQ C 0) 0) (kQ C 0)).1)
    rw [z.2.2.2.1]
    exact hc i hi
  · exact (QI_tk h h0).of rfl rfl rfl
/-- telling of a line -/
def c_wks (n f t : Int32) : Bool := decide (n = 0) || (inR f 0 t && decide (t < 12))
def c_ln1 (C : CS) (pa ch : Nat) (n : Int32) : CS := if 0 < n then rV C (c_lev C (some (pa, ch))).1 else C
def c_ln2 (C : CS) (pa ch : Nat) (n : Int32) : CS := if c_fd C pa ch (kN C 0) = -1 then c_ln1 C pa ch n else cRemL (c_ln1 C pa ch n) (c_fd C pa ch (kN C 0)).toNatClampNeg
def c_ln3 (C : CS) (pa ch : Nat) (n f t : Int32) : CS := if 0 < n then cAddL (c_ln2 C pa ch n) pa ch n f t else c_ln2 C pa ch n
def c_ln4 (C : CS) : CS := c_kl (rV C (c_lev C none).1) 12
def c_line (C : CS) (pa ch : Nat) (n f t : Int32) : CS := c_tell (c_ln4 (c_ln3 C pa ch n f t)) ch
