/-! PLAIN LAW: the queue's order -/
def HP (r : Nat → Int32) (Q : Nat → Nat) (n : Nat) : Prop := ∀ i, 0 < i → i < n → r (Q ((i - 1) / 2)) ≤ r (Q i)
theorem qsw_a (Q : Nat → Nat) {a b : Nat} : qsw Q a b a = Q b := by
  unfold qsw va_up
  by_cases e : a = b
  · subst e; simp
  · rw [if_neg e, if_pos rfl]
theorem qsw_b (Q : Nat → Nat) {a b : Nat} : qsw Q a b b = Q a := by
  unfold qsw va_up
  rw [if_pos rfl]
theorem qsw_o (Q : Nat → Nat) {a b i : Nat} (h1 : i ≠ a) (h2 : i ≠ b) : qsw Q a b i = Q i := by
  unfold qsw va_up
  rw [if_neg h2, if_neg h1]
theorem q_up_hp (r : Nat → Int32) (n : Nat) : ∀ f v Q, v < n → v < f → (∀ i, 0 < i → i < n → i ≠ v → r (Q ((i - 1) / 2)) ≤ r (Q i)) → (∀ i, 0 < i → i < n → (i - 1) / 2 = v → 0 < v → r (Q ((v - 1) / 2)) ≤ r (Q i)) → HP r (q_up r f v Q) n := by
  intro f
  induction f with
  | zero => intro v Q _ h; omega
  | succ f ih =>
    intro v Q hv hf h1 h2
    unfold q_up
    split
    · rename_i hc
      refine ih _ _ (by omega) (by omega) (fun i i0 hi hne => ?_) (fun i i0 hi hp hv0 => ?_)
      · by_cases e1 : i = v
        · subst e1
          rw [qsw_a, qsw_b]
          exact Int32.le_of_lt hc.2
        · rw [qsw_o Q e1 hne]
          by_cases e2 : (i - 1) / 2 = v
          · rw [e2, qsw_a]
            exact h2 i i0 hi e2 hc.1
          · by_cases e3 : (i - 1) / 2 = (v - 1) / 2
            · rw [e3, qsw_b]
              have h3 := h1 i i0 hi e1
              rw [e3] at h3
              exact Int32.le_trans (Int32.le_of_lt hc.2) h3
            · rw [qsw_o Q e2 e3]
              exact h1 i i0 hi e1
      · have g1 := h1 ((v - 1) / 2) (by omega) (by omega) (by omega)
        rw [qsw_o Q (i := ((v - 1) / 2 - 1) / 2) (by omega) (by omega)]
        by_cases e1 : i = v
        · subst e1; rw [qsw_a]; exact g1
        · rw [qsw_o Q e1 (by omega)]
          have g2 := h1 i i0 hi e1
          rw [hp] at g2
          exact Int32.le_trans g1 g2
    · rename_i hc
      intro i i0 hi
      by_cases e : i = v
      · subst e
        exact Int32.not_lt.mp (fun q => hc ⟨i0, q⟩)
      · exact h1 i i0 hi e
theorem q_dn_hp (r : Nat → Int32) (n : Nat) : ∀ f k Q, k < n → n ≤ f + k → (∀ i, 0 < i → i < n → (i - 1) / 2 ≠ k → r (Q ((i - 1) / 2)) ≤ r (Q i)) → (∀ i, 0 < i → i < n → (i - 1) / 2 = k → 0 < k → r (Q ((k - 1) / 2)) ≤ r (Q i)) → HP r (q_dn r n f k Q) n := by
  intro f
  induction f with
  | zero => intro k Q h1 h2; omega
  | succ f ih =>
    intro k Q hk hf h1 h2
    unfold q_dn
    -- the least of three
    have hm : ∀ c, (c = 2 * k + 1 ∨ c = 2 * k + 2) → c < n → r (Q (q_ls (fun i => r (Q i)) n k)) ≤ r (Q c) := by
      intro c hc hcn
      have a1 : 2 * k + 1 < n → r (Q (q_l1 (fun i => r (Q i)) n k)) ≤ r (Q (2 * k + 1)) := by
        intro hn
        unfold q_l1
        split
        · exact Int32.le_refl _
        · rename_i q; exact Int32.not_lt.mp (fun z => q ⟨hn, z⟩)
      unfold q_ls
      split
      · rename_i q
        rcases hc with e | e
        · subst e
          exact Int32.le_trans (Int32.le_of_lt q.2) (a1 hcn)
        · subst e; exact Int32.le_refl _
      · rename_i q
        rcases hc with e | e
        · subst e; exact a1 hcn
        · subst e; exact Int32.not_lt.mp (fun z => q ⟨hcn, z⟩)
    have hk2 : r (Q (q_ls (fun i => r (Q i)) n k)) ≤ r (Q k) := by
      have a1 : r (Q (q_l1 (fun i => r (Q i)) n k)) ≤ r (Q k) := by
        unfold q_l1
        split
        · rename_i q; exact Int32.le_of_lt q.2
        · exact Int32.le_refl _
      unfold q_ls
      split
      · rename_i q; exact Int32.le_trans (Int32.le_of_lt q.2) a1
      · exact a1
    have ho : q_ls (fun i => r (Q i)) n k = k ∨ ((q_ls (fun i => r (Q i)) n k = 2 * k + 1 ∨ q_ls (fun i => r (Q i)) n k = 2 * k + 2) ∧ q_ls (fun i => r (Q i)) n k < n) := by
      unfold q_ls
      split
      · rename_i q; exact Or.inr ⟨Or.inr rfl, q.1⟩
      · unfold q_l1
        split
        · rename_i q; exact Or.inr ⟨Or.inl rfl, q.1⟩
        · exact Or.inl rfl
    generalize q_ls (fun i => r (Q i)) n k = m at hm hk2 ho ⊢
    split
    · rename_i e
      subst e
      intro i i0 hi
      by_cases e2 : (i - 1) / 2 = m
      · rw [e2]; exact hm i (by omega) hi
      · exact h1 i i0 hi e2
    · rename_i hne
      obtain ⟨hmc, hmn⟩ := ho.resolve_left hne
      refine ih m _ hmn (by omega) (fun i i0 hi hp => ?_) (fun i i0 hi hp hm0 => ?_)
      · by_cases e1 : i = k
        · subst e1
          rw [qsw_a, qsw_o Q (by omega) (by omega)]
          exact h2 m (by omega) hmn (by omega) i0
        · by_cases e2 : i = m
          · subst e2
            rw [qsw_b, show (i - 1) / 2 = k by omega, qsw_a]
            exact hk2
          · rw [qsw_o Q e1 e2]
            by_cases e3 : (i - 1) / 2 = k
            · rw [e3, qsw_a]; exact hm i (by omega) hi
            · rw [qsw_o Q e3 hp]; exact h1 i i0 hi e3
      · have e0 : (m - 1) / 2 = k := by omega
        rw [e0, qsw_a, qsw_o Q (i := i) (by omega) (by omega)]
        have := h1 i i0 hi (by omega)
        rw [hp] at this
        exact this
theorem hp_top {r : Nat → Int32} {Q : Nat → Nat} {n : Nat} (h : HP r Q n) : ∀ i, i < n → r (Q 0) ≤ r (Q i) := by
  intro i
  induction i using Nat.strongRecOn with
  | _ i ih =>
    intro hi
    rcases Nat.eq_zero_or_pos i with e | e
    · subst e; exact Int32.le_refl _
    · exact Int32.le_trans (ih ((i - 1) / 2) (by omega) (by omega)) (h i e hi)
theorem HP_put {C : CS} {k : Nat} (h : HP (q_rank C) (kQ C) (kN C 4)) : HP (q_rank C) (kQ (c_put C k)) (kN (c_put C k) 4) := by
  have e1 : kN (c_put C k) 4 = kN C 4 + 1 := cQ_N _ _ _
  rw [e1]
  show HP (q_rank C) (q_up (q_rank C) (kN C 4 + 1) (kN C 4) (va_up (kQ C) (kN C 4) k)) (kN C 4 + 1)
  refine q_up_hp _ _ _ _ _ (by omega) (by omega) (fun i i0 hi hne => ?_) (fun i i0 hi hp hv => ?_)
  · rw [va_up_ne _ _ hne, va_up_ne _ _ (by omega)]
    exact h i i0 (by omega)
  · omega
theorem HP_tk {C : CS} (h : HP (q_rank C) (kQ C) (kN C 4)) (h0 : 0 < kN C 4) : HP (q_rank C) (kQ (c_tk C)) (kN (c_tk C) 4) := by
  unfold c_tk
  split
  · rw [cQ_N]; intro i _ hi; omega
  · rw [cQ_N]
    show HP (q_rank C) (q_dn (q_rank C) (kN C 4 - 1) (kN C 4 - 1) 0 (va_up (kQ C) 0 (kQ C (kN C 4 - 1)))) (kN C 4 - 1)
    refine q_dn_hp _ _ _ _ _ (by omega) (by omega) (fun i i0 hi hne => ?_) (fun i i0 hi hp hv => by omega)
    rw [va_up_ne _ _ hne, va_up_ne _ _ (by omega)]
    exact h i i0 (by omega)
