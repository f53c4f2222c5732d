/-! PLAIN LAW: the class's levels -/
/-- a line of a list, or the one that is tried -/
def lE (P K : Nat → Nat) (n : Nat) (ex : Option (Nat × Nat)) (p c : Nat) : Prop := (∃ u, u < n ∧ P u = p ∧ K u = c) ∨ ex = some (p, c)
/-- levels to which ways lead -/
def VU (E : Nat → Nat → Prop) (V : VF) (b : Nat) : Prop := ∀ c, c < 12 → ∃ a, a ≤ b ∧ V c = nI a ∧ Up E a c
theorem VU.vB {E : Nat → Nat → Prop} {V : VF} {b : Nat} (h : VU E V b) : vB V b := fun c hc => by
  obtain ⟨a, h1, h2, -⟩ := h c hc
  exact ⟨a, h1, h2⟩
theorem VU.mono {E : Nat → Nat → Prop} {V : VF} {b b' : Nat} (h : VU E V b) (hb : b ≤ b') : VU E V b' := fun c hc => by
  obtain ⟨a, h1, h2⟩ := h c hc
  exact ⟨a, by omega, h2⟩
theorem VU_ra {E : Nat → Nat → Prop} {V : VF} {b p c : Nat} (h : VU E V b) (hp : p < 12) (he : E p c) : VU E (v_ra V p c) (b + 1) := by
  unfold v_ra
  split
  · intro k hk
    by_cases e : k = c
    · subst e
      obtain ⟨a, h1, h2, h3⟩ := h p hp
      exact ⟨a + 1, by omega, by rw [va_up_self, h2]; exact nI_1 a, p, he, h3⟩
    · rw [va_up_ne _ _ e]; exact h.mono (by omega) k hk
  · exact h.mono (by omega)
theorem VU_ls {E : Nat → Nat → Prop} {P K : Nat → Nat} {X : VF × Bool} {b n : Nat} (hX : VU E X.1 b) (hP : ∀ i, i < n → P i < 12 ∧ E (P i) (K i)) : VU E (v_ls P K X n).1 (b + n) := by
  induction n with
  | zero => exact hX
  | succ n ih => exact VU_ra (ih (fun i hi => hP i (by omega))) (hP n (by omega)).1 (hP n (by omega)).2
theorem ls_fix {P K : Nat → Nat} {X : VF × Bool} {n : Nat} (h : (v_ls P K X n).2 = false) : X.2 = false ∧ (v_ls P K X n).1 = X.1 ∧ ∀ u, u < n → ¬ X.1 (K u) ≤ X.1 (P u) := by
  induction n with
  | zero => exact ⟨h, rfl, fun u hu => by omega⟩
  | succ n ih =>
    have h' : ((v_ls P K X n).2 || decide ((v_ls P K X n).1 (K n) ≤ (v_ls P K X n).1 (P n))) = false := h
    rw [Bool.or_eq_false_iff, decide_eq_false_iff_not] at h'
    obtain ⟨i1, i2, i3⟩ := ih h'.1
    refine ⟨i1, ?_, fun u hu => ?_⟩
    · show v_ra (v_ls P K X n).1 (P n) (K n) = X.1
      unfold v_ra
      rw [if_neg h'.2, i2]
    · by_cases e : u = n
      · subst e; rw [i2] at h'; exact h'.2
      · exact i3 u (by omega)
/-- no line raises -/
def Fx (E : Nat → Nat → Prop) (V : VF) : Prop := ∀ p c, E p c → ¬ V c ≤ V p
theorem rd_fix {P K : Nat → Nat} {n : Nat} {ex : Option (Nat × Nat)} {V : VF} (h : (v_rd P K n ex V).2 = false) : (v_rd P K n ex V).1 = V ∧ Fx (lE P K n ex) V := by
  unfold v_rd at h ⊢
  obtain ⟨h1, h2, h3⟩ := ls_fix h
  cases ex with
  | none =>
    refine ⟨h2, ?_⟩
    rintro p c (⟨u, hu, e1, e2⟩ | q)
    · subst e1; subst e2; exact h3 u hu
    · cases q
  | some z =>
    obtain ⟨p0, c0⟩ := z
    have h1' : decide (V c0 ≤ V p0) = false := h1
    rw [decide_eq_false_iff_not] at h1'
    have e : (v_x0 (some (p0, c0)) V).1 = V := by
      show v_ra V p0 c0 = V
      unfold v_ra; rw [if_neg h1']
    rw [e] at h2 h3
    refine ⟨h2, ?_⟩
    rintro p c (⟨u, hu, e1, e2⟩ | q)
    · subst e1; subst e2; exact h3 u hu
    · cases q; exact h1'
theorem deep_ex {V : VF} {n : Nat} (h : v_deep V n = true) : ∃ k, k < n ∧ 4 < V k := by
  induction n with
  | zero => cases h
  | succ n ih =>
    unfold v_deep at h
    rw [Bool.or_eq_true, decide_eq_true_eq] at h
    rcases h with h | h
    · obtain ⟨k, hk, h2⟩ := ih h; exact ⟨k, by omega, h2⟩
    · exact ⟨n, by omega, h⟩
theorem VU_4 {E : Nat → Nat → Prop} {V : VF} {b : Nat} (h : VU E V b) (hb : b < 2 ^ 31) (hd : v_deep V 12 = false) : VU E V 4 := by
  intro k hk
  obtain ⟨a, h1, h2, h4⟩ := h k hk
  have h3 := v_deep_f hd hk
  rw [h2] at h3
  exact ⟨a, n_ge (b := a) (a := 4) h3 (by omega) (by omega), h2, h4⟩
theorem VU_rd {P K : Nat → Nat} {n : Nat} {ex : Option (Nat × Nat)} {V : VF} {b : Nat} (h : VU (lE P K n ex) V b) (hx : ∀ p c, ex = some (p, c) → p < 12 ∧ c < 12) (hP : ∀ i, i < n → P i < 12) : VU (lE P K n ex) (v_rd P K n ex V).1 (b + 1 + n) := by
  refine VU_ls ?_ (fun i hi => ⟨hP i hi, Or.inl ⟨i, hi, rfl, rfl⟩⟩)
  cases ex with
  | none => exact h.mono (by omega)
  | some z => exact VU_ra h (hx z.1 z.2 rfl).1 (Or.inr rfl)
theorem lev_sp {P K : Nat → Nat} {n : Nat} {ex : Option (Nat × Nat)} (hn : n ≤ 24) (hx : ∀ p c, ex = some (p, c) → p < 12 ∧ c < 12) (hP : ∀ i, i < n → P i < 12 ∧ K i < 12) : ∀ f more V, VU (lE P K n ex) V 4 → (more = false → Fx (lE P K n ex) V) → (more = true → 50 ≤ vs V 12 + f) →
    ((v_lev P K n ex f more V).2 = true → VU (lE P K n ex) (v_lev P K n ex f more V).1 4 ∧ Fx (lE P K n ex) (v_lev P K n ex f more V).1) ∧ ((v_lev P K n ex f more V).2 = false → ∃ c, c < 12 ∧ Up (lE P K n ex) 5 c) := by
  intro f
  induction f with
  | zero =>
    intro more V hV h0 h1
    cases more with
    | false => exact ⟨fun _ => ⟨hV, h0 rfl⟩, fun h => by cases h⟩
    | true =>
      have := h1 rfl
      have h2 := vs_le hV.vB (by omega) 12 (by omega)
      omega
  | succ f ih =>
    intro more V hV h0 h1
    cases more with
    | false => exact ⟨fun _ => ⟨hV, h0 rfl⟩, fun h => by cases h⟩
    | true =>
      have hU := VU_rd hV hx (fun i hi => (hP i hi).1)
      have hs := v_rd_s (P := P) (K := K) (n := n) (ex := ex) hV.vB (by omega) hx hP
      have h50 := h1 rfl
      unfold v_lev
      by_cases hd : v_deep (v_rd P K n ex V).1 12 = true
      · rw [if_pos hd]
        refine ⟨fun h => (by cases h), fun _ => ?_⟩
        obtain ⟨k, hk, h4⟩ := deep_ex hd
        obtain ⟨a, ha, e, hu⟩ := hU k hk
        rw [e] at h4
        have : 4 < a := (nI_ltI (a := 4) (b := a) (by omega) (by omega)).mp h4
        exact ⟨k, hk, up_le (j := 5) (a - 5) (by rw [show 5 + (a - 5) = a by omega]; exact hu)⟩
      · rw [if_neg hd]
        have hd' : v_deep (v_rd P K n ex V).1 12 = false := by simpa using hd
        have h4 := VU_4 hU (by omega) hd'
        refine ih _ _ h4 (fun q => ?_) (fun q => ?_)
        · obtain ⟨e, hF⟩ := rd_fix q
          rw [e]; exact hF
        · rw [if_pos q] at hs
          omega
theorem fx_up {E : Nat → Nat → Prop} {V : VF} {b : Nat} (hb : b < 2 ^ 31) (hE : ∀ p c, E p c → p < 12 ∧ c < 12) (h : VU E V b) (hF : Fx E V) : ∀ j c, c < 12 → Up E j c → ∃ a, a ≤ b ∧ V c = nI a ∧ j ≤ a := by
  intro j
  induction j with
  | zero => intro c hc _; obtain ⟨a, h1, h2, _⟩ := h c hc; exact ⟨a, h1, h2, by omega⟩
  | succ j ih =>
    rintro c hc ⟨p, h1, h2⟩
    obtain ⟨ap, q1, q2, q3⟩ := ih p (hE p c h1).1 h2
    obtain ⟨a, r1, r2, _⟩ := h c hc
    have h3 := hF p c h1
    rw [q2, r2] at h3
    refine ⟨a, r1, r2, ?_⟩
    have : ¬ a ≤ ap := fun q => h3 (nI_le q (by omega))
    omega
/-- levelled: sound lines get their levels -/
theorem clev_sp (C : CS) (ex : Option (Nat × Nat)) (hn : kN C 0 ≤ 24) (hx : ∀ p c, ex = some (p, c) → p < 12 ∧ c < 12) (hP : ∀ i, i < kN C 0 → kP C i < 12 ∧ kC C i < 12) :
    ((c_lev C ex).2 = true ↔ ∀ c, c < 12 → ¬ Up (lE (kP C) (kC C) (kN C 0) ex) 5 c) ∧ ((c_lev C ex).2 = true → ∀ c, c < 12 → ∃ a, a ≤ 4 ∧ (c_lev C ex).1 c = nI a ∧ Up (lE (kP C) (kC C) (kN C 0) ex) a c ∧ ¬ Up (lE (kP C) (kC C) (kN C 0) ex) (a + 1) c) := by
  have hE : ∀ p c, lE (kP C) (kC C) (kN C 0) ex p c → p < 12 ∧ c < 12 := by
    rintro p c (⟨u, hu, e1, e2⟩ | q)
    · subst e1; subst e2; exact hP u hu
    · exact hx p c q
  have hz : VU (lE (kP C) (kC C) (kN C 0) ex) (v_z (kV C) 12) 4 := fun c hc => ⟨0, by omega, by unfold v_z; rw [if_pos hc]; rfl, True.intro⟩
  have h12 := lev_sp hn hx hP 50 true (v_z (kV C) 12) hz (fun q => by cases q) (fun _ => by omega)
  have h1 := h12.1
  have h2 := h12.2
  clear h12
  have h3 : (c_lev C ex).2 = true → ∀ c, c < 12 → ∃ a, a ≤ 4 ∧ (c_lev C ex).1 c = nI a ∧ Up (lE (kP C) (kC C) (kN C 0) ex) a c ∧ ¬ Up (lE (kP C) (kC C) (kN C 0) ex) (a + 1) c := by
    intro h c hc
    obtain ⟨hV, hF⟩ := h1 h
    obtain ⟨a, q1, q2, q3⟩ := hV c hc
    refine ⟨a, q1, q2, q3, fun q => ?_⟩
    obtain ⟨a', r1, r2, r3⟩ := fx_up (by omega) hE hV hF _ c hc q
    rw [q2] at r2
    have := (nI_eq (by omega) (by omega)).mp r2
    omega
  refine ⟨⟨fun h c hc q => ?_, fun h => ?_⟩, h3⟩
  · obtain ⟨a, q1, _, _, q4⟩ := h3 h c hc
    exact q4 (up_le (j := a + 1) (5 - (a + 1)) (by rw [show a + 1 + (5 - (a + 1)) = 5 by omega]; exact q))
  · cases e : (c_lev C ex).2 with
    | true => rfl
    | false =>
      obtain ⟨c, hc, q⟩ := h2 e
      exact absurd q (h c hc)
