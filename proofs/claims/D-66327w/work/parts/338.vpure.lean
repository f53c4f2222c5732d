/-! LEVELS: what find, raise, levelled compute -/
def c_fd (C : CS) (pa ch : Nat) : Nat → Int32
  | 0 => -1
  | n + 1 => if kP C n = pa ∧ kC C n = ch then nI n else c_fd C pa ch n
theorem c_fd_or (C : CS) (pa ch n : Nat) : c_fd C pa ch n = -1 ∨ ∃ i, i < n ∧ c_fd C pa ch n = nI i := by
  induction n with
  | zero => exact Or.inl rfl
  | succ n ih =>
    unfold c_fd
    split
    · exact Or.inr ⟨n, by omega, rfl⟩
    · rcases ih with h | ⟨i, hi, h⟩
      · exact Or.inl h
      · exact Or.inr ⟨i, by omega, h⟩
abbrev VF : Type := Nat → Int32
def v_ra (V : VF) (p c : Nat) : VF := if V c ≤ V p then va_up V c (V p + 1) else V
def v_ls (P K : Nat → Nat) (X : VF × Bool) : Nat → VF × Bool
  | 0 => X
  | n + 1 => (v_ra (v_ls P K X n).1 (P n) (K n), (v_ls P K X n).2 || decide ((v_ls P K X n).1 (K n) ≤ (v_ls P K X n).1 (P n)))
def v_x0 (ex : Option (Nat × Nat)) (V : VF) : VF × Bool := match ex with
  | none => (V, false)
  | some (p, c) => (v_ra V p c, decide (V c ≤ V p))
def v_deep (V : VF) : Nat → Bool
  | 0 => false
  | n + 1 => v_deep V n || decide (4 < V n)
def v_rd (P K : Nat → Nat) (n : Nat) (ex : Option (Nat × Nat)) (V : VF) : VF × Bool := v_ls P K (v_x0 ex V) n
def v_lev (P K : Nat → Nat) (n : Nat) (ex : Option (Nat × Nat)) : Nat → Bool → VF → VF × Bool
  | _, false, V => (V, true)
  | 0, true, V => (V, true)
  | f + 1, true, V => if v_deep (v_rd P K n ex V).1 12 = true then ((v_rd P K n ex V).1, false) else v_lev P K n ex f (v_rd P K n ex V).2 (v_rd P K n ex V).1
/-- the first n levels are none -/
def v_z (V : VF) (n : Nat) : VF := fun k => if k < n then 0 else V k
theorem v_z_0 (V : VF) : v_z V 0 = V := by funext k; unfold v_z; rw [if_neg (by omega)]
theorem v_z_s (V : VF) (n : Nat) : va_up (v_z V n) n 0 = v_z V (n + 1) := by
  funext k
  by_cases e : k = n
  · subst e; rw [va_up_self]; unfold v_z; rw [if_pos (by omega)]
  · rw [va_up_ne _ _ e]; unfold v_z
    by_cases h : k < n
    · rw [if_pos h, if_pos (by omega)]
    · rw [if_neg h, if_neg (by omega)]
def c_lev (C : CS) (ex : Option (Nat × Nat)) : VF × Bool := v_lev (kP C) (kC C) (kN C 0) ex 50 true (v_z (kV C) 12)
theorem bZ_or (a b : Bool) : bZ a ||| bZ b = bZ (a || b) := by cases a <;> cases b <;> decide
/-- levels within b -/
def vB (V : VF) (b : Nat) : Prop := ∀ k, k < 12 → ∃ a, a ≤ b ∧ V k = nI a
theorem vB.mono {V : VF} {b b' : Nat} (h : vB V b) (hb : b ≤ b') : vB V b' := fun k hk => by
  obtain ⟨a, h1, h2⟩ := h k hk
  exact ⟨a, by omega, h2⟩
theorem v_ra_B {V : VF} {b p c : Nat} (h : vB V b) (hp : p < 12) : vB (v_ra V p c) (b + 1) := by
  unfold v_ra
  split
  · intro k hk
    by_cases e : k = c
    · subst e
      obtain ⟨a, h1, h2⟩ := h p hp
      exact ⟨a + 1, by omega, by rw [va_up_self, h2]; exact nI_1 a⟩
    · rw [va_up_ne _ _ e]; exact h.mono (by omega) k hk
  · exact h.mono (by omega)
/-- levels' sum -/
def vs (V : VF) : Nat → Nat
  | 0 => 0
  | n + 1 => vs V n + (V n).toNatClampNeg
theorem vs_up (V : VF) (c : Nat) (x : Int32) (n : Nat) : vs (va_up V c x) n + (if c < n then (V c).toNatClampNeg else 0) = vs V n + (if c < n then x.toNatClampNeg else 0) := by
  induction n with
  | zero => simp [vs]
  | succ n ih =>
    unfold vs
    by_cases e : n = c
    · subst e
      rw [va_up_self, if_pos (by omega), if_pos (by omega)]
      rw [if_neg (by omega), if_neg (by omega)] at ih
      omega
    · rw [va_up_ne _ _ e]
      by_cases h : c < n
      · rw [if_pos (by omega), if_pos (by omega)]
        rw [if_pos h, if_pos h] at ih
        omega
      · rw [if_neg (by omega), if_neg (by omega)]
        rw [if_neg h, if_neg h] at ih
        omega
theorem vs_le {V : VF} {b : Nat} (h : vB V b) (hb : b < 2 ^ 31) (n : Nat) (hn : n ≤ 12) : vs V n ≤ b * n := by
  induction n with
  | zero => simp [vs]
  | succ n ih =>
    unfold vs
    obtain ⟨a, h1, h2⟩ := h n (by omega)
    rw [h2, nI_clamp (by omega), Nat.mul_succ]
    have := ih (by omega)
    omega
theorem v_ra_s {V : VF} {b p c : Nat} (h : vB V b) (hb : b < 1000) (hp : p < 12) (hc : c < 12) : vs V 12 + (if V c ≤ V p then 1 else 0) ≤ vs (v_ra V p c) 12 := by
  unfold v_ra
  split
  · rename_i h9
    have e := vs_up V c (V p + 1) 12
    rw [if_pos hc, if_pos hc] at e
    obtain ⟨a, h1, h2⟩ := h p hp
    obtain ⟨a', h1', h2'⟩ := h c hc
    rw [h2, h2'] at h9
    have h8 := n_ge h9 (by omega) (by omega)
    rw [h2, h2', nI_1 a, nI_clamp (by omega), nI_clamp (by omega)] at e
    rw [h2, nI_1 a]
    omega
  · omega
theorem v_ls_B {P K : Nat → Nat} {X : VF × Bool} {b n : Nat} (hX : vB X.1 b) (hP : ∀ i, i < n → P i < 12) : vB (v_ls P K X n).1 (b + n) := by
  induction n with
  | zero => exact hX
  | succ n ih => exact v_ra_B (ih (fun i hi => hP i (by omega))) (hP n (by omega))
theorem v_ls_s {P K : Nat → Nat} {X : VF × Bool} {b n : Nat} (hX : vB X.1 b) (hb : b + n < 1000) (hP : ∀ i, i < n → P i < 12 ∧ K i < 12) : vs X.1 12 + (if (v_ls P K X n).2 = true then (if X.2 = true then 0 else 1) else 0) ≤ vs (v_ls P K X n).1 12 := by
  induction n with
  | zero => simp only [v_ls]; by_cases h : X.2 = true <;> simp [h]
  | succ n ih =>
    have i1 := ih (by omega) (fun i hi => hP i (by omega))
    have hB := v_ls_B (K := K) hX (fun i hi => (hP i (by omega)).1 : ∀ i, i < n → P i < 12)
    have i2 := v_ra_s hB (by omega) (hP n (by omega)).1 (hP n (by omega)).2
    simp only [v_ls]
    by_cases h1 : (v_ls P K X n).2 = true
    · rw [if_pos h1] at i1
      simp only [h1, Bool.true_or, if_true]
      split at i1 <;> split at i2 <;> simp_all <;> omega
    · by_cases h2 : (v_ls P K X n).1 (K n) ≤ (v_ls P K X n).1 (P n)
      · rw [if_pos h2] at i2
        rw [if_neg h1] at i1
        by_cases h3 : X.2 = true <;> simp [h2, h3] <;> omega
      · rw [if_neg h2] at i2
        rw [if_neg h1] at i1
        have h1' : (v_ls P K X n).2 = false := by simpa using h1
        simp [h1', h2]
        omega
theorem v_rd_B {P K : Nat → Nat} {n : Nat} {ex : Option (Nat × Nat)} {V : VF} {b : Nat} (h : vB V b) (hx : ∀ p c, ex = some (p, c) → p < 12 ∧ c < 12) (hP : ∀ i, i < n → P i < 12) : vB (v_rd P K n ex V).1 (b + 1 + n) := by
  refine v_ls_B ?_ hP
  cases ex with
  | none => exact h.mono (by omega)
  | some z => exact v_ra_B h (hx z.1 z.2 rfl).1
theorem v_rd_s {P K : Nat → Nat} {n : Nat} {ex : Option (Nat × Nat)} {V : VF} {b : Nat} (h : vB V b) (hb : b + 1 + n < 1000) (hx : ∀ p c, ex = some (p, c) → p < 12 ∧ c < 12) (hP : ∀ i, i < n → P i < 12 ∧ K i < 12) : vs V 12 + (if (v_rd P K n ex V).2 = true then 1 else 0) ≤ vs (v_rd P K n ex V).1 12 := by
  cases ex with
  | none =>
    have := v_ls_s (P := P) (K := K) (X := (V, false)) (b := b) (n := n) h (by omega) hP
    simp only [Bool.false_eq_true, if_false] at this
    exact this
  | some z =>
    have h1 : vB (v_x0 (some z) V).1 (b + 1) := v_ra_B h (hx z.1 z.2 rfl).1
    have i1 := v_ls_s (P := P) (K := K) (X := v_x0 (some z) V) (b := b + 1) (n := n) h1 (by omega) hP
    have i2 := v_ra_s h (by omega) (hx z.1 z.2 rfl).1 (hx z.1 z.2 rfl).2
    unfold v_rd
    have e1 : (v_x0 (some z) V).1 = v_ra V z.1 z.2 := rfl
    have e2 : (v_x0 (some z) V).2 = decide (V z.2 ≤ V z.1) := rfl
    rw [e1, e2] at i1
    by_cases h2 : V z.2 ≤ V z.1
    · rw [if_pos h2] at i2
      split <;> omega
    · rw [if_neg h2] at i2
      simp only [decide_eq_false h2, Bool.false_eq_true, if_false] at i1
      omega
theorem v_deep_t {V : VF} {k n : Nat} (hk : k < n) (h : 4 < V k) : v_deep V n = true := by
  induction n with
  | zero => omega
  | succ n ih =>
    unfold v_deep
    by_cases e : k = n
    · subst e; rw [decide_eq_true h, Bool.or_true]
    · rw [ih (by omega), Bool.true_or]
theorem v_deep_f {V : VF} {n k : Nat} (h : v_deep V n = false) (hk : k < n) : V k ≤ 4 := by
  refine Classical.byContradiction (fun q => ?_)
  rw [v_deep_t hk (Int32.not_le.mp q)] at h
  cases h
theorem v_deep_B {V : VF} {b : Nat} (h : vB V b) (hb : b < 2 ^ 31) (hd : v_deep V 12 = false) : vB V 4 := by
  intro k hk
  obtain ⟨a, h1, h2⟩ := h k hk
  have h3 := v_deep_f hd hk
  rw [h2] at h3
  exact ⟨a, n_ge (b := a) (a := 4) h3 (by omega) (by omega), h2⟩
theorem v_z_B (V : VF) : vB (v_z V 12) 4 := fun k hk => ⟨0, by omega, by unfold v_z; rw [if_pos hk]; rfl⟩
/-- the items' levels by what was tried -/
def c_kl (C : CS) (n : Nat) : CS := rI C (fun j k => if j = 11 ∧ k < n then kV C k else kI C j k)
theorem c_kl_0 (C : CS) : c_kl C 0 = C := by
  unfold c_kl rI
  refine Prod.ext ?_ rfl
  funext j k
  show (if j = 11 ∧ k < 0 then _ else _) = _
  rw [if_neg (by omega)]
theorem c_kl_s (C : CS) (n : Nat) : rI (c_kl C n) (up2 (kI (c_kl C n)) 11 n (kV C n)) = c_kl C (n + 1) := by
  unfold c_kl rI
  refine Prod.ext ?_ rfl
  funext j k
  show (if j = 11 ∧ k = n then kV C n else if j = 11 ∧ k < n then kV C k else kI C j k) = if j = 11 ∧ k < n + 1 then kV C k else kI C j k
  by_cases e : j = 11
  · subst e
    by_cases e2 : k = n
    · subst e2; simp
    · by_cases e3 : k < n
      · rw [if_neg (by omega), if_pos ⟨rfl, e3⟩, if_pos ⟨rfl, by omega⟩]
      · rw [if_neg (by omega), if_neg (by omega), if_neg (by omega)]
  · rw [if_neg (by omega), if_neg (by omega), if_neg (by omega)]
