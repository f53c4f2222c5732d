/-! PLAIN LAW: replanning -/
/-- a field's bounds -/
def fok (j : Nat) (v : Int32) : Prop := (j = 1 → ∃ a, a ≤ 3 ∧ v = nI a) ∧ (j = 2 → ∃ a, 1 ≤ a ∧ a ≤ 1000 ∧ v = nI a) ∧ (j = 3 → ∃ a, a ≤ 4 ∧ v = nI a) ∧ (j = 4 → ∃ a, a ≤ 1000 ∧ v = nI a) ∧ (j = 5 → ∃ a, a ≤ 200 ∧ v = nI a) ∧ (j = 8 → ∃ a, a ≤ 10000 ∧ v = nI a)
def FB (C : CS) : Prop := ∀ k, k < 12 → ∀ j, fok j (kI C j k)
/-- what was told, alike on both sides -/
def St (C : CS) (M : MS) : Prop :=
  (Fi C M) ∧
  (Bk C M 1) ∧
  (Bk C M 2) ∧
  (Bk C M 3) ∧
  (Ln C M) ∧
  (FB C) ∧
  (∀ j, 1 ≤ j → j ≤ 3 → mI M 13 (j - 1) = nI (kN C j) ∧ kN C j ≤ 24)
theorem St.fi {C : CS} {M : MS} (h_ : St C M) : Fi C M := h_.1
theorem St.b1 {C : CS} {M : MS} (h_ : St C M) : Bk C M 1 := h_.2.1
theorem St.b2 {C : CS} {M : MS} (h_ : St C M) : Bk C M 2 := h_.2.2.1
theorem St.b3 {C : CS} {M : MS} (h_ : St C M) : Bk C M 3 := h_.2.2.2.1
theorem St.ln {C : CS} {M : MS} (h_ : St C M) : Ln C M := h_.2.2.2.2.1
theorem St.fb {C : CS} {M : MS} (h_ : St C M) : FB C := h_.2.2.2.2.2.1
theorem St.bc {C : CS} {M : MS} (h_ : St C M) : ∀ j, 1 ≤ j → j ≤ 3 → mI M 13 (j - 1) = nI (kN C j) ∧ kN C j ≤ 24 := h_.2.2.2.2.2.2
theorem St.sc {C : CS} {M : MS} (h : St C M) : ∀ k, k < 12 → ∃ s, s ≤ 200 ∧ kI C 5 k = nI s := fun k hk => (h.fb k hk 5).2.2.2.2.1 rfl
theorem St.cc {C : CS} {M : MS} (h : St C M) : CC C := by
  refine ⟨fun k hk => ?_, fun k hk => ?_, fun k hk => ?_, fun j j1 j3 i hi => ?_⟩
  · obtain ⟨a, h1, h2⟩ := (h.fb k hk 3).2.2.1 rfl
    unfold cLd
    rw [h2, nI_clamp (by omega)]
    exact ⟨rfl, h1⟩
  · obtain ⟨a, h0, h1, h2⟩ := (h.fb k hk 2).2.1 rfl
    unfold cSz
    rw [h2, nI_clamp (by omega)]
    exact ⟨rfl, h0, h1⟩
  · obtain ⟨a, h1, h2⟩ := (h.fb k hk 1).1 rfl
    unfold cRu
    rw [h2, nI_clamp (by omega)]
    exact ⟨rfl, h1⟩
  · rcases (show j = 1 ∨ j = 2 ∨ j = 3 by omega) with e | e | e <;> subst e
    · exact ⟨(h.b1.2.2 i hi).1, (h.b1.2.2 i hi).2.1⟩
    · exact ⟨(h.b2.2.2 i hi).1, (h.b2.2.2 i hi).2.1⟩
    · exact ⟨(h.b3.2.2 i hi).1, (h.b3.2.2 i hi).2.1⟩
theorem St.bk {C : CS} {M : MS} (h : St C M) {j : Nat} (h1 : 1 ≤ j) (h3 : j ≤ 3) : Bk C M j := by
  rcases (show j = 1 ∨ j = 2 ∨ j = 3 by omega) with e | e | e <;> subst e
  · exact h.b1
  · exact h.b2
  · exact h.b3
theorem St.mc {C : CS} {M : MS} (h : St C M) : MC M := by
  refine ⟨fun K hK => ?_, fun k hk => ?_, fun k hk => ?_, fun K hK i hi => ?_⟩
  · obtain ⟨h1, h2⟩ := h.bc (K + 1) (by omega) (by omega)
    rw [show K + 1 - 1 = K by omega] at h1
    unfold mCt
    rw [h1, nI_clamp (by omega)]
    exact ⟨rfl, h2⟩
  · obtain ⟨a, h1, h2⟩ := (h.fb k hk 3).2.2.1 rfl
    unfold mLd
    rw [← h.fi k hk 2 (by decide), h2, nI_clamp (by omega)]
    exact ⟨rfl, h1⟩
  · obtain ⟨a, h0, h1, h2⟩ := (h.fb k hk 2).2.1 rfl
    unfold mSz
    rw [← h.fi k hk 1 (by decide), h2, nI_clamp (by omega)]
    exact ⟨rfl, h0, h1⟩
  · have hb := h.bk (j := K + 1) (by omega) (by omega)
    have e : K + 1 - 1 = K := by omega
    unfold Bk at hb
    rw [e] at hb
    obtain ⟨c1, c2, c3⟩ := hb
    rw [← c1] at hi
    rw [← (c2 i hi).1, ← (c2 i hi).2.1]
    exact ⟨(c3 i hi).1, (c3 i hi).2.1⟩
theorem Bk.of {C C' : CS} {M M' : MS} {j : Nat} (h : Bk C M j) (hj : j < 4) (hc : cS4 C C') (hm : ∀ i, i ≠ 17 → mI M' i = mI M i) : Bk C' M' j := by
  unfold Bk mCt at h ⊢
  rw [hc.2.1 j hj, hc.2.2.2.2.2, hm 13 (by decide), hm 14 (by decide), hm 15 (by decide), hm 16 (by decide)]
  exact h
theorem St.of {C C' : CS} {M M' : MS} (h : St C M) (hc : cS4 C C') (hm : ∀ i, i ≠ 17 → mI M' i = mI M i) (hs : mS M' 14 = mS M 14) : St C' M' := by
  refine ⟨fun k hk j hj => ?_, h.b1.of (by decide) hc hm, h.b2.of (by decide) hc hm, h.b3.of (by decide) hc hm, ?_, ?_, ?_⟩
  · rw [hc.1 (j + 1) (by omega) (by omega), hm j (by omega)]; exact h.fi k hk j hj
  · have := h.ln
    unfold Ln at this ⊢
    rw [hs, hc.2.1 0 (by decide), hc.2.2.1, hc.2.2.2.1, hc.2.2.2.2.1, hm 10 (by decide), hm 11 (by decide), hm 12 (by decide)]
    exact this
  · intro k hk j
    by_cases e : 1 ≤ j ∧ j ≤ 11
    · rw [hc.1 j e.1 e.2]; exact h.fb k hk j
    · exact ⟨fun q => by omega, fun q => by omega, fun q => by omega, fun q => by omega, fun q => by omega, fun q => by omega⟩
  · intro j j1 j3
    rw [hm 13 (by decide), hc.2.1 j (by omega)]
    exact h.bc j j1 j3
/-- levels: by the ways that lead up -/
def Lk (C : CS) (k : Nat) : Nat := (kI C 11 k).toNatClampNeg
def Lv (C : CS) (M : MS) : Prop := ∀ k, k < 12 → kI C 11 k = nI (Lk C k) ∧ Lk C k ≤ 4 ∧ Up (mE M) (Lk C k) k ∧ ¬ Up (mE M) (Lk C k + 1) k
theorem Lv.lvl {C : CS} {M : MS} (h : Lv C M) {k : Nat} (hk : k < 12) : m_lvl M k = nI (Lk C k) := by
  obtain ⟨_, h2, h3, h4⟩ := h k hk
  exact lvl_eq hk (by omega) h3 h4
theorem Lv.lt {C : CS} {M : MS} (h : Lv C M) {p c : Nat} (hp : p < 12) (hc : c < 12) (he : mE M p c) : Lk C p < Lk C c := by
  obtain ⟨_, _, h3, _⟩ := h p hp
  obtain ⟨_, _, _, h4⟩ := h c hc
  refine Nat.lt_of_not_le (fun q => h4 ?_)
  exact up_le (j := Lk C c + 1) (Lk C p - Lk C c) (by rw [show Lk C c + 1 + (Lk C p - Lk C c) = Lk C p + 1 by omega]; exact ⟨p, he, h3⟩)
theorem St.mE {C : CS} {M : MS} (h : St C M) {u : Nat} (hu : u < kN C 0) : mE M (kP C u) (kC C u) := by
  obtain ⟨h1, h2, _⟩ := h.ln.2.2.1 u hu
  exact ⟨h1, h2, (h.ln.pos h1 h2).mpr ⟨u, hu, rfl, rfl⟩⟩
/-- plans of those not told of are by their fields, orders and gross needs -/
def Jt (C : CS) : Prop := (∀ k, k < 12 → kI C 12 k = 0 → ∀ w, w < 12 → kA C 3 k w = PLc C k w ∧ kA C 4 k w = c_ba C k (w + 1) + gotC C k (w + 1)) ∧ ∀ k, k < 12 → kA C 2 k 0 = 0
/-- gross needs of those that don't wait, with no parent told of, are what is asked -/
def J2 (C : CS) : Prop := ∀ k, k < 12 → kI C 13 k = 0 → kI C 12 k = 0 → (∀ u, u < kN C 0 → kC C u = k → kI C 12 (kP C u) = 0) → ∀ w, w < 12 → kA C 0 k w = c_g C k w
theorem ba_of {C C' : CS} {k n : Nat} (hc : cS4 C C') (h : ∀ w, w < n → kA C' 0 k w = kA C 0 k w) : c_ba C' k n = c_ba C k n := by
  induction n with
  | zero => rw [c_ba, c_ba, hc.1 8 (by decide) (by decide)]
  | succ n ih => rw [c_ba, c_ba, ih (fun w hw => h w (by omega)), h n (by omega), c_sum_of hc.2.2.2.2.2, hc.2.1 2 (by decide)]
theorem la_of {C C' : CS} {k : Nat} (hc : cS4 C C') (h : ∀ w, w < 12 → kA C' 0 k w = kA C 0 k w) {v : Nat} (hv : v < 12) : c_la C' k v = c_la C k v := by
  unfold c_la
  rw [hc.1 4 (by decide) (by decide), ba_of hc (fun w hw => h w (by omega))]
theorem PL_of {C C' : CS} {k : Nat} (hc : cS4 C C') (h : ∀ w, w < 12 → kA C' 0 k w = kA C 0 k w) {w : Nat} (hw : w < 12) : PLc C' k w = PLc C k w :=
  PLc_of (fun j h1 h2 => by rw [hc.1 j h1 (by omega)]) (fun v hv => la_of hc h hv) hw
theorem got_of {C C' : CS} {k : Nat} (hc : cS4 C C') (h : ∀ w, w < 12 → kA C' 0 k w = kA C 0 k w) {n : Nat} (hn : n ≤ 12) : gotC C' k n = gotC C k n := by
  rw [← sg_pl, ← sg_pl]
  exact sg_c (fun w hw => PL_of hc h (by omega))
theorem g_of {C C' : CS} {k : Nat} (hc : cS4 C C') (h : ∀ u, u < kN C 0 → kC C u = k → ∀ w, w < 12 → kA C' 3 (kP C u) w = kA C 3 (kP C u) w) (w : Nat) : c_g C' k w = c_g C k w := by
  have e1 : ∀ n, n ≤ kN C 0 → c_as C' k w n = c_as C k w n := by
    intro n
    induction n with
    | zero => intro _; rfl
    | succ n ih =>
      intro hn
      rw [c_as, c_as, ih (by omega)]
      congr 1
      unfold c_as1 c_of cLd
      rw [hc.2.2.1, hc.2.2.2.1, hc.2.2.2.2.1, hc.1 3 (by decide) (by decide), hc.1 5 (by decide) (by decide)]
      by_cases e : kC C n = k ∧ inR (nI w) (kL C 1 n) (kL C 2 n) = true ∧ w + (kI C 3 (kP C n)).toNatClampNeg < 12
      · rw [if_pos e, if_pos e, h n (by omega) e.1 _ e.2.2]
      · rw [if_neg e, if_neg e]
  unfold c_g
  rw [hc.2.1 0 (by decide), hc.2.1 1 (by decide), c_sum_of hc.2.2.2.2.2, e1 _ (Nat.le_refl _)]
/-! those that wait -/
theorem aw_A (C : CS) (k : Nat) : kA (c_aw C k) = kA C := by unfold c_aw; split <;> rfl
theorem aw_I (C : CS) (k : Nat) {j : Nat} (h : j ≠ 13) : kI (c_aw C k) j = kI C j := by
  unfold c_aw
  split
  · show up2 (kI C) 13 k 1 j = _; exact up2_m h
  · rfl
theorem aw_13 (C : CS) (k q : Nat) : kI (c_aw C k) 13 q ≠ 0 ↔ (kI C 13 q ≠ 0 ∨ q = k) := by
  unfold c_aw
  split
  · rename_i h
    show up2 (kI C) 13 k 1 13 q ≠ 0 ↔ _
    rw [up2_w]
    by_cases e : q = k
    · subst e; rw [va_up_self]; exact ⟨fun _ => Or.inr rfl, fun _ => by decide⟩
    · rw [va_up_ne _ _ e]; exact ⟨Or.inl, fun h => h.resolve_right e⟩
  · rename_i h
    exact ⟨Or.inl, fun q => q.elim id (fun e => e ▸ h)⟩
theorem rank_of {C C' : CS} (hc : cS4 C C') : q_rank C' = q_rank C := by
  funext k; unfold q_rank; rw [hc.1 11 (by decide) (by decide)]
theorem HP_aw {C : CS} {k : Nat} (h : HP (q_rank C) (kQ C) (kN C 4)) : HP (q_rank C) (kQ (c_aw C k)) (kN (c_aw C k) 4) := by
  unfold c_aw
  split
  · have e : q_rank (ci C 13 k 1) = q_rank C := rank_of (cS4_ci C k 1 (by decide))
    have := HP_put (C := ci C 13 k 1) (k := k) (by rw [e]; exact h)
    rw [e] at this
    exact this
  · exact h
theorem kids_A (C : CS) (k n : Nat) : kA (c_kids C k n) = kA C := by
  induction n with
  | zero => rfl
  | succ n ih => unfold c_kids; split <;> simp only [aw_A, ih]
theorem kids_I (C : CS) (k n : Nat) {j : Nat} (h : j ≠ 13) : kI (c_kids C k n) j = kI C j := by
  induction n with
  | zero => rfl
  | succ n ih => unfold c_kids; split <;> simp only [aw_I _ _ h, ih]
theorem kids_13 (C : CS) (k n q : Nat) : kI (c_kids C k n) 13 q ≠ 0 ↔ (kI C 13 q ≠ 0 ∨ ∃ u, u < n ∧ kP C u = k ∧ kC C u = q) := by
  induction n with
  | zero => exact ⟨Or.inl, fun h => h.elim id (fun ⟨u, hu, _⟩ => by omega)⟩
  | succ n ih =>
    unfold c_kids
    split
    · rename_i e
      rw [aw_13, ih]
      constructor
      · rintro ((h | ⟨u, hu, h⟩) | h)
        · exact Or.inl h
        · exact Or.inr ⟨u, by omega, h⟩
        · exact Or.inr ⟨n, by omega, e, h.symm⟩
      · rintro (h | ⟨u, hu, h⟩)
        · exact Or.inl (Or.inl h)
        · by_cases q : u = n
          · subst q; exact Or.inr h.2.symm
          · exact Or.inl (Or.inr ⟨u, by omega, h⟩)
    · rename_i e
      rw [ih]
      constructor
      · rintro (h | ⟨u, hu, h⟩)
        · exact Or.inl h
        · exact Or.inr ⟨u, by omega, h⟩
      · rintro (h | ⟨u, hu, h⟩)
        · exact Or.inl h
        · by_cases q : u = n
          · subst q; exact absurd h.1 e
          · exact Or.inr ⟨u, by omega, h⟩
theorem HP_kids {C : CS} {k n : Nat} (h : HP (q_rank C) (kQ C) (kN C 4)) : HP (q_rank C) (kQ (c_kids C k n)) (kN (c_kids C k n) 4) := by
  induction n with
  | zero => exact h
  | succ n ih =>
    unfold c_kids
    split
    · have e := rank_of (c_kids_s C k n)
      rw [← e]
      rw [← e] at ih
      exact HP_aw ih
    · exact ih
theorem r0_A (C : CS) (n : Nat) : kA (c_r0 C n) = kA C := by
  induction n with
  | zero => rfl
  | succ n ih => unfold c_r0; split <;> simp only [aw_A, ih]
theorem r0_I (C : CS) (n : Nat) {j : Nat} (h : j ≠ 13) : kI (c_r0 C n) j = kI C j := by
  induction n with
  | zero => rfl
  | succ n ih => unfold c_r0; split <;> simp only [aw_I _ _ h, ih]
theorem r0_13 (C : CS) (n q : Nat) : kI (c_r0 C n) 13 q ≠ 0 ↔ (kI C 13 q ≠ 0 ∨ (q < n ∧ kI C 12 q ≠ 0)) := by
  induction n with
  | zero => exact ⟨Or.inl, fun h => h.elim id (fun ⟨u, _⟩ => by omega)⟩
  | succ n ih =>
    unfold c_r0
    rw [r0_I C n (by decide)]
    split
    · rename_i e
      rw [ih]
      constructor
      · rintro (h | ⟨h1, h2⟩)
        · exact Or.inl h
        · exact Or.inr ⟨by omega, h2⟩
      · rintro (h | ⟨h1, h2⟩)
        · exact Or.inl h
        · by_cases q' : q = n
          · subst q'; exact absurd e h2
          · exact Or.inr ⟨by omega, h2⟩
    · rename_i e
      rw [aw_13, ih]
      constructor
      · rintro ((h | ⟨h1, h2⟩) | h)
        · exact Or.inl h
        · exact Or.inr ⟨by omega, h2⟩
        · exact Or.inr ⟨by omega, h ▸ e⟩
      · rintro (h | ⟨h1, h2⟩)
        · exact Or.inl (Or.inl h)
        · by_cases q' : q = n
          · exact Or.inr q'
          · exact Or.inl (Or.inr ⟨by omega, h2⟩)
theorem HP_r0 {C : CS} (h : HP (q_rank C) (kQ C) (kN C 4)) (n : Nat) : HP (q_rank C) (kQ (c_r0 C n)) (kN (c_r0 C n) 4) := by
  induction n with
  | zero => exact h
  | succ n ih =>
    unfold c_r0
    split
    · exact ih
    · have e := rank_of (c_r0_s C n)
      rw [← e]
      rw [← e] at ih
      exact HP_aw ih
/-! one turn -/
theorem df_iff (C : CS) (k n : Nat) : c_df C k n = true ↔ ∃ w, w < n ∧ ¬ c_g C k w = kA C 0 k w := by
  induction n with
  | zero => exact ⟨fun h => (by cases h), fun ⟨w, h, _⟩ => by omega⟩
  | succ n ih =>
    unfold c_df
    rw [Bool.or_eq_true, ih, decide_eq_true_eq]
    constructor
    · rintro (⟨w, h1, h2⟩ | h)
      · exact ⟨w, by omega, h2⟩
      · exact ⟨n, by omega, h⟩
    · rintro ⟨w, h1, h2⟩
      by_cases e : w = n
      · subst e; exact Or.inr h2
      · exact Or.inl ⟨w, by omega, h2⟩
theorem dif_iff (M : MS) (i : Nat) (f : Nat → Int64) (n : Nat) : m_dif M i f n = true ↔ ∃ w, w < n ∧ f w ≠ mL M 18 (12 * i + w) := by
  induction n with
  | zero => exact ⟨fun h => (by cases h), fun ⟨w, h, _⟩ => by omega⟩
  | succ n ih =>
    unfold m_dif
    rw [Bool.or_eq_true, ih, decide_eq_true_eq]
    constructor
    · rintro (⟨w, h1, h2⟩ | h)
      · exact ⟨w, by omega, h2⟩
      · exact ⟨n, by omega, h⟩
    · rintro ⟨w, h1, h2⟩
      by_cases e : w = n
      · subst e; exact Or.inr h2
      · exact Or.inl ⟨w, by omega, h2⟩
theorem t1_A (C : CS) : kA (c_t1 C) = kA C := by
  show kA (c_tk C) = _
  unfold c_tk; split <;> rfl
theorem t1_g (C : CS) (k w : Nat) : c_g (c_t1 C) k w = c_g C k w := g_of (c_t1_s C) (fun _ _ _ _ _ => by rw [t1_A]) w
theorem sb_iff (C : CS) : c_sb C = true ↔ ((∃ w, w < 12 ∧ ¬ c_g C (kQ C 0) w = kA C 0 (kQ C 0) w) ∨ ¬ kI C 12 (kQ C 0) = 0) := by
  unfold c_sb
  rw [Bool.or_eq_true, df_iff, decide_eq_true_eq, t1_A]
  simp only [t1_g]
theorem t1_13 (C : CS) (k : Nat) : kI (c_t1 C) 13 k = if k = kQ C 0 then 0 else kI C 13 k := by
  show up2 (kI (c_tk C)) 13 (kQ C 0) 0 13 k = _
  rw [up2_w, c_tk_I]; rfl
theorem t1_I (C : CS) {j : Nat} (h : j ≠ 13) : kI (c_t1 C) j = kI C j := by
  show up2 (kI (c_tk C)) 13 (kQ C 0) 0 j = _
  rw [up2_m h, c_tk_I]
/-- behind grows: gross needs anew -/
def c2 (C : CS) : CS := ci (c_gr (c_t1 C) (kQ C 0)) 12 (kQ C 0) 0
theorem c2_s (C : CS) : cS4 C (c2 C) := ((c_t1_s C).tr (c_gr_s _ _)).tr (cS4_ci _ _ _ (by decide))
theorem gr_A (C : CS) : kA (c_gr (c_t1 C) (kQ C 0)) = fun j k w => if j = 0 ∧ k = kQ C 0 ∧ w < 12 then c_g C k w else kA C j k w := by
  funext j k w
  show (if j = 0 ∧ k = kQ C 0 ∧ w < 12 then c_g (c_t1 C) (kQ C 0) w else kA (c_t1 C) j k w) = _
  rw [t1_g, t1_A]
  by_cases e : j = 0 ∧ k = kQ C 0 ∧ w < 12
  · rw [if_pos e, if_pos e, e.2.1]
  · rw [if_neg e, if_neg e]
theorem c2_A (C : CS) : kA (c2 C) = fun j k w => if j = 0 ∧ k = kQ C 0 ∧ w < 12 then c_g C k w else kA C j k w := gr_A C
theorem st_t {C : CS} (h : c_sb C = true) : c_st C = c_kids (c_net (c2 C) (kQ C 0)) (kQ C 0) (kN C 0) := by unfold c_st; rw [if_pos h]; rfl
theorem st_f {C : CS} (h : ¬ c_sb C = true) : c_st C = c_gr (c_t1 C) (kQ C 0) := by unfold c_st; rw [if_neg h]
theorem st_HP {C : CS} (h : HP (q_rank C) (kQ C) (kN C 4)) (h0 : 0 < kN C 4) : HP (q_rank C) (kQ (c_st C)) (kN (c_st C) 4) := by
  have h1 := HP_tk h h0
  by_cases e : c_sb C = true
  · rw [st_t e]
    have z := c_net_s (c2 C) (kQ C 0)
    have e1 := rank_of ((c2_s C).tr z.1)
    rw [← e1]
    refine HP_kids ?_
    rw [z.2.1, z.2.2.1, e1]
    exact h1
  · rw [st_f e]; exact h1
