/-! PLAIN LAW: levels -/
/-- a way of j lines leads up from c -/
def Up (E : Nat → Nat → Prop) : Nat → Nat → Prop
  | 0, _ => True
  | j + 1, c => ∃ p, E p c ∧ Up E j p
def Anc (E : Nat → Nat → Prop) (i : Nat) : Nat → Nat → Prop
  | 0, a => a = i
  | j + 1, a => ∃ b, Anc E i j b ∧ E a b
theorem anc_up (E : Nat → Nat → Prop) (i : Nat) : ∀ j k, (∃ a, Anc E i j a ∧ Up E k a) ↔ Up E (j + k) i := by
  intro j
  induction j with
  | zero =>
    intro k
    rw [Nat.zero_add]
    exact ⟨fun ⟨a, h1, h2⟩ => h1 ▸ h2, fun h => ⟨i, rfl, h⟩⟩
  | succ j ih =>
    intro k
    rw [show j + 1 + k = j + (k + 1) by omega, ← ih (k + 1)]
    constructor
    · rintro ⟨a, ⟨b, h1, h2⟩, h3⟩; exact ⟨b, h1, a, h2, h3⟩
    · rintro ⟨b, h1, a, h2, h3⟩; exact ⟨a, ⟨b, h1, h2⟩, h3⟩
theorem anc_up0 (E : Nat → Nat → Prop) (i j : Nat) : (∃ a, Anc E i j a) ↔ Up E j i := by
  have := anc_up E i j 0
  rw [Nat.add_zero] at this
  rw [← this]
  exact ⟨fun ⟨a, h⟩ => ⟨a, h, True.intro⟩, fun ⟨a, h, _⟩ => ⟨a, h⟩⟩
theorem up_s {E : Nat → Nat → Prop} : ∀ {j c}, Up E (j + 1) c → Up E j c := by
  intro j
  induction j with
  | zero => intro c _; exact True.intro
  | succ j ih => rintro c ⟨p, h1, h2⟩; exact ⟨p, h1, ih h2⟩
theorem up_le {E : Nat → Nat → Prop} {j c : Nat} (d : Nat) : Up E (j + d) c → Up E j c := by
  induction d with
  | zero => exact id
  | succ d ih => exact fun h => ih (up_s h)
theorem up_c {E F : Nat → Nat → Prop} (h : ∀ p c, E p c ↔ F p c) : ∀ j c, Up E j c ↔ Up F j c := by
  intro j
  induction j with
  | zero => intro c; exact Iff.rfl
  | succ j ih => intro c; exact ⟨fun ⟨p, h1, h2⟩ => ⟨p, (h p c).mp h1, (ih p).mp h2⟩, fun ⟨p, h1, h2⟩ => ⟨p, (h p c).mpr h1, (ih p).mpr h2⟩⟩
theorem up_u {E : Nat → Nat → Prop} {a b c : Nat} (h1 : Up E a c) (h2 : ¬ Up E (a + 1) c) (h3 : Up E b c) (h4 : ¬ Up E (b + 1) c) : a = b := by
  rcases Nat.lt_trichotomy a b with h | h | h
  · exact absurd (up_le (j := a + 1) (b - (a + 1)) (by rw [show a + 1 + (b - (a + 1)) = b by omega]; exact h3)) h2
  · exact h
  · exact absurd (up_le (j := b + 1) (a - (b + 1)) (by rw [show b + 1 + (a - (b + 1)) = a by omega]; exact h1)) h4
/-! bits -/
theorem i_c12 {P : Nat → Prop} (h0 : P 0) (h1 : P 1) (h2 : P 2) (h3 : P 3) (h4 : P 4) (h5 : P 5) (h6 : P 6) (h7 : P 7) (h8 : P 8) (h9 : P 9) (ha : P 10) (hb : P 11) {i : Nat} (hi : i < 12) : P i := by
  rcases (show i = 0 ∨ i = 1 ∨ i = 2 ∨ i = 3 ∨ i = 4 ∨ i = 5 ∨ i = 6 ∨ i = 7 ∨ i = 8 ∨ i = 9 ∨ i = 10 ∨ i = 11 by omega) with e | e | e | e | e | e | e | e | e | e | e | e <;> (subst e; assumption)
theorem b_sh (i : Nat) (hi : i < 12) : ((nI i &&& 31).toBitVec.smod 32).toNat = i := by
  refine i_c12 (P := fun i => ((nI i &&& 31).toBitVec.smod 32).toNat = i) ?_ ?_ ?_ ?_ ?_ ?_ ?_ ?_ ?_ ?_ ?_ ?_ hi <;> decide
theorem b_and1 (x : Int32) : x &&& 1 = 1 ↔ x.toBitVec.getLsbD 0 = true := by
  rw [← Int32.toBitVec_inj, Int32.toBitVec_and, show (1 : Int32).toBitVec = 1#32 from rfl, BitVec.and_one_eq_setWidth_ofBool_getLsbD]
  cases x.toBitVec.getLsbD 0 <;> decide
theorem b_get (ab : Int32) {i : Nat} (hi : i < 12) : (ab >>> (nI i &&& 31)) &&& 1 = 1 ↔ ab.toBitVec.getLsbD i = true := by
  rw [b_and1, Int32.toBitVec_shiftRight, BitVec.sshiftRight', b_sh i hi, BitVec.getLsbD_sshiftRight]
  simp [show i < 32 by omega]
theorem b_one {i j : Nat} (hj : j < 12) (hi : i < 32) : ((1 : Int32) <<< (nI j &&& 31)).toBitVec.getLsbD i = decide (i = j) := by
  rw [Int32.toBitVec_shiftLeft, BitVec.shiftLeft_eq', b_sh j hj, BitVec.getLsbD_shiftLeft]
  simp only [hi, decide_true, Bool.true_and]
  rw [show (1 : Int32).toBitVec = 1#32 from rfl, BitVec.getLsbD_one]
  by_cases e : i = j
  · subst e; simp
  · by_cases h : i < j
    · simp [h, e]
    · simp [h, e]; omega
theorem bt_or (x : Int32) {i j : Nat} (hj : j < 12) (hi : i < 32) : (x ||| ((1 : Int32) <<< (nI j &&& 31))).toBitVec.getLsbD i = (x.toBitVec.getLsbD i || decide (i = j)) := by
  rw [Int32.toBitVec_or, BitVec.getLsbD_or, b_one hj hi]
theorem b_zero (x : Int32) : x = 0 ↔ ∀ i, i < 32 → x.toBitVec.getLsbD i = false := by
  constructor
  · intro h i _; subst h; show (0#32).getLsbD i = false; simp
  · intro h
    rw [← Int32.toBitVec_inj]
    refine BitVec.eq_of_getLsbD_eq (fun i hi => ?_)
    rw [h i hi]
    show false = (0#32).getLsbD i
    simp
/-- a mask of those of which S says so -/
def Rep (x : Int32) (S : Nat → Prop) : Prop := ∀ i, i < 32 → (x.toBitVec.getLsbD i = true ↔ S i)
/-- a line of the reference -/
def mE (M : MS) (p c : Nat) : Prop := p < 12 ∧ c < 12 ∧ 0 < mI M 10 (12 * p + c)
theorem nx_n (M : MS) {ab : Int32} {S : Nat → Prop} (h : Rep ab S) (n : Nat) (hn : n ≤ 144) : Rep (m_nx M ab n) (fun a => ∃ ln, ln < n ∧ 0 < mI M 10 ln ∧ S (ln % 12) ∧ ln / 12 = a) := by
  induction n with
  | zero =>
    intro i hi
    refine ⟨fun q => ?_, fun ⟨ln, h1, _⟩ => by omega⟩
    have : (m_nx M ab 0).toBitVec.getLsbD i = false := (b_zero _).mp rfl i hi
    rw [this] at q; cases q
  | succ n ih =>
    intro i hi
    have hg := b_get ab (i := n % 12) (by omega)
    rw [h _ (by omega)] at hg
    have ihi := ih (by omega) i hi
    unfold m_nx
    by_cases e : 0 < mI M 10 n ∧ (ab >>> (nI (n % 12) &&& 31)) &&& 1 = 1
    · rw [if_pos e, bt_or _ (by omega) hi, Bool.or_eq_true, ihi, decide_eq_true_eq]
      constructor
      · rintro (⟨ln, h1, h2⟩ | q)
        · exact ⟨ln, by omega, h2⟩
        · exact ⟨n, by omega, e.1, hg.mp e.2, q.symm⟩
      · rintro ⟨ln, h1, h2, h3, h4⟩
        by_cases q : ln = n
        · subst q; exact Or.inr h4.symm
        · exact Or.inl ⟨ln, by omega, h2, h3, h4⟩
    · rw [if_neg e, ihi]
      constructor
      · rintro ⟨ln, h1, h2⟩; exact ⟨ln, by omega, h2⟩
      · rintro ⟨ln, h1, h2, h3, h4⟩
        by_cases q : ln = n
        · subst q; exact absurd ⟨h2, hg.mpr h3⟩ e
        · exact ⟨ln, by omega, h2, h3, h4⟩
theorem nx_s (M : MS) {ab : Int32} {i j : Nat} (h : Rep ab (Anc (mE M) i j)) : Rep (m_nx M ab 144) (Anc (mE M) i (j + 1)) := by
  intro a ha
  rw [nx_n M h 144 (Nat.le_refl _) a ha]
  constructor
  · rintro ⟨ln, h1, h2, h3, h4⟩
    refine ⟨ln % 12, h3, by omega, by omega, ?_⟩
    rw [show 12 * a + ln % 12 = ln by omega]; exact h2
  · rintro ⟨b, h1, h2, h3, h4⟩
    refine ⟨12 * a + b, by omega, h4, ?_, by omega⟩
    rw [show (12 * a + b) % 12 = b by omega]; exact h1
theorem lv_sp (M : MS) (i : Nat) : ∀ f j ab, f + j = 21 → Rep ab (Anc (mE M) i j) → (∀ a, Anc (mE M) i j a → a < 32) → (0 < j → Up (mE M) (j - 1) i) → (∃ l, l ≤ 19 ∧ m_lv M f ab = nI l ∧ Up (mE M) l i ∧ ¬ Up (mE M) (l + 1) i) ∨ (m_lv M f ab = 99 ∧ Up (mE M) 20 i) := by
  intro f
  induction f with
  | zero =>
    intro j ab hj _ _ hu
    have : j = 21 := by omega
    subst this
    exact Or.inr ⟨rfl, hu (by omega)⟩
  | succ f ih =>
    intro j ab hj hR h32 hu
    unfold m_lv
    by_cases e : ab = 0
    · rw [if_pos e]
      have hn : ¬ ∃ a, Anc (mE M) i j a := by
        rintro ⟨a, ha⟩
        have h1 := (hR a (h32 a ha)).mpr ha
        rw [(b_zero ab).mp e a (h32 a ha)] at h1
        cases h1
      rw [anc_up0] at hn
      have j0 : 0 < j := by
        rcases Nat.eq_zero_or_pos j with h | h
        · subst h; exact absurd True.intro hn
        · exact h
      refine Or.inl ⟨j - 1, by omega, ?_, hu j0, by rw [show j - 1 + 1 = j by omega]; exact hn⟩
      rw [show 20 - f = j - 1 + 1 by omega]
      rfl
    · rw [if_neg e]
      have hy : ∃ a, Anc (mE M) i j a := by
        refine Classical.byContradiction (fun q => e ((b_zero ab).mpr (fun a ha => ?_)))
        cases h : ab.toBitVec.getLsbD a with
        | false => rfl
        | true => exact absurd ⟨a, (hR a ha).mp h⟩ q
      refine ih (j + 1) _ (by omega) (nx_s M hR) ?_ (fun _ => (anc_up0 _ _ _).mp hy)
      rintro a ⟨b, _, h2, _⟩
      omega
theorem lvl_sp (M : MS) {i : Nat} (hi : i < 12) : (∃ l, l ≤ 19 ∧ m_lvl M i = nI l ∧ Up (mE M) l i ∧ ¬ Up (mE M) (l + 1) i) ∨ (m_lvl M i = 99 ∧ Up (mE M) 20 i) := by
  refine lv_sp M i 21 0 _ rfl ?_ ?_ (by omega)
  · intro a ha
    rw [b_one hi ha, decide_eq_true_eq]
    exact Iff.rfl
  · intro a (ha : a = i); omega
theorem lvl_eq {M : MS} {i l : Nat} (hi : i < 12) (hl : l ≤ 18) (h1 : Up (mE M) l i) (h2 : ¬ Up (mE M) (l + 1) i) : m_lvl M i = nI l := by
  rcases lvl_sp M hi with ⟨l', _, e, h3, h4⟩ | ⟨_, h3⟩
  · rw [e, up_u h3 h4 h1 h2]
  · exact absurd (up_le (j := l + 1) (20 - (l + 1)) (by rw [show l + 1 + (20 - (l + 1)) = 20 by omega]; exact h3)) h2
theorem lvl_4 (M : MS) {i : Nat} (hi : i < 12) : m_lvl M i ≤ 4 ↔ ¬ Up (mE M) 5 i := by
  rcases lvl_sp M hi with ⟨l, hl, e, h3, h4⟩ | ⟨e, h3⟩
  · rw [e]
    constructor
    · intro h q
      have : l ≤ 4 := n_ge (b := l) (a := 4) h (by omega) (by omega)
      exact h4 (up_le (j := l + 1) (5 - (l + 1)) (by rw [show l + 1 + (5 - (l + 1)) = 5 by omega]; exact q))
    · intro h
      refine nI_le (a := l) (b := 4) ?_ (by omega)
      refine Nat.le_of_not_lt (fun q => h (up_le (j := 5) (l - 5) (by rw [show 5 + (l - 5) = l by omega]; exact h3)))
  · rw [e]
    refine ⟨fun h => absurd h (by decide), fun h => absurd (up_le (j := 5) 15 h3) h⟩
theorem snd_n (M : MS) (n : Nat) : m_snd M n = true ↔ ∀ i, i < n → m_lvl M i ≤ 4 := by
  induction n with
  | zero => exact ⟨fun _ i h => by omega, fun _ => rfl⟩
  | succ n ih =>
    unfold m_snd
    rw [Bool.and_eq_true, ih, decide_eq_true_eq]
    constructor
    · rintro ⟨h1, h2⟩ i hi
      by_cases e : i = n
      · subst e; exact h2
      · exact h1 i (by omega)
    · intro h; exact ⟨fun i hi => h i (by omega), h n (by omega)⟩
theorem snd_up (M : MS) : m_snd M 12 = true ↔ ∀ i, i < 12 → ¬ Up (mE M) 5 i := by
  rw [snd_n]
  exact ⟨fun h i hi => (lvl_4 M hi).mp (h i hi), fun h i hi => (lvl_4 M hi).mpr (h i hi)⟩
