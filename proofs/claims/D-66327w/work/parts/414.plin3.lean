/-! PLAIN LAW: a line told of, both sides -/
theorem up_sub {E F : Nat → Nat → Prop} (h : ∀ p c, E p c → F p c) : ∀ j c, Up E j c → Up F j c := by
  intro j
  induction j with
  | zero => intro c _; exact True.intro
  | succ j ih => rintro c ⟨p, h1, h2⟩; exact ⟨p, h p c h1, ih p h2⟩
theorem wks_eq (n f t : Int32) : c_wks n f t = x_wks n f t := by
  unfold c_wks x_wks
  congr 1
  have : (inR f 0 t && decide (t < 12)) = true ↔ (in12 f && in12 t && decide (f ≤ t)) = true := by
    simp only [inR, in12, Bool.and_eq_true, decide_eq_true_eq]
    have e1 : t < 12 ↔ t ≤ 11 := by
      rw [Int32.lt_iff_toInt_lt, Int32.le_iff_toInt_le, show (12 : Int32).toInt = 12 by decide, show (11 : Int32).toInt = 11 by decide]
      omega
    rw [e1]
    constructor
    · rintro ⟨⟨h1, h2⟩, h3⟩
      exact ⟨⟨⟨h1, Int32.le_trans h2 h3⟩, ⟨Int32.le_trans h1 h2, h3⟩⟩, h2⟩
    · rintro ⟨⟨⟨h1, h2⟩, ⟨h3, h4⟩⟩, h5⟩
      exact ⟨⟨h1, h5⟩, h4⟩
  cases e1 : (inR f 0 t && decide (t < 12)) <;> cases e2 : (in12 f && in12 t && decide (f ≤ t)) <;> simp_all
theorem Rel_line {C C3 : CS} {M M1 : MS} (h : Rel C M) {pa ch : Nat} (hp : pa < 12) (hc : ch < 12) {n f t : Int32} {V : Nat → Int32} (o1 : kI C3 = kI C) (o2 : kA C3 = kA C) (o3 : kE C3 = kE C) (o4 : ∀ j, j ≠ 0 → kN C3 j = kN C j) (hL : LnR (kN C3 0) (kP C3) (kC C3) (kL C3) (mS M1 14) (mI M1 10) (mI M1 11) (mI M1 12)) (hm : ∀ j, j ≠ 10 → j ≠ 11 → j ≠ 12 → mI M1 j = mI M j) (h10 : mI M1 10 = va_up (mI M 10) (12 * pa + ch) n) (h11 : mI M1 11 = va_up (mI M 11) (12 * pa + ch) f) (h12 : mI M1 12 = va_up (mI M 12) (12 * pa + ch) t) (hmL : mL M1 = mL M) (h19 : mS M1 19 = mS M 19) (hV : ∀ k, k < 12 → ∃ a, a ≤ 4 ∧ V k = nI a ∧ Up (mE M1) a k ∧ ¬ Up (mE M1) (a + 1) k) : Rel (c_tell (c_kl (rV C3 V) 12) ch) (m_tell M1 ch) := by
  have eI : ∀ j k, j ≠ 11 → j ≠ 12 → kI (c_tell (c_kl (rV C3 V) 12) ch) j k = kI C j k := by
    intro j k e11 e12
    show up2 (fun j k => if j = 11 ∧ k < 12 then V k else kI C3 j k) 12 ch 1 j k = _
    rw [up2_m e12]
    show (if j = 11 ∧ k < 12 then V k else kI C3 j k) = _
    rw [if_neg (fun q => e11 q.1), o1]
  have eJ : ∀ j, j ≠ 17 → mI (m_tell M1 ch) j = mI M1 j := fun j hj => by
    show up2 (mI M1) 17 ch 1 j = _
    exact up2_m hj
  have hB : ∀ j, 1 ≤ j → j ≤ 3 → Bk (c_tell (c_kl (rV C3 V) 12) ch) (m_tell M1 ch) j := by
    intro j j1 j3
    have := h.st.bk j1 j3
    unfold Bk mCt at this ⊢
    rw [eJ 13 (by decide), eJ 14 (by decide), eJ 15 (by decide), eJ 16 (by decide), hm 13 (by decide) (by decide) (by decide), hm 14 (by decide) (by decide) (by decide), hm 15 (by decide) (by decide) (by decide), hm 16 (by decide) (by decide) (by decide)]
    have k1 : kN (c_tell (c_kl (rV C3 V) 12) ch) j = kN C j := o4 j (by omega)
    have k2 : kE (c_tell (c_kl (rV C3 V) 12) ch) = kE C := o3
    rw [k1, k2]
    exact this
  have hst : St (c_tell (c_kl (rV C3 V) 12) ch) (m_tell M1 ch) := by
    refine ⟨fun q hq j hj => ?_, hB 1 (by decide) (by decide), hB 2 (by decide) (by decide), hB 3 (by decide) (by decide), ?_, fun q hq j => ?_, fun j j1 j3 => ?_⟩
    · rw [eI _ _ (by omega) (by omega), eJ j (by omega), hm j (by omega) (by omega) (by omega)]
      exact h.st.fi q hq j hj
    · rw [ln_r, eJ 10 (by decide), eJ 11 (by decide), eJ 12 (by decide)]
      exact hL
    · by_cases e : j = 11 ∨ j = 12
      · exact fok_o (by omega)
      · rw [eI _ _ (fun z => e (Or.inl z)) (fun z => e (Or.inr z))]
        exact h.st.fb q hq j
    · rw [eJ 13 (by decide), hm 13 (by decide) (by decide) (by decide)]
      have k1 : kN (c_tell (c_kl (rV C3 V) 12) ch) j = kN C j := o4 j (by omega)
      rw [k1]
      exact h.st.bc j j1 j3
  have hlv : Lv (c_tell (c_kl (rV C3 V) 12) ch) (m_tell M1 ch) := by
    intro k hk
    obtain ⟨a, h1, h2, h3, h4⟩ := hV k hk
    have e1 : kI (c_tell (c_kl (rV C3 V) 12) ch) 11 k = V k := by
      show up2 (fun j k => if j = 11 ∧ k < 12 then V k else kI C3 j k) 12 ch 1 11 k = _
      rw [up2_m (by decide)]
      show (if 11 = 11 ∧ k < 12 then V k else kI C3 11 k) = _
      rw [if_pos ⟨rfl, hk⟩]
    have e2 : mE (m_tell M1 ch) = mE M1 := by funext p c; unfold mE; rw [eJ 10 (by decide)]
    unfold Lk
    rw [e1, h2, nI_clamp (by omega), e2]
    exact ⟨rfl, h1, h3, h4⟩
  refine Rel_gen (fun q => q = ch) h hst hlv o2 hmL (fun q _ => ⟨fun e => ?_, fun e => ?_⟩) (fun q _ => ⟨fun e => ?_, fun e => ?_⟩) h19 rfl (fun q => ?_) ?_ ?_ (fun q _ e j hj => ?_) (fun K hK q _ _ w _ => ?_) (fun j hj a _ q _ e => ?_)
  · show up2 (fun j k => if j = 11 ∧ k < 12 then V k else kI C3 j k) 12 ch 1 12 q ≠ 0
    rw [e, up2_s]; decide
  · show up2 (fun j k => if j = 11 ∧ k < 12 then V k else kI C3 j k) 12 ch 1 12 q = _
    rw [up2_n (Or.inr e)]
    show (if 12 = 11 ∧ q < 12 then V q else kI C3 12 q) = _
    rw [if_neg (by omega), o1]
  · show up2 (mI M1) 17 ch 1 17 q ≠ 0
    rw [e, up2_s]; decide
  · show up2 (mI M1) 17 ch 1 17 q = _
    rw [up2_n (Or.inr e), hm 17 (by decide) (by decide) (by decide)]
  · exact absurd q (by show ¬ (1 : Int32) = 0; decide)
  · exact o4 4 (by decide)
  · funext q
    exact eI 13 q (by decide) (by decide)
  · rw [eJ j (by omega), hm j (by omega) (by omega) (by omega)]
  · have e1 : mCt (m_tell M1 ch) K = mCt M K := by unfold mCt; rw [eJ 13 (by decide), hm 13 (by decide) (by decide) (by decide)]
    rw [e1]
    exact sum_c (fun e _ => Or.inl ⟨by rw [eJ 14 (by decide), hm 14 (by decide) (by decide) (by decide)], by rw [eJ 15 (by decide), hm 15 (by decide) (by decide) (by decide)], by rw [eJ 16 (by decide), hm 16 (by decide) (by decide) (by decide)]⟩)
  · have hne : 12 * a + q ≠ 12 * pa + ch := fun z => e (by omega)
    rw [eJ j (by omega)]
    rcases hj with z | z | z <;> subst z
    · rw [h10, va_up_ne _ _ hne]
    · rw [h11, va_up_ne _ _ hne]
    · rw [h12, va_up_ne _ _ hne]
theorem setL_I (M : MS) (ln : Nat) (n f t : Int32) {j : Nat} (h0 : j ≠ 10) (h1 : j ≠ 11) (h2 : j ≠ 12) : mI (m_setL M ln n f t) j = mI M j := by
  show up2 (up2 (up2 (mI M) 10 ln n) 11 ln f) 12 ln t j = _
  rw [up2_m h2, up2_m h1, up2_m h0]
theorem setL_10 (M : MS) (ln : Nat) (n f t : Int32) : mI (m_setL M ln n f t) 10 = va_up (mI M 10) ln n := by
  show up2 (up2 (up2 (mI M) 10 ln n) 11 ln f) 12 ln t 10 = _
  rw [up2_m (by decide), up2_m (by decide), up2_w]
theorem setL_11 (M : MS) (ln : Nat) (n f t : Int32) : mI (m_setL M ln n f t) 11 = va_up (mI M 11) ln f := by
  show up2 (up2 (up2 (mI M) 10 ln n) 11 ln f) 12 ln t 11 = _
  rw [up2_m (by decide), up2_w, up2_m (by decide)]
theorem setL_12 (M : MS) (ln : Nat) (n f t : Int32) : mI (m_setL M ln n f t) 12 = va_up (mI M 12) ln t := by
  show up2 (up2 (up2 (mI M) 10 ln n) 11 ln f) 12 ln t 12 = _
  rw [up2_w, up2_m (by decide), up2_m (by decide)]
theorem va_id {α : Type} (f : Nat → α) (k : Nat) : va_up f k (f k) = f := by
  funext j
  unfold va_up
  by_cases e : j = k
  · rw [if_pos e, e]
  · rw [if_neg e]
theorem s_back (a b c : Int32) : a + b - c + c - b = a := by
  rw [Int32.sub_eq_add_neg, Int32.sub_eq_add_neg, Int32.add_assoc (a + b), Int32.add_left_neg, Int32.add_zero, Int32.add_assoc, Int32.add_right_neg, Int32.add_zero]
/-- a refused line is taken back -/
theorem setL_back (M : MS) (ln : Nat) (n f t : Int32) : mz (m_setL (m_setL (mz M 0 0) ln n f t) ln (mI M 10 ln) (mI M 11 ln) (mI M 12 ln)) 0 3 = mz M 0 3 := by
  have e1 : mI (m_setL (m_setL (mz M 0 0) ln n f t) ln (mI M 10 ln) (mI M 11 ln) (mI M 12 ln)) = mI M := by
    funext j
    by_cases h0 : j = 10
    · subst h0; rw [setL_10, setL_10, bx_uu]; exact va_id (mI M 10) ln
    · by_cases h1 : j = 11
      · subst h1; rw [setL_11, setL_11, bx_uu]; exact va_id (mI M 11) ln
      · by_cases h2 : j = 12
        · subst h2; rw [setL_12, setL_12, bx_uu]; exact va_id (mI M 12) ln
        · rw [setL_I _ _ _ _ _ h0 h1 h2, setL_I _ _ _ _ _ h0 h1 h2]; rfl
  have e2 : mS (m_setL (m_setL (mz M 0 0) ln n f t) ln (mI M 10 ln) (mI M 11 ln) (mI M 12 ln)) = va_up (mS M) 0 0 := by
    have k1 : mI (m_setL (mz M 0 0) ln n f t) 10 ln = n := by rw [setL_10, va_up_self]
    have k2 : mS (m_setL (mz M 0 0) ln n f t) = va_up (va_up (mS M) 0 0) 14 (mS M 14 + bZ (decide (0 < n)) - bZ (decide (0 < mI M 10 ln))) := rfl
    show va_up (mS (m_setL (mz M 0 0) ln n f t)) 14 (mS (m_setL (mz M 0 0) ln n f t) 14 + bZ (decide (0 < mI M 10 ln)) - bZ (decide (0 < mI (m_setL (mz M 0 0) ln n f t) 10 ln))) = _
    rw [k1, k2, va_up_self, s_back, bx_uu]
    have : mS M 14 = va_up (mS M) 0 0 14 := (va_up_ne _ _ (by decide)).symm
    rw [this]
    exact va_id (va_up (mS M) 0 0) 14
  have e3 : mL (m_setL (m_setL (mz M 0 0) ln n f t) ln (mI M 10 ln) (mI M 11 ln) (mI M 12 ln)) = mL M := rfl
  generalize m_setL (m_setL (mz M 0 0) ln n f t) ln (mI M 10 ln) (mI M 11 ln) (mI M 12 ln) = Z at *
  unfold mz
  rw [e1, e2, e3, bx_uu]
theorem lE_mE {C : CS} {M : MS} (h : Ln C M) (p c : Nat) : lE (kP C) (kC C) (kN C 0) none p c ↔ mE M p c := by
  constructor
  · rintro (⟨u, hu, e1, e2⟩ | q)
    · obtain ⟨h1, h2, _⟩ := h.2.2.1 u hu
      rw [e1] at h1; rw [e2] at h2
      exact ⟨h1, h2, (h.pos h1 h2).mpr ⟨u, hu, e1, e2⟩⟩
    · cases q
  · rintro ⟨h1, h2, h3⟩
    exact Or.inl ((h.pos h1 h2).mp h3)
theorem lE_more {C : CS} {M M1 : MS} (h : Ln C M) {pa ch : Nat} (hp : pa < 12) (hc : ch < 12) {n : Int32} (h0 : 0 < n) (h10 : mI M1 10 = va_up (mI M 10) (12 * pa + ch) n) (p c : Nat) : lE (kP C) (kC C) (kN C 0) (some (pa, ch)) p c ↔ mE M1 p c := by
  unfold mE
  rw [h10]
  constructor
  · rintro (⟨u, hu, e1, e2⟩ | q)
    · obtain ⟨h1, h2, _⟩ := h.2.2.1 u hu
      rw [e1] at h1; rw [e2] at h2
      refine ⟨h1, h2, ?_⟩
      by_cases z : 12 * p + c = 12 * pa + ch
      · rw [z, va_up_self]; exact h0
      · rw [va_up_ne _ _ z]; exact (h.pos h1 h2).mpr ⟨u, hu, e1, e2⟩
    · cases q
      exact ⟨hp, hc, by rw [va_up_self]; exact h0⟩
  · rintro ⟨h1, h2, h3⟩
    by_cases z : 12 * p + c = 12 * pa + ch
    · right
      have e1 : p = pa := by omega
      have e2 : c = ch := by omega
      rw [e1, e2]
    · rw [va_up_ne _ _ z] at h3
      exact Or.inl ((h.pos h1 h2).mp h3)
theorem r_line1 {C : CS} {M : MS} (h : Rel C M) {pa ch : Nat} (hp : pa < 12) (hc : ch < 12) {n f t : Int32} (hn : n = 0 ∨ ∃ m, 0 < m ∧ m ≤ 9 ∧ n = nI m) : (c_lok C pa ch n = false → mS (m_line1 M pa ch n f t) 0 = 3 ∧ Rel (rV C (c_lev C (some (pa, ch))).1) (m_line1 M pa ch n f t)) ∧ (c_lok C pa ch n = true → mS (m_line1 M pa ch n f t) 0 = 0 ∧ Rel (c_line C pa ch n f t) (m_line1 M pa ch n f t)) := by
  have hP : ∀ i, i < kN C 0 → kP C i < 12 ∧ kC C i < 12 := fun i hi => ⟨(h.st.ln.2.2.1 i hi).1, (h.st.ln.2.2.1 i hi).2.1⟩
  have hx : ∀ p c, some (pa, ch) = some (p, c) → p < 12 ∧ c < 12 := by
    intro p c q; cases q; exact ⟨hp, hc⟩
  have hclev := clev_sp C (some (pa, ch)) h.st.ln.1 hx hP
  have h10 : mI (m_setL (mz M 0 0) (12 * pa + ch) n f t) 10 = va_up (mI M 10) (12 * pa + ch) n := setL_10 _ _ _ _ _
  have h11 : mI (m_setL (mz M 0 0) (12 * pa + ch) n f t) 11 = va_up (mI M 11) (12 * pa + ch) f := setL_11 _ _ _ _ _
  have h12 : mI (m_setL (mz M 0 0) (12 * pa + ch) n f t) 12 = va_up (mI M 12) (12 * pa + ch) t := setL_12 _ _ _ _ _
  have hmI : ∀ j, j ≠ 10 → j ≠ 11 → j ≠ 12 → mI (m_setL (mz M 0 0) (12 * pa + ch) n f t) j = mI M j := fun j a b c => setL_I _ _ _ _ _ a b c
  have h14 : mS (m_setL (mz M 0 0) (12 * pa + ch) n f t) 14 = mS M 14 + bZ (decide (0 < n)) - bZ (decide (0 < mI M 10 (12 * pa + ch))) := rfl
  have hmL : mL (m_setL (mz M 0 0) (12 * pa + ch) n f t) = mL M := rfl
  have h19 : mS (m_setL (mz M 0 0) (12 * pa + ch) n f t) 19 = mS M 19 := rfl
  have hm0 : mS (m_tell (m_setL (mz M 0 0) (12 * pa + ch) n f t) ch) 0 = 0 := rfl
  have hback := setL_back M (12 * pa + ch) n f t
  have hu5 : ∀ c, c < 12 → ¬ Up (mE M) 5 c := by
    intro c hc q
    obtain ⟨_, l4, _, h4⟩ := h.lv c hc
    exact h4 (up_le (j := Lk C c + 1) (5 - (Lk C c + 1)) (by rw [show Lk C c + 1 + (5 - (Lk C c + 1)) = 5 by omega]; exact q))
  unfold m_line1
  rw [hback]
  clear hback
  generalize m_setL (mz M 0 0) (12 * pa + ch) n f t = M1 at *
  -- when it is taken
  have htake : m_snd M1 12 = true → (0 < n → ¬ c_fd C pa ch (kN C 0) = -1 ∨ kN C 0 < 24) → Rel (c_line C pa ch n f t) (m_tell M1 ch) := by
    intro hsnd hr
    have hL := ln3_L h.st.ln hp hc f t hn hr
    rw [← h14, ← h10, ← h11, ← h12] at hL
    obtain ⟨o1, o2, o3, o4⟩ := ln3_o C pa ch n f t
    unfold c_line c_ln4
    generalize c_ln3 C pa ch n f t = C3 at *
    have hLn : Ln C3 M1 := (ln_r C3 M1).mpr hL
    have hv := clev_sp C3 none hL.1 (fun p c q => by cases q) (fun i hi => ⟨(hL.2.2.1 i hi).1, (hL.2.2.1 i hi).2.1⟩)
    have hup := up_c (lE_mE hLn)
    have h1 : (c_lev C3 none).2 = true := by
      rw [hv.1]
      intro c hc q
      rw [hup] at q
      exact (snd_up M1).mp hsnd c hc q
    have h2 := hv.2 h1
    clear hv
    generalize (c_lev C3 none).1 = V at *
    refine Rel_line h hp hc o1 o2 o3 o4 hL hmI h10 h11 h12 hmL h19 (fun k hk => ?_)
    obtain ⟨a, q1, q2, q3, q4⟩ := h2 k hk
    rw [hup] at q3
    rw [hup] at q4
    exact ⟨a, q1, q2, q3, q4⟩
  have hfd : c_fd C pa ch (kN C 0) = -1 ↔ mI M 10 (12 * pa + ch) = 0 := by
    rcases fd_sp C pa ch (kN C 0) with ⟨e, hno⟩ | ⟨i, hi, e, ep, ec⟩
    · refine ⟨fun _ => ?_, fun _ => e⟩
      refine Classical.byContradiction (fun q => ?_)
      obtain ⟨u, hu, z⟩ := h.st.ln.2.2.2.2 pa ch hp hc q
      exact hno u hu z
    · have hn24 := h.st.ln.1
      have hpos0 : 0 < mI M 10 (12 * pa + ch) := (h.st.ln.pos hp hc).mpr ⟨i, hi, ep, ec⟩
      constructor
      · intro q
        rw [e] at q
        have q2 := congrArg Int32.toInt q
        rw [nI_toInt (by omega), show (-1 : Int32).toInt = -1 by decide] at q2
        omega
      · intro q
        rw [q] at hpos0
        exact absurd hpos0 (by decide)
  have h24 : mS M 14 = 24 ↔ kN C 0 = 24 := by
    rw [h.st.ln.2.1]
    have := h.st.ln.1
    exact nI_eq (a := kN C 0) (b := 24) (by omega) (by omega)
  rcases hn with q | ⟨m, m0, m9, q⟩
  · subst q
    have hlok : c_lok C pa ch 0 = true := rfl
    rw [if_neg (fun z => absurd z.1 (by decide))]
    have hsnd : m_snd M1 12 = true := by
      rw [snd_up]
      intro c hc q
      refine hu5 c hc (up_sub (fun p c z => ?_) 5 c q)
      obtain ⟨z1, z2, z3⟩ := z
      rw [h10] at z3
      by_cases y : 12 * p + c = 12 * pa + ch
      · rw [y, va_up_self] at z3; exact absurd z3 (by decide)
      · rw [va_up_ne _ _ y] at z3; exact ⟨z1, z2, z3⟩
    rw [if_pos hsnd]
    exact ⟨fun q => (by rw [hlok] at q; cases q), fun _ => ⟨hm0, htake hsnd (fun q => absurd q (by decide))⟩⟩
  · have hpos : 0 < n := by rw [q]; exact nI_lt (a := 0) m0 (by omega)
    have hup := up_c (lE_more (M1 := M1) h.st.ln hp hc hpos h10)
    have hsnd : m_snd M1 12 = true ↔ (c_lev C (some (pa, ch))).2 = true := by
      rw [snd_up, hclev.1]
      exact ⟨fun z c hc y => z c hc ((hup 5 c).mp y), fun z c hc y => z c hc ((hup 5 c).mpr y)⟩
    have hlok : c_lok C pa ch n = ((c_lev C (some (pa, ch))).2 && (decide (¬ c_fd C pa ch (kN C 0) = -1) || decide (kN C 0 < 24))) := by
      unfold c_lok
      rw [decide_eq_true hpos]; rfl
    rw [hlok]
    clear hlok hclev
    generalize c_lev C (some (pa, ch)) = W at *
    by_cases hf : 0 < n ∧ mI M 10 (12 * pa + ch) = 0 ∧ mS M 14 = 24
    · rw [if_pos hf]
      refine ⟨fun _ => ⟨mz_0 _ _, Rel_V (Rel_x h 3) _⟩, fun z => ?_⟩
      have e1 := hfd.mpr hf.2.1
      have e2 := h24.mp hf.2.2
      rw [Bool.and_eq_true, Bool.or_eq_true, decide_eq_true_eq, decide_eq_true_eq] at z
      rcases z.2 with y | y
      · exact absurd e1 y
      · omega
    · rw [if_neg hf]
      have hroom : ¬ c_fd C pa ch (kN C 0) = -1 ∨ kN C 0 < 24 := by
        by_cases e1 : c_fd C pa ch (kN C 0) = -1
        · right
          have := h.st.ln.1
          have : kN C 0 ≠ 24 := fun y => hf ⟨hpos, hfd.mp e1, h24.mpr y⟩
          omega
        · exact Or.inl e1
      have hroom2 : (decide (¬ c_fd C pa ch (kN C 0) = -1) || decide (kN C 0 < 24)) = true := by
        rw [Bool.or_eq_true, decide_eq_true_eq, decide_eq_true_eq]; exact hroom
      rw [hroom2, Bool.and_true]
      refine ⟨fun z => ?_, fun z => ?_⟩
      · have : ¬ m_snd M1 12 = true := fun y => by rw [hsnd.mp y] at z; cases z
        rw [if_neg this]
        exact ⟨mz_0 _ _, Rel_V (Rel_x h 3) _⟩
      · have := hsnd.mpr z
        rw [if_pos this]
        exact ⟨hm0, htake this (fun _ => hroom)⟩
theorem r_line {C : CS} {M : MS} (h : Rel C M) (o : Int64) (xp xq nn xf xt : Int32) : (k_line C o xp xq nn xf xt).1 = mS (m_line M xp xq nn xf xt) 0 ∧ Rel (k_line C o xp xq nn xf xt).2.1 (m_line M xp xq nn xf xt) := by
  unfold k_line m_line x_line
  rw [wks_eq]
  cases h1 : (in12 xp && in12 xq) with
  | false => exact ⟨(mz_0 _ _).symm, Rel_x h 1⟩
  | true =>
    cases h2 : (inR nn 0 9 && x_wks nn xf xt) with
    | false => exact ⟨(mz_0 _ _).symm, Rel_x h 2⟩
    | true =>
      simp only [Bool.true_eq_false, if_false, if_true]
      rw [Bool.and_eq_true] at h1 h2
      obtain ⟨pa, hp, e⟩ := in12_t h1.1
      subst e
      obtain ⟨ch, hc, e⟩ := in12_t h1.2
      subst e
      rw [nI_cl hp, nI_cl hc]
      obtain ⟨m, hm, e⟩ := in_0 (n := 9) (by decide) h2.1
      have hn : nn = 0 ∨ ∃ m, 0 < m ∧ m ≤ 9 ∧ nn = nI m := by
        rcases Nat.eq_zero_or_pos m with z | z
        · subst z; exact Or.inl e
        · exact Or.inr ⟨m, z, hm, e⟩
      obtain ⟨g1, g2⟩ := r_line1 h hp hc (f := xf) (t := xt) hn
      cases h3 : c_lok C pa ch nn with
      | false => obtain ⟨y1, y2⟩ := g1 h3; exact ⟨y1.symm, y2⟩
      | true => obtain ⟨y1, y2⟩ := g2 h3; exact ⟨y1.symm, y2⟩
