/-! PLAIN LAW: how great plans can be -/
theorem i_add {a b : Int64} (h1 : -9223372036854775808 ≤ a.toInt + b.toInt) (h2 : a.toInt + b.toInt < 9223372036854775808) : (a + b).toInt = a.toInt + b.toInt := by
  rw [Int64.toInt_add, Int.bmod_eq_of_le (by omega) (by omega)]
theorem i_sub {a b : Int64} (h1 : -9223372036854775808 ≤ a.toInt - b.toInt) (h2 : a.toInt - b.toInt < 9223372036854775808) : (a - b).toInt = a.toInt - b.toInt := by
  rw [Int64.toInt_sub, Int.bmod_eq_of_le (by omega) (by omega)]
theorem i_mul {a b : Int64} (h1 : -9223372036854775808 ≤ a.toInt * b.toInt) (h2 : a.toInt * b.toInt < 9223372036854775808) : (a * b).toInt = a.toInt * b.toInt := by
  rw [Int64.toInt_mul, Int.bmod_eq_of_le (by omega) (by omega)]
theorem i_div {a b : Int64} (h1 : 0 ≤ a.toInt) : (a / b).toInt = a.toInt / b.toInt := by
  rw [Int64.toInt_div_of_ne_left _ _ (fun e => by rw [e] at h1; exact absurd h1 (by decide)), Int.tdiv_eq_ediv_of_nonneg h1]
theorem i_nI {n : Nat} (h : n < 2 ^ 31) : (nI n).toInt64.toInt = (n : Int) := by rw [Int32.toInt_toInt64, nI_toInt h]
def sz (F : Nat → Int) : Nat → Int
  | 0 => 0
  | n + 1 => sz F n + F n
theorem sz_le {F G : Nat → Int} {n : Nat} (h : ∀ i, i < n → F i ≤ G i) : sz F n ≤ sz G n := by
  induction n with
  | zero => exact Int.le_refl _
  | succ n ih => have := ih (fun i hi => h i (by omega)); have := h n (by omega); unfold sz; omega
theorem sz_0 {F : Nat → Int} {n : Nat} (h : ∀ i, i < n → 0 ≤ F i) : 0 ≤ sz F n := by
  induction n with
  | zero => exact Int.le_refl _
  | succ n ih => have := ih (fun i hi => h i (by omega)); have := h n (by omega); unfold sz; omega
theorem sz_c (c : Int) (n : Nat) : sz (fun _ => c) n = n * c := by
  induction n with
  | zero => simp [sz]
  | succ n ih => unfold sz; rw [ih, Int.natCast_add, Int.add_mul]; simp
theorem sz_add (F G : Nat → Int) (n : Nat) : sz (fun i => F i + G i) n = sz F n + sz G n := by
  induction n with
  | zero => rfl
  | succ n ih => unfold sz; omega
theorem sz_mul (c : Int) (F : Nat → Int) (n : Nat) : sz (fun i => c * F i) n = c * sz F n := by
  induction n with
  | zero => simp [sz]
  | succ n ih => unfold sz; rw [ih, Int.mul_add]
theorem sz_sw (g : Nat → Nat → Int) (n m : Nat) : sz (fun u => sz (g u) m) n = sz (fun a => sz (fun u => g u a) n) m := by
  induction n with
  | zero =>
    have : sz (fun a => sz (fun u => g u a) 0) m = m * 0 := sz_c 0 m
    rw [this, Int.mul_zero]; rfl
  | succ n ih =>
    show sz (fun u => sz (g u) m) n + sz (g n) m = sz (fun a => sz (fun u => g u a) n + g n a) m
    rw [ih, sz_add]
theorem sz_cg {F G : Nat → Int} {n : Nat} (h : ∀ i, i < n → F i = G i) : sz F n = sz G n := by
  induction n with
  | zero => rfl
  | succ n ih => unfold sz; rw [ih (fun i hi => h i (by omega)), h n (by omega)]
theorem sz_mono {F : Nat → Int} {n m : Nat} (h : n ≤ m) (hF : ∀ i, i < m → 0 ≤ F i) : sz F n ≤ sz F m := by
  induction m with
  | zero => have : n = 0 := by omega
            subst this; exact Int.le_refl _
  | succ m ih =>
    by_cases e : n = m + 1
    · subst e; exact Int.le_refl _
    · have := ih (by omega) (fun i hi => hF i (by omega))
      have := hF m (by omega)
      show sz F n ≤ sz F m + F m
      omega
theorem sz_one {F : Nat → Int} {n i : Nat} (hi : i < n) (hF : ∀ i, i < n → 0 ≤ F i) : F i ≤ sz F n := by
  have h1 : sz F i + F i ≤ sz F n := sz_mono (F := F) (n := i + 1) (m := n) hi hF
  have h2 := sz_0 (F := F) (n := i) (fun j hj => hF j (by omega))
  omega
/-- a stretch shifted -/
theorem sz_sh {F : Nat → Int} (hF : ∀ i, i < 12 → 0 ≤ F i) {ld : Nat} (hl : ld ≤ 12) (m : Nat) : sz (fun w => if w + ld < 12 then F (w + ld) else 0) m ≤ sz F 12 := by
  have key : ∀ m, sz (fun w => if w + ld < 12 then F (w + ld) else 0) m ≤ sz F (if m + ld ≤ 12 then m + ld else 12) := by
    intro m
    induction m with
    | zero =>
      rw [if_pos (by omega)]
      exact sz_0 (fun i hi => hF i (by omega))
    | succ m ih =>
      unfold sz
      by_cases e : m + ld < 12
      · rw [if_pos (by omega)] at ih
        rw [if_pos e, if_pos (by omega), show m + 1 + ld = m + ld + 1 by omega]
        show _ ≤ sz F (m + ld) + F (m + ld)
        omega
      · rw [if_neg e]
        by_cases e2 : m + ld = 12
        · rw [if_pos (by omega), e2] at ih
          rw [if_neg (by omega)]
          show sz (fun w => if w + ld < 12 then F (w + ld) else 0) m + 0 ≤ sz F 12
          omega
        · rw [if_neg (by omega)] at ih
          rw [if_neg (by omega)]
          show sz (fun w => if w + ld < 12 then F (w + ld) else 0) m + 0 ≤ sz F 12
          omega
  have := key m
  by_cases e : m + ld ≤ 12
  · rw [if_pos e] at this
    exact Int.le_trans this (sz_mono e hF)
  · rw [if_neg e] at this; exact this
/-- rows without a minus, and their sums -/
def NN (f : Nat → Int64) (n : Nat) : Prop := ∀ i, i < n → 0 ≤ (f i).toInt
def si (f : Nat → Int64) (n : Nat) : Int := sz (fun i => (f i).toInt) n
theorem sg_i {f : Nat → Int64} {n : Nat} (h : NN f n) (hb : si f n < 9223372036854775808) : (sg f n).toInt = si f n := by
  induction n with
  | zero => rfl
  | succ n ih =>
    have h1 : NN f n := fun i hi => h i (by omega)
    have h0 : 0 ≤ si f n := sz_0 (fun i hi => h i (by omega))
    have hn := h n (by omega)
    have e : si f (n + 1) = si f n + (f n).toInt := rfl
    have i1 := ih h1 (by omega)
    rw [sg, i_add (by omega) (by omega), i1, e]
theorem si_0 {f : Nat → Int64} {n : Nat} (h : NN f n) : 0 ≤ si f n := sz_0 h
theorem sg_up {f : Nat → Int64} {n m : Nat} (h : NN f m) (hn : n ≤ m) (hb : si f m < 9223372036854775808) : 0 ≤ (sg f n).toInt ∧ (sg f n).toInt ≤ si f m := by
  have h1 : NN f n := fun i hi => h i (by omega)
  have h2 : si f n ≤ si f m := sz_mono hn h
  rw [sg_i h1 (by omega)]
  exact ⟨si_0 h1, h2⟩
/-- entries' sums -/
theorem csum_b {C : CS} {M : MS} {j : Nat} (h : Bk C M j) (i w : Int32) (n : Nat) (hn : n ≤ kN C j) (h24 : n ≤ 24) : 0 ≤ (c_sum C j i w n).toInt ∧ (c_sum C j i w n).toInt ≤ 1000 * n := by
  induction n with
  | zero => rw [c_sum]; exact ⟨by decide, by decide⟩
  | succ n ih =>
    obtain ⟨i1, i2⟩ := ih (by omega) (by omega)
    obtain ⟨_, _, m, hm, em⟩ := h.2.2 n (by omega)
    rw [c_sum]
    have hx : ∃ x : Int64, (if kE C j n 0 = i ∧ kE C j n 1 = w then (kE C j n 2).toInt64 else 0) = x ∧ 0 ≤ x.toInt ∧ x.toInt ≤ 1000 := by
      refine ⟨_, rfl, ?_⟩
      split
      · rw [em, i_nI (by omega)]; omega
      · exact ⟨by decide, by decide⟩
    obtain ⟨x, ex, x0, x1⟩ := hx
    rw [ex, i_add (by omega) (by omega)]
    omega
theorem csumB_b {C : CS} {M : MS} {j u : Nat} (h : Bk C M j) (n : Nat) (hn : n ≤ kN C j) (h24 : n ≤ 24) : 0 ≤ (c_sumB C j u n).toInt ∧ (c_sumB C j u n).toInt ≤ 1000 * n := by
  induction n with
  | zero => rw [c_sumB]; exact ⟨by decide, by decide⟩
  | succ n ih =>
    obtain ⟨i1, i2⟩ := ih (by omega) (by omega)
    obtain ⟨_, _, m, hm, em⟩ := h.2.2 n (by omega)
    rw [c_sumB]
    have hx : ∃ x : Int64, (if kE C j n 0 = kE C j u 0 ∧ kE C j n 1 = kE C j u 1 then (kE C j n 2).toInt64 else 0) = x ∧ 0 ≤ x.toInt ∧ x.toInt ≤ 1000 := by
      refine ⟨_, rfl, ?_⟩
      split
      · rw [em, i_nI (by omega)]; omega
      · exact ⟨by decide, by decide⟩
    obtain ⟨x, ex, x0, x1⟩ := hx
    rw [ex, i_add (by omega) (by omega)]
    omega
/-- what a line asks -/
theorem of_b {C : CS} {u : Nat} {q : Int64} {Q : Int} {n s : Nat} (h0 : 0 ≤ q.toInt) (h1 : q.toInt ≤ Q) (hQ : Q ≤ 10000000000000) (hn : n ≤ 9) (en : kL C 0 u = nI n) (hs : s ≤ 200) (es : kI C 5 (kC C u) = nI s) : 0 ≤ (c_of C u q).toInt ∧ (c_of C u q).toInt ≤ 11 * q.toInt + 1 := by
  unfold c_of
  rw [en, es, l_999]
  have e1 : (1000 + nI s : Int32).toInt64.toInt = 1000 + (s : Int) := by
    rw [show (1000 : Int32) + nI s = nI (1000 + s) from nI_add 1000 s, i_nI (by omega)]
    omega
  have e2 : (nI n).toInt64.toInt = (n : Int) := i_nI (by omega)
  have b1 : q.toInt * (n : Int) ≤ q.toInt * 9 := Int.mul_le_mul_of_nonneg_left (by omega) h0
  have b0 : 0 ≤ q.toInt * (n : Int) := Int.mul_nonneg h0 (by omega)
  have m1 : (q * (nI n).toInt64).toInt = q.toInt * (n : Int) := by rw [i_mul (by rw [e2]; omega) (by rw [e2]; omega), e2]
  have b3 : q.toInt * (n : Int) * (1000 + (s : Int)) ≤ q.toInt * (n : Int) * 1200 := Int.mul_le_mul_of_nonneg_left (by omega) b0
  have b2 : 0 ≤ q.toInt * (n : Int) * (1000 + (s : Int)) := Int.mul_nonneg b0 (by omega)
  have m2 : (q * (nI n).toInt64 * (1000 + nI s : Int32).toInt64).toInt = q.toInt * (n : Int) * (1000 + (s : Int)) := by rw [i_mul (by rw [m1, e1]; omega) (by rw [m1, e1]; omega), m1, e1]
  have m3 : (q * (nI n).toInt64 * (1000 + nI s : Int32).toInt64 + 999).toInt = q.toInt * (n : Int) * (1000 + (s : Int)) + 999 := by
    rw [i_add (by rw [m2, show (999 : Int64).toInt = 999 by decide]; omega) (by rw [m2, show (999 : Int64).toInt = 999 by decide]; omega), m2]; rfl
  rw [i_div (by rw [m3]; omega), m3, show (1000 : Int64).toInt = 1000 by decide]
  generalize q.toInt * (n : Int) * (1000 + (s : Int)) = x at *
  omega
/-- gross needs -/
theorem gro_b {C : CS} {M : MS} (h : St C M) {k : Nat} {Q : Int} (q0 : 0 ≤ Q) (q1 : Q ≤ 10000000000000) (hp : ∀ u, u < kN C 0 → kC C u = k → NN (kA C 3 (kP C u)) 12 ∧ si (kA C 3 (kP C u)) 12 ≤ Q) (hG : ∀ w, w < 12 → kA C 0 k w = c_g C k w) : NN (kA C 0 k) 12 ∧ si (kA C 0 k) 12 ≤ 288288 + 264 * Q := by
  have hn24 := h.ln.1
  have hX : ∀ u, u < kN C 0 → ∀ w, w < 12 → 0 ≤ (c_as1 C k w u).toInt ∧ (c_as1 C k w u).toInt ≤ 11 * Q + 1 ∧ (kC C u = k → (c_as1 C k w u).toInt ≤ 11 * (if w + cLd C (kP C u) < 12 then (kA C 3 (kP C u) (w + cLd C (kP C u))).toInt else 0) + 1) ∧ (¬ kC C u = k → (c_as1 C k w u).toInt = 0) := by
    intro u hu w hw
    obtain ⟨_, hc, ⟨n, n0, n9, en⟩, _⟩ := h.ln.2.2.1 u hu
    obtain ⟨s, hs, es⟩ := h.sc _ hc
    unfold c_as1
    by_cases e : kC C u = k ∧ inR (nI w) (kL C 1 u) (kL C 2 u) = true ∧ w + cLd C (kP C u) < 12
    · rw [if_pos e]
      obtain ⟨p1, p2⟩ := hp u hu e.1
      have a0 := p1 _ e.2.2
      have a1 : (kA C 3 (kP C u) (w + cLd C (kP C u))).toInt ≤ Q := Int.le_trans (sz_one (F := fun i => (kA C 3 (kP C u) i).toInt) e.2.2 p1) p2
      obtain ⟨b0, b1⟩ := of_b (C := C) (u := u) a0 a1 q1 n9 en hs es
      rw [if_pos e.2.2]
      exact ⟨b0, by omega, fun _ => b1, fun z => absurd e.1 z⟩
    · rw [if_neg e]
      refine ⟨by decide, by show (0 : Int) ≤ _; omega, fun z => ?_, fun _ => by decide⟩
      show (0 : Int) ≤ _
      split
      · have := (hp u hu z).1 _ (by assumption); omega
      · omega
  have hA : ∀ w, w < 12 → NN (c_as1 C k w) (kN C 0) ∧ si (c_as1 C k w) (kN C 0) ≤ 24 * (11 * Q + 1) := by
    intro w hw
    refine ⟨fun u hu => (hX u hu w hw).1, ?_⟩
    have h1 : si (c_as1 C k w) (kN C 0) ≤ sz (fun _ => 11 * Q + 1) (kN C 0) := sz_le (fun u hu => (hX u hu w hw).2.1)
    rw [sz_c] at h1
    have h2 : (kN C 0 : Int) * (11 * Q + 1) ≤ 24 * (11 * Q + 1) := Int.mul_le_mul_of_nonneg_right (by omega) (by omega)
    omega
  have hg : ∀ w, w < 12 → 0 ≤ (kA C 0 k w).toInt ∧ (kA C 0 k w).toInt ≤ 24000 + si (c_as1 C k w) (kN C 0) := by
    intro w hw
    obtain ⟨a1, a2⟩ := hA w hw
    have hd := h.bc 1 (by decide) (by decide)
    obtain ⟨d1, d2⟩ := csum_b h.b1 (nI k) (nI w) (kN C 1) (Nat.le_refl _) hd.2
    have hs := sg_i a1 (by omega)
    have hs0 := si_0 a1
    rw [hG w hw]
    unfold c_g
    rw [c_as_sg, i_add (by omega) (by omega), hs]
    omega
  refine ⟨fun w hw => (hg w hw).1, ?_⟩
  have h1 : si (kA C 0 k) 12 ≤ sz (fun w => 24000 + sz (fun u => (c_as1 C k w u).toInt) (kN C 0)) 12 := sz_le (fun w hw => (hg w hw).2)
  rw [sz_add, sz_c, sz_sw (fun w u => (c_as1 C k w u).toInt) 12 (kN C 0)] at h1
  have h2 : sz (fun u => sz (fun w => (c_as1 C k w u).toInt) 12) (kN C 0) ≤ sz (fun _ => 11 * Q + 12) (kN C 0) := by
    refine sz_le (fun u hu => ?_)
    by_cases e : kC C u = k
    · have h3 : sz (fun w => (c_as1 C k w u).toInt) 12 ≤ sz (fun w => 11 * (if w + cLd C (kP C u) < 12 then (kA C 3 (kP C u) (w + cLd C (kP C u))).toInt else 0) + 1) 12 := sz_le (fun w hw => (hX u hu w hw).2.2.1 e)
      rw [sz_add, sz_mul, sz_c] at h3
      have hl4 := h.cc.l4 (h.ln.2.2.1 u hu).1
      have h4 := sz_sh (F := fun i => (kA C 3 (kP C u) i).toInt) (hp u hu e).1 (ld := cLd C (kP C u)) (by omega) 12
      have h5 := (hp u hu e).2
      unfold si at h5
      omega
    · have h3 : sz (fun w => (c_as1 C k w u).toInt) 12 ≤ sz (fun _ => 0) 12 := sz_le (fun w hw => by rw [(hX u hu w hw).2.2.2 e]; exact Int.le_refl _)
      rw [sz_c] at h3
      omega
  rw [sz_c] at h2
  have h3 : (kN C 0 : Int) * (11 * Q + 12) ≤ 24 * (11 * Q + 12) := Int.mul_le_mul_of_nonneg_right (by omega) (by omega)
  omega
/-- needs -/
theorem mo_b {f : Nat → Int64} {N : Int} (n0 : 0 ≤ N) {n : Nat} (h : ∀ i, i < n → (f i).toInt ≤ N) : 0 ≤ (p_mo f n).toInt ∧ (p_mo f n).toInt ≤ N := by
  induction n with
  | zero => rw [p_mo]; exact ⟨by decide, n0⟩
  | succ n ih =>
    obtain ⟨i1, i2⟩ := ih (fun i hi => h i (by omega))
    rw [p_mo]
    split
    · rename_i q
      rw [Int64.lt_iff_toInt_lt] at q
      exact ⟨by omega, h n (by omega)⟩
    · exact ⟨i1, i2⟩
theorem nd_b {f : Nat → Int64} {N : Int} (n0 : 0 ≤ N) (ld : Nat) (h : ∀ i, i < 12 → (f i).toInt ≤ N) {i : Nat} (hi : i ≤ 12) : 0 ≤ (p_nd f ld i).toInt ∧ (p_nd f ld i).toInt ≤ N := by
  cases i with
  | zero => rw [p_nd]; exact ⟨by decide, n0⟩
  | succ i =>
    rw [p_nd]
    split
    · exact ⟨by decide, n0⟩
    · exact mo_b n0 (fun j hj => h j (by omega))
theorem la_b {C : CS} {M : MS} (h : St C M) {k : Nat} (hk : k < 12) {S : Int} (hS : S ≤ 4611686018427387904) (hN : NN (kA C 0 k) 12) (hs : si (kA C 0 k) 12 ≤ S) {w : Nat} (hw : w < 12) : (c_la C k w).toInt ≤ S + 1000 := by
  unfold c_la
  rw [c_ba_sg]
  obtain ⟨a, ha, ea⟩ := (h.fb k hk 4).2.2.2.1 rfl
  obtain ⟨b, hb, eb⟩ := (h.fb k hk 8).2.2.2.2.2 rfl
  rw [ea, eb]
  have e1 := i_nI (n := a) (by omega)
  have e2 := i_nI (n := b) (by omega)
  have ho : NN (fun w => c_sum C 2 (nI k) (nI w) (kN C 2)) 12 := fun i _ => (csum_b h.b2 (nI k) (nI i) (kN C 2) (Nat.le_refl _) (h.bc 2 (by decide) (by decide)).2).1
  have hos : si (fun w => c_sum C 2 (nI k) (nI w) (kN C 2)) 12 ≤ 288000 := by
    have h24 := (h.bc 2 (by decide) (by decide)).2
    have z : si (fun w => c_sum C 2 (nI k) (nI w) (kN C 2)) 12 ≤ sz (fun _ => 24000) 12 := sz_le (fun i _ => by
      have := (csum_b h.b2 (nI k) (nI i) (kN C 2) (Nat.le_refl _) h24).2
      show (c_sum C 2 (nI k) (nI i) (kN C 2)).toInt ≤ 24000
      omega)
    rw [sz_c] at z
    omega
  obtain ⟨o1, o2⟩ := sg_up ho (n := w + 1) (by omega) (by omega)
  obtain ⟨g1, g2⟩ := sg_up hN (n := w + 1) (by omega) (by omega)
  have m1 : ((nI b).toInt64 + sg (fun w => c_sum C 2 (nI k) (nI w) (kN C 2)) (w + 1)).toInt = (b : Int) + (sg (fun w => c_sum C 2 (nI k) (nI w) (kN C 2)) (w + 1)).toInt := by rw [i_add (by omega) (by omega), e2]
  have m2 : ((nI b).toInt64 + sg (fun w => c_sum C 2 (nI k) (nI w) (kN C 2)) (w + 1) - sg (kA C 0 k) (w + 1)).toInt = (b : Int) + (sg (fun w => c_sum C 2 (nI k) (nI w) (kN C 2)) (w + 1)).toInt - (sg (kA C 0 k) (w + 1)).toInt := by rw [i_sub (by omega) (by omega), m1]
  rw [i_sub (by omega) (by omega), m2, e1]
  omega
/-- lots -/
theorem got_b {ru z : Int32} {ld : Nat} {su ho : Int64} {f b : Nat → Int64} {N : Int} (n0 : 0 ≤ N) (hN : N ≤ 4611686018427387904) (h : ∀ i, i < 12 → (f i).toInt ≤ N) {a : Nat} (a1 : 1 ≤ a) (a2 : a ≤ 1000) (ez : z = nI a) {n : Nat} (hn : n ≤ 12) : 0 ≤ (p_got ru z ld su ho (p_nd f ld) b n).toInt ∧ (p_got ru z ld su ho (p_nd f ld) b n).toInt ≤ N + 999 ∧ ∀ w, w < n → 0 ≤ (p_q ru z ld su ho (p_nd f ld) b w (p_got ru z ld su ho (p_nd f ld) b w)).toInt ∧ (p_got ru z ld su ho (p_nd f ld) b (w + 1)).toInt = (p_got ru z ld su ho (p_nd f ld) b w).toInt + (p_q ru z ld su ho (p_nd f ld) b w (p_got ru z ld su ho (p_nd f ld) b w)).toInt := by
  induction n with
  | zero => rw [p_got]; exact ⟨by decide, by show (0 : Int) ≤ _; omega, fun w hw => by omega⟩
  | succ n ih =>
    obtain ⟨i1, i2, i3⟩ := ih (by omega)
    have hstep : 0 ≤ (p_q ru z ld su ho (p_nd f ld) b n (p_got ru z ld su ho (p_nd f ld) b n)).toInt ∧ (p_got ru z ld su ho (p_nd f ld) b n).toInt + (p_q ru z ld su ho (p_nd f ld) b n (p_got ru z ld su ho (p_nd f ld) b n)).toInt ≤ N + 999 := by
      generalize p_got ru z ld su ho (p_nd f ld) b n = g at *
      unfold p_q
      by_cases e : ld ≤ n ∧ g < p_nd f ld (n + 1)
      · rw [if_pos e]
        have e2 := e.2
        rw [Int64.lt_iff_toInt_lt] at e2
        obtain ⟨c1, c2⟩ := nd_b n0 ld h (i := n + 1) (by omega)
        have hge : ∀ d, n + 1 + d ≤ 12 → 0 ≤ (p_nd f ld (n + 1 + d) - g).toInt ∧ g.toInt + (p_nd f ld (n + 1 + d) - g).toInt ≤ N + 999 := by
          intro d hd
          obtain ⟨d1, d2⟩ := nd_b n0 ld h (i := n + 1 + d) hd
          have hm := nd_mono f ld (n + 1) d
          rw [Int64.le_iff_toInt_le] at hm
          rw [i_sub (by omega) (by omega)]
          omega
        unfold p_lot
        by_cases r0 : ru = 0
        · rw [if_pos r0]; exact hge 0 (by omega)
        · rw [if_neg r0]
          by_cases r1 : ru = 1
          · rw [if_pos r1, ez]
            have ea := i_nI (n := a) (by omega)
            have m1 : (p_nd f ld (n + 1) - g).toInt = (p_nd f ld (n + 1)).toInt - g.toInt := i_sub (by omega) (by omega)
            have m2 : (p_nd f ld (n + 1) - g + (nI a).toInt64).toInt = (p_nd f ld (n + 1)).toInt - g.toInt + a := by rw [i_add (by omega) (by omega), m1, ea]
            have m3 : (p_nd f ld (n + 1) - g + (nI a).toInt64 - 1).toInt = (p_nd f ld (n + 1)).toInt - g.toInt + a - 1 := by rw [i_sub (by rw [m2, show (1 : Int64).toInt = 1 by decide]; omega) (by rw [m2, show (1 : Int64).toInt = 1 by decide]; omega), m2]; rfl
            have m4 : ((p_nd f ld (n + 1) - g + (nI a).toInt64 - 1) / (nI a).toInt64).toInt = ((p_nd f ld (n + 1)).toInt - g.toInt + a - 1) / a := by rw [i_div (by omega), m3, ea]
            have d1 := Int.emod_add_mul_ediv ((p_nd f ld (n + 1)).toInt - g.toInt + a - 1) a
            have d2 := Int.emod_nonneg ((p_nd f ld (n + 1)).toInt - g.toInt + a - 1) (show (a : Int) ≠ 0 by omega)
            have d3 := Int.emod_lt_of_pos ((p_nd f ld (n + 1)).toInt - g.toInt + a - 1) (show (0 : Int) < a by omega)
            generalize ((p_nd f ld (n + 1)).toInt - g.toInt + a - 1) % (a : Int) = md at *
            generalize ((p_nd f ld (n + 1)).toInt - g.toInt + a - 1) / (a : Int) = dv at *
            rw [Int.mul_comm] at d1
            rw [i_mul (by rw [m4, ea]; omega) (by rw [m4, ea]; omega), m4, ea]
            omega
          · rw [if_neg r1]
            by_cases r2 : ru = 2
            · rw [if_pos r2, ez, nI_clamp (by omega)]
              have := hge ((if n + a - 1 < 12 then n + a - 1 else 11) - n) (by split <;> omega)
              rw [show n + 1 + ((if n + a - 1 < 12 then n + a - 1 else 11) - n) = (if n + a - 1 < 12 then n + a - 1 else 11) + 1 by split <;> omega] at this
              exact this
            · rw [if_neg r2]
              unfold p_last
              have hl := p_lst_lt (p_f su ho (p_nd f ld) b n) (12 - n) (by omega)
              have := hge (p_lst (p_f su ho (p_nd f ld) b n) (12 - n)) (by omega)
              rw [show n + 1 + p_lst (p_f su ho (p_nd f ld) b n) (12 - n) = n + p_lst (p_f su ho (p_nd f ld) b n) (12 - n) + 1 by omega] at this
              exact this
      · rw [if_neg e]
        show (0 : Int) ≤ 0 ∧ g.toInt + 0 ≤ N + 999
        omega
    have hadd : (p_got ru z ld su ho (p_nd f ld) b (n + 1)).toInt = (p_got ru z ld su ho (p_nd f ld) b n).toInt + (p_q ru z ld su ho (p_nd f ld) b n (p_got ru z ld su ho (p_nd f ld) b n)).toInt := by
      rw [p_got, i_add (by omega) (by omega)]
    refine ⟨by omega, by omega, fun w hw => ?_⟩
    by_cases e : w = n
    · subst e; exact ⟨hstep.1, hadd⟩
    · exact i3 w (by omega)
theorem pl_b {C : CS} {M : MS} (h : St C M) {k : Nat} (hk : k < 12) {S : Int} (s0 : 0 ≤ S) (hS : S ≤ 4611686018427380000) (hN : NN (kA C 0 k) 12) (hs : si (kA C 0 k) 12 ≤ S) : NN (PLc C k) 12 ∧ si (PLc C k) 12 ≤ S + 1999 := by
  obtain ⟨a, a1, a2, ea⟩ := (h.fb k hk 2).2.1 rfl
  have z : ∀ n, n ≤ 12 → _ := fun n hn => got_b (ru := kI C 1 k) (z := kI C 2 k) (ld := cLd C k) (su := c_su C k) (ho := c_ho C k) (f := c_la C k) (b := bC C k) (N := S + 1000) (by omega) (by omega) (fun i hi => la_b h hk (by omega) hN hs hi) a1 a2 ea (n := n) hn
  refine ⟨fun w hw => ((z 12 (Nat.le_refl _)).2.2 w hw).1, ?_⟩
  have e : ∀ n, n ≤ 12 → si (PLc C k) n = (gotC C k n).toInt := by
    intro n
    induction n with
    | zero => intro _; rfl
    | succ n ih =>
      intro hn
      have y := ((z (n + 1) hn).2.2 n (by omega)).2
      show si (PLc C k) n + (PLc C k n).toInt = _
      rw [ih (by omega)]
      exact y.symm
  rw [e 12 (Nat.le_refl _)]
  have := (z 12 (Nat.le_refl _)).2.1
  have e3 : gotC C k 12 = p_got (kI C 1 k) (kI C 2 k) (cLd C k) (c_su C k) (c_ho C k) (p_nd (c_la C k) (cLd C k)) (bC C k) 12 := rfl
  rw [e3]
  omega
