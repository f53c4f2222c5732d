/-! PLAIN LAW: pegs -/
def Qf : Nat → Int
  | 0 => 0
  | n + 1 => 290287 + 264 * Qf n
theorem bd_all {C : CS} {M : MS} (h : Rel C M) (h0 : kT C = 0) {k : Nat} (hk : k < 12) : NN (kA C 0 k) 12 ∧ si (kA C 0 k) 12 ≤ 2000000000000000 ∧ NN (kA C 3 k) 12 ∧ si (kA C 3 k) 12 ≤ 2000000000000000 := by
  have hG : ∀ k, k < 12 → ∀ w, w < 12 → kA C 0 k w = c_g C k w := fun k hk => h.j2 k hk (h.w0 k hk) (h.t0 h0 k hk) (fun u hu _ => h.t0 h0 _ (h.st.ln.2.2.1 u hu).1)
  have hP : ∀ k, k < 12 → ∀ w, w < 12 → kA C 3 k w = PLc C k w := fun k hk w hw => (h.jt.1 k hk (h.t0 h0 k hk) w hw).1
  have hstep : ∀ k, k < 12 → ∀ Q : Int, 0 ≤ Q → Q ≤ 10000000000000 → (∀ u, u < kN C 0 → kC C u = k → NN (kA C 3 (kP C u)) 12 ∧ si (kA C 3 (kP C u)) 12 ≤ Q) → NN (kA C 0 k) 12 ∧ si (kA C 0 k) 12 ≤ 288288 + 264 * Q ∧ NN (kA C 3 k) 12 ∧ si (kA C 3 k) 12 ≤ 290287 + 264 * Q := by
    intro k hk Q q0 q1 hp
    obtain ⟨g1, g2⟩ := gro_b h.st q0 q1 hp (hG k hk)
    obtain ⟨p1, p2⟩ := pl_b h.st hk (S := 288288 + 264 * Q) (by omega) (by omega) g1 g2
    refine ⟨g1, g2, fun w hw => by rw [hP k hk w hw]; exact p1 w hw, ?_⟩
    have e : si (kA C 3 k) 12 = si (PLc C k) 12 := sz_cg (fun w hw => by rw [hP k hk w hw])
    omega
  have hq : ∀ L, L ≤ 4 → 0 ≤ Qf L ∧ Qf L ≤ 10000000000000 := by
    intro L hL
    rcases (show L = 0 ∨ L = 1 ∨ L = 2 ∨ L = 3 ∨ L = 4 by omega) with e | e | e | e | e <;> subst e <;> exact ⟨by decide, by decide⟩
  have hall : ∀ L, L ≤ 4 → ∀ k, k < 12 → Lk C k < L → NN (kA C 3 k) 12 ∧ si (kA C 3 k) 12 ≤ Qf L := by
    intro L
    induction L with
    | zero => intro _ k _ q; omega
    | succ L ih =>
      intro hL k hk hlt
      obtain ⟨q0, q1⟩ := hq L (by omega)
      have z := hstep k hk (Qf L) q0 q1 (fun u hu eu => by
        obtain ⟨hp, hc, _⟩ := h.st.ln.2.2.1 u hu
        have hE := h.st.mE hu
        have := h.lv.lt hp hc hE
        rw [eu] at this
        exact ih (by omega) _ hp (by omega))
      exact ⟨z.2.2.1, z.2.2.2⟩
  obtain ⟨q0, q1⟩ := hq 4 (Nat.le_refl _)
  have hl := (h.lv k hk).2.1
  have z := hstep k hk (Qf 4) q0 q1 (fun u hu eu => by
    obtain ⟨hp, hc, _⟩ := h.st.ln.2.2.1 u hu
    have hE := h.st.mE hu
    have := h.lv.lt hp hc hE
    rw [eu] at this
    exact hall 4 (Nat.le_refl _) _ hp (by omega))
  have e4 : Qf 4 = 5361515255335 := by decide
  rw [e4] at z
  exact ⟨z.1, by have := z.2.1; omega, z.2.2.1, by have := z.2.2.2; omega⟩
/-- what two stretches have in common -/
theorem ov_eq {a m b n : Int64} (ha : 0 ≤ a.toInt) (hm : 0 ≤ m.toInt) (hb : 0 ≤ b.toInt) (hn : 0 ≤ n.toInt) (ha2 : a.toInt ≤ 1000000000000000000) (hm2 : m.toInt ≤ 1000000000000000000) (hb2 : b.toInt ≤ 1000000000000000000) (hn2 : n.toInt ≤ 1000000000000000000) : c_ov a m b n = p_ov a (a + m) b (b + n) := by
  have e1 : (a + m).toInt = a.toInt + m.toInt := i_add (by omega) (by omega)
  have e2 : (b + n).toInt = b.toInt + n.toInt := i_add (by omega) (by omega)
  have elo : l_mx a b = p_lo a b := rfl
  have ehi : l_mn (a + m) (b + n) = p_hi (a + m) (b + n) := by
    unfold l_mn p_hi
    by_cases q : b + n < a + m
    · rw [if_pos q, if_neg (fun z => Int64.lt_irrefl (Int64.lt_trans q z))]
    · rw [if_neg q]
      by_cases z : a + m < b + n
      · rw [if_pos z]
      · rw [if_neg z]
        rw [Int64.lt_iff_toInt_lt] at q z
        exact Int64.toInt_inj.mp (by omega)
  unfold c_ov p_ov
  rw [elo, ehi]
  have hlo : 0 ≤ (p_lo a b).toInt ∧ (p_lo a b).toInt ≤ 1000000000000000000 := by unfold p_lo; split <;> omega
  have hhi : 0 ≤ (p_hi (a + m) (b + n)).toInt ∧ (p_hi (a + m) (b + n)).toInt ≤ 2000000000000000000 := by unfold p_hi; split <;> omega
  generalize p_lo a b = lo at *
  generalize p_hi (a + m) (b + n) = hi at *
  have e3 : (hi - lo).toInt = hi.toInt - lo.toInt := i_sub (by omega) (by omega)
  unfold l_mx
  by_cases q : lo < hi
  · rw [if_pos q]
    rw [Int64.lt_iff_toInt_lt] at q
    rw [if_neg]
    rw [Int64.lt_iff_toInt_lt, e3, show (0 : Int64).toInt = 0 by decide]
    omega
  · rw [if_neg q]
    rw [Int64.lt_iff_toInt_lt] at q
    by_cases z : hi - lo < 0
    · rw [if_pos z]
    · rw [if_neg z]
      rw [Int64.lt_iff_toInt_lt, e3, show (0 : Int64).toInt = 0 by decide] at z
      refine Int64.toInt_inj.mp ?_
      rw [e3, show (0 : Int64).toInt = 0 by decide]
      omega
theorem bk1 {C : CS} {M : MS} (h : Bk C M 1) {i : Nat} (hi : i < kN C 1) : kE C 1 i 0 = mI M 14 i ∧ kE C 1 i 1 = mI M 15 i ∧ kE C 1 i 2 = mI M 16 i := by
  have := h.2.1 i hi
  rw [show 24 * (1 - 1) + i = i by omega] at this
  exact this
theorem bk2 {C : CS} {M : MS} (h : Bk C M 2) {i : Nat} (hi : i < kN C 2) : kE C 2 i 0 = mI M 14 (24 + i) ∧ kE C 2 i 1 = mI M 15 (24 + i) ∧ kE C 2 i 2 = mI M 16 (24 + i) := by
  have := h.2.1 i hi
  rw [show 24 * (2 - 1) + i = 24 + i by omega] at this
  exact this
theorem pf_eq {C : CS} {M : MS} (h : Rel C M) {u a b : Nat} (hu : u < kN C 1) (ha : a < 12) (hb : b < 12) (ea : kE C 1 u 0 = nI a) (eb : kE C 1 u 1 = nI b) : c_pf C a b u = m_pb M u a u := by
  have ew : mI M 15 u = nI b := by rw [← (bk1 h.st.b1 hu).2.1, eb]
  have hbase : m_pb M u a 0 = c_cb C a b := by
    rw [m_pb, ew, nI_cl hb, c_cb_sg, m_up_sg]
    by_cases q : 0 < b
    · rw [if_pos (show 0 < nI b from nI_lt (a := 0) q (by omega))]
      exact sg_c (fun v hv => (h.rw a ha v (by omega)).1)
    · have : b = 0 := by omega
      subst this
      rw [if_neg (by decide)]; rfl
  have key : ∀ n, n ≤ u → m_pb M u a n = c_cb C a b + c_sumB C 1 u n := by
    intro n
    induction n with
    | zero => intro _; rw [hbase, c_sumB]; grind
    | succ n ih =>
      intro hn
      obtain ⟨d0, d1, d2⟩ := bk1 h.st.b1 (i := n) (by omega)
      rw [m_pb, c_sumB, ih (by omega), ← d0, ← d1, ← d2, ea, ew, eb]
      generalize c_cb C a b = x
      generalize c_sumB C 1 u n = y
      by_cases q : kE C 1 n 0 = nI a ∧ kE C 1 n 1 = nI b
      · rw [if_pos q, if_pos q]; grind
      · rw [if_neg q, if_neg q]; grind
  unfold c_pf
  rw [key u (Nat.le_refl _)]
theorem sup_t {M : MS} (a v u n : Nat) : m_sup M a v true u n = (mI M 7 a).toInt64 + m_sum M 1 (nI a) (nI v) n := by
  induction n with
  | zero => rw [m_sup, m_sum]; grind
  | succ n ih =>
    rw [m_sup, m_sum, ih, show 24 * 1 + n = 24 + n by omega]
    generalize (mI M 7 a).toInt64 = x
    generalize m_sum M 1 (nI a) (nI v) n = y
    have e : (mI M 14 (24 + n) = nI a ∧ (mI M 15 (24 + n) < nI v ∨ (mI M 15 (24 + n) = nI v ∧ (true = true ∨ n < u)))) ↔ (mI M 14 (24 + n) = nI a ∧ mI M 15 (24 + n) ≤ nI v) := by
      refine and_congr Iff.rfl ⟨fun q => ?_, fun q => ?_⟩
      · rcases q with q | q
        · exact Int32.le_of_lt q
        · rw [q.1]; exact Int32.le_refl _
      · by_cases z : mI M 15 (24 + n) < nI v
        · exact Or.inl z
        · refine Or.inr ⟨?_, Or.inl rfl⟩
          rw [Int32.le_iff_toInt_le] at q
          rw [Int32.lt_iff_toInt_lt] at z
          exact Int32.toInt_inj.mp (by omega)
    by_cases q : mI M 14 (24 + n) = nI a ∧ mI M 15 (24 + n) ≤ nI v
    · rw [if_pos (e.mpr q), if_pos q]; grind
    · rw [if_neg (fun z => q (e.mp z)), if_neg q]
theorem fi2_eq {C : CS} {M : MS} (h : Rel C M) {a v : Nat} (ha : a < 12) (hv : v < 12) (u : Nat) : m_supr M a v true u = c_sp C a v + c_sum C 2 (nI a) (nI v) (kN C 2) := by
  unfold m_supr
  have e0 : (if 0 < v then m_up (mL M 19) a v else 0) = sg (kA C 3 a) v := by
    by_cases q : 0 < v
    · rw [if_pos q, m_up_sg]; exact sg_c (fun w hw => (h.rw a ha w (by omega)).2)
    · have : v = 0 := by omega
      subst this; rfl
  have e1 : sg (fun w => c_sum C 2 (nI a) (nI w) (kN C 2)) v + c_sum C 2 (nI a) (nI v) (kN C 2) = m_sum M 1 (nI a) (nI v) (mCt M 1) := bk_all h.st.b2 a v hv
  rw [e0, sup_t, c_sp_sg, ← e1, h.st.fi a ha 7 (by decide)]
  generalize (mI M 7 a).toInt64 = x
  generalize sg (fun w => c_sum C 2 (nI a) (nI w) (kN C 2)) v = y
  generalize c_sum C 2 (nI a) (nI v) (kN C 2) = z
  generalize sg (kA C 3 a) v = t
  grind
theorem sup_f {C : CS} {M : MS} (h : Rel C M) {a bo v : Nat} (ha : a < 12) (hbo : bo < 12) (ev : kE C 2 v 0 = nI a) (ew : kE C 2 v 1 = nI bo) : ∀ n, n ≤ kN C 2 → m_sup M a bo false v n = (mI M 7 a).toInt64 + sg (fun w => c_sum C 2 (nI a) (nI w) n) bo + c_sumB C 2 v (if n < v then n else v) := by
  intro n
  induction n with
  | zero =>
    intro _
    have e1 : sg (fun w => c_sum C 2 (nI a) (nI w) 0) bo = 0 := sg_0 bo
    have e2 : (if 0 < v then 0 else v) = 0 := by split <;> omega
    rw [m_sup, e1, e2, c_sumB]; grind
  | succ n ih =>
    intro hn
    obtain ⟨d0, d1, d2⟩ := bk2 h.st.b2 (i := n) (by omega)
    obtain ⟨_, ⟨b, hb, eb⟩, _⟩ := h.st.b2.2.2 n (by omega)
    have e5 : sg (fun w => c_sum C 2 (nI a) (nI w) (n + 1)) bo = sg (fun w => c_sum C 2 (nI a) (nI w) n) bo + sg (fun w => if kE C 2 n 0 = nI a ∧ kE C 2 n 1 = nI w then (kE C 2 n 2).toInt64 else 0) bo := sg_add _ _ _
    have e6 : sg (fun w => if kE C 2 n 0 = nI a ∧ kE C 2 n 1 = nI w then (kE C 2 n 2).toInt64 else 0) bo = if kE C 2 n 0 = nI a ∧ b < bo then (kE C 2 n 2).toInt64 else 0 := by
      by_cases q : kE C 2 n 0 = nI a
      · simp only [q, true_and, eb]
        exact sg_wk _ hb bo (by omega)
      · simp only [q, false_and, if_false]
        exact sg_0 bo
    have e7 : c_sumB C 2 v (if n + 1 < v then n + 1 else v) = c_sumB C 2 v (if n < v then n else v) + (if kE C 2 n 0 = nI a ∧ b = bo ∧ n < v then (kE C 2 n 2).toInt64 else 0) := by
      by_cases q : n < v
      · have e8 : (if n + 1 < v then n + 1 else v) = n + 1 := by split <;> omega
        rw [e8, if_pos q, c_sumB, ev, ew, eb]
        congr 1
        by_cases z : kE C 2 n 0 = nI a ∧ b = bo
        · rw [if_pos ⟨z.1, by rw [z.2]⟩, if_pos ⟨z.1, z.2, q⟩]
        · rw [if_neg (fun y => z ⟨y.1, (nI_eq (by omega) (by omega)).mp y.2⟩), if_neg (fun y => z ⟨y.1, y.2.1⟩)]
      · rw [if_neg (by omega), if_neg q, if_neg (fun y => q y.2.2)]
        grind
    rw [m_sup, ih (by omega), e5, e6, e7, ← d0, ← d1, ← d2, eb]
    generalize (mI M 7 a).toInt64 = x
    generalize sg (fun w => c_sum C 2 (nI a) (nI w) n) bo = y
    generalize c_sumB C 2 v (if n < v then n else v) = z
    generalize (kE C 2 n 2).toInt64 = q
    by_cases h0 : kE C 2 n 0 = nI a
    · by_cases h1 : b < bo
      · rw [if_pos ⟨h0, Or.inl (nI_lt h1 (by omega))⟩, if_pos ⟨h0, h1⟩, if_neg (fun w => by omega)]; grind
      · rw [if_neg (show ¬ (kE C 2 n 0 = nI a ∧ b < bo) from fun w => h1 w.2)]
        by_cases h2 : b = bo ∧ n < v
        · rw [if_pos ⟨h0, Or.inr ⟨by rw [h2.1], Or.inr h2.2⟩⟩, if_pos ⟨h0, h2⟩]; grind
        · rw [if_neg (show ¬ (kE C 2 n 0 = nI a ∧ b = bo ∧ n < v) from fun w => h2 w.2), if_neg]
          · grind
          · rintro ⟨_, w | ⟨w1, w2⟩⟩
            · exact h1 ((nI_ltI (by omega) (by omega)).mp w)
            · rcases w2 with w2 | w2
              · cases w2
              · exact h2 ⟨(nI_eq (by omega) (by omega)).mp w1, w2⟩
    · rw [if_neg (fun w => h0 w.1), if_neg (fun w => h0 w.1), if_neg (fun w => h0 w.1)]; grind
theorem fi1_eq {C : CS} {M : MS} (h : Rel C M) {a bo v : Nat} (ha : a < 12) (hbo : bo < 12) (hv : v < kN C 2) (ev : kE C 2 v 0 = nI a) (ew : kE C 2 v 1 = nI bo) : m_supr M a bo false v = c_sp C a bo + c_sumB C 2 v v := by
  unfold m_supr
  have e0 : (if 0 < bo then m_up (mL M 19) a bo else 0) = sg (kA C 3 a) bo := by
    by_cases q : 0 < bo
    · rw [if_pos q, m_up_sg]; exact sg_c (fun w hw => (h.rw a ha w (by omega)).2)
    · have : bo = 0 := by omega
      subst this; rfl
  have ec : mCt M 1 = kN C 2 := mct_j h.st (j := 2) (by decide) (by decide)
  rw [e0, ec, sup_f h ha hbo ev ew _ (Nat.le_refl _), c_sp_sg, h.st.fi a ha 7 (by decide), if_neg (by omega)]
  generalize (mI M 7 a).toInt64 = x
  generalize sg (fun w => c_sum C 2 (nI a) (nI w) (kN C 2)) bo = y
  generalize c_sumB C 2 v v = z
  generalize sg (kA C 3 a) bo = t
  grind
theorem pf_b {C : CS} {M : MS} (h : Rel C M) (h0 : kT C = 0) {u a b : Nat} (hu : u < kN C 1) (ha : a < 12) (hb : b < 12) : 0 ≤ (c_pf C a b u).toInt ∧ (c_pf C a b u).toInt ≤ 3000000000000000 := by
  obtain ⟨g1, g2, _⟩ := bd_all h h0 ha
  have h24 := (h.st.bc 1 (by decide) (by decide)).2
  obtain ⟨s1, s2⟩ := csumB_b (u := u) h.st.b1 u (by omega) (by omega)
  obtain ⟨t1, t2⟩ := sg_up g1 (n := b) (by omega) (by omega)
  unfold c_pf
  rw [c_cb_sg, i_add (by omega) (by omega)]
  omega
theorem sp_b {C : CS} {M : MS} (h : Rel C M) (h0 : kT C = 0) {a b : Nat} (ha : a < 12) (hb : b < 12) : 0 ≤ (c_sp C a b).toInt ∧ (c_sp C a b).toInt ≤ 3000000000000000 := by
  obtain ⟨_, _, p1, p2⟩ := bd_all h h0 ha
  obtain ⟨s, hs, es⟩ := (h.st.fb a ha 8).2.2.2.2.2 rfl
  have h24 := (h.st.bc 2 (by decide) (by decide)).2
  have ho : NN (fun w => c_sum C 2 (nI a) (nI w) (kN C 2)) 12 := fun i _ => (csum_b h.st.b2 (nI a) (nI i) (kN C 2) (Nat.le_refl _) h24).1
  have hos : si (fun w => c_sum C 2 (nI a) (nI w) (kN C 2)) 12 ≤ 288000 := by
    have z : si (fun w => c_sum C 2 (nI a) (nI w) (kN C 2)) 12 ≤ sz (fun _ => 24000) 12 := sz_le (fun i _ => by
      have := (csum_b h.st.b2 (nI a) (nI i) (kN C 2) (Nat.le_refl _) h24).2
      show (c_sum C 2 (nI a) (nI i) (kN C 2)).toInt ≤ 24000
      omega)
    rw [sz_c] at z
    omega
  obtain ⟨o1, o2⟩ := sg_up ho (n := b) (by omega) (by omega)
  obtain ⟨q1, q2⟩ := sg_up p1 (n := b) (by omega) (by omega)
  have e2 := i_nI (n := s) (by omega)
  rw [c_sp_sg, es]
  have m1 : ((nI s).toInt64 + sg (fun w => c_sum C 2 (nI a) (nI w) (kN C 2)) b).toInt = (s : Int) + (sg (fun w => c_sum C 2 (nI a) (nI w) (kN C 2)) b).toInt := by rw [i_add (by omega) (by omega), e2]
  rw [i_add (by omega) (by omega), m1]
  omega
theorem r_peg {C : CS} {M : MS} (h : Rel C M) (o : Int64) (d kd nu : Int32) : (k_peg C o d kd nu).1 = mS (mz M 0 (x_peg M d kd nu)) 0 ∧ ((k_peg C o d kd nu).1 = 0 → (k_peg C o d kd nu).2.2 = m_pegr M d kd nu) ∧ Rel (k_peg C o d kd nu).2.1 (mz M 0 (x_peg M d kd nu)) := by
  unfold k_peg
  have b1 : mI M 13 0 = nI (kN C 1) := (h.st.bc 1 (by decide) (by decide)).1
  have b2 : mI M 13 1 = nI (kN C 2) := (h.st.bc 2 (by decide) (by decide)).1
  have n1 := (h.st.bc 1 (by decide) (by decide)).2
  have n2 := (h.st.bc 2 (by decide) (by decide)).2
  cases h1 : inR d 0 (nI (kN C 1) - 1) with
  | false => rw [xg_1 (by rw [b1]; exact h1)]; exact ⟨(mz_0 _ _).symm, fun q => absurd q (show ¬ (1 : Int32) = 0 by decide), Rel_x h 1⟩
  | true =>
    have h1' : inR d 0 (mI M 13 0 - 1) = true := by rw [b1]; exact h1
    cases h2 : inR kd 0 2 with
    | false => rw [xg_2 h1' h2]; exact ⟨(mz_0 _ _).symm, fun q => absurd q (show ¬ (2 : Int32) = 0 by decide), Rel_x h 2⟩
    | true =>
      obtain ⟨u, hu, e⟩ := inR_in (by omega) h1
      subst e
      obtain ⟨⟨a, ha, ea⟩, ⟨b, hb, eb⟩, ⟨m, hm, em⟩⟩ := h.st.b1.2.2 u hu
      have hd := bk1 h.st.b1 hu
      have ea' : mI M 14 u = nI a := by rw [← hd.1, ea]
      have eu : (nI u).toNatClampNeg = u := nI_clamp (by omega)
      simp only [Bool.true_eq_false, if_false, eu, ea, eb, nI_cl ha, nI_cl hb]
      have em2 : (kE C 1 u 2).toInt64 = (mI M 16 u).toInt64 := by rw [hd.2.2]
      have emi : (kE C 1 u 2).toInt64.toInt = (m : Int) := by rw [em, i_nI (by omega)]
      by_cases k0 : kd = 0
      · subst k0
        have hnb : m_numb M 0 nu = true := rfl
        by_cases h3 : kT C = 0
        · have h3' : mS M 20 = 0 := by rw [← h.tg]; exact h3
          have z := xg_0 h1' h2 hnb h3'
          rw [m_pegr_0 (by omega) ha ea' z, z, decide_eq_true h3]
          simp only [decide_true, Bool.true_eq_false, if_false]
          refine ⟨(mz_0 _ _).symm, fun _ => ?_, Rel_x h 0⟩
          obtain ⟨s, hs, es⟩ := (h.st.fb a ha 8).2.2.2.2.2 rfl
          have e2 := i_nI (n := s) (by omega)
          obtain ⟨p1, p2⟩ := pf_b h h3 hu ha hb
          unfold c_peg0 m_pegv m_fi m_la
          rw [if_neg (fun q => absurd q.1 (by decide)), if_pos rfl, if_pos rfl]
          rw [ov_eq p1 (by omega) (by decide) (by rw [es, e2]; omega) (by omega) (by omega) (by decide) (by rw [es, e2]; omega)]
          rw [pf_eq h hu ha hb ea eb, em2, h.st.fi a ha 7 (by decide), Int64.zero_add]
        · have h3' : ¬ mS M 20 = 0 := by rw [← h.tg]; exact h3
          rw [xg_4 h1' h2 hnb h3', decide_eq_false h3]
          exact ⟨(mz_0 _ _).symm, fun q => absurd q (show ¬ (3 : Int32) = 0 by decide), Rel_x h 3⟩
      · by_cases k1 : kd = 1
        · subst k1
          have hnb : m_numb M 1 nu = inR nu 0 (nI (kN C 2) - 1) := by
            unfold m_numb
            rw [decide_eq_false (by decide), if_pos rfl, b2]; rfl
          cases h4 : inR nu 0 (nI (kN C 2) - 1) with
          | false =>
            rw [xg_3 h1' h2 (by rw [hnb]; exact h4)]
            exact ⟨(mz_0 _ _).symm, fun q => absurd q (show ¬ (1 : Int32) = 0 by decide), Rel_x h 1⟩
          | true =>
            rw [h4] at hnb
            by_cases h3 : kT C = 0
            · have h3' : mS M 20 = 0 := by rw [← h.tg]; exact h3
              have z := xg_0 h1' h2 hnb h3'
              rw [m_pegr_0 (by omega) ha ea' z, z, decide_eq_true h3]
              obtain ⟨v, hv, e⟩ := inR_in (by omega) h4
              subst e
              obtain ⟨⟨a2, ha2, ea2⟩, ⟨bo, hbo, ebo⟩, ⟨m2, hm2, em2'⟩⟩ := h.st.b2.2.2 v hv
              have hd2 := bk2 h.st.b2 hv
              have ev : (nI v).toNatClampNeg = v := nI_clamp (by omega)
              simp only [decide_true, Bool.true_eq_false, if_false, if_true, ev, ebo, nI_cl hbo, show decide ((1 : Int32) = 0) = false by decide]
              refine ⟨(mz_0 _ _).symm, fun _ => ?_, Rel_x h 0⟩
              unfold c_peg1 m_pegv m_fi m_la
              by_cases q : kE C 2 v 0 = nI a
              · rw [if_pos q, if_neg (fun y => y.2 (by rw [← hd2.1, q])), if_neg (show ¬ (1 : Int32) = 0 by decide), if_pos rfl, if_neg (show ¬ (1 : Int32) = 0 by decide), if_pos rfl]
                have emi2 : (kE C 2 v 2).toInt64.toInt = (m2 : Int) := by rw [em2', i_nI (by omega)]
                obtain ⟨p1, p2⟩ := pf_b h h3 hu ha hb
                obtain ⟨s1, s2⟩ := sp_b h h3 ha hbo
                obtain ⟨t1, t2⟩ := csumB_b (u := v) h.st.b2 v (by omega) (by omega)
                have m1 : (c_sp C a bo + c_sumB C 2 v v).toInt = (c_sp C a bo).toInt + (c_sumB C 2 v v).toInt := i_add (by omega) (by omega)
                rw [ov_eq p1 (by omega) (by omega) (by omega) (by omega) (by omega) (by omega) (by omega)]
                unfold m_fi
                rw [if_neg (show ¬ (1 : Int32) = 0 by decide), if_pos rfl, ← hd2.2.1, ebo, nI_cl hbo, fi1_eq h ha hbo hv q ebo, pf_eq h hu ha hb ea eb, em2, hd2.2.2]
              · rw [if_neg q, if_pos ⟨rfl, by rw [← hd2.1]; exact q⟩]
            · have h3' : ¬ mS M 20 = 0 := by rw [← h.tg]; exact h3
              rw [xg_4 h1' h2 hnb h3', decide_eq_false h3]
              exact ⟨(mz_0 _ _).symm, fun q => absurd q (show ¬ (3 : Int32) = 0 by decide), Rel_x h 3⟩
        · have k2 := kd_2 k0 k1 h2
          subst k2
          have hnb : m_numb M 2 nu = in12 nu := by
            unfold m_numb
            rw [decide_eq_false (by decide), if_neg (by decide)]; rfl
          cases h4 : in12 nu with
          | false =>
            rw [xg_3 h1' h2 (by rw [hnb]; exact h4)]
            exact ⟨(mz_0 _ _).symm, fun q => absurd q (show ¬ (1 : Int32) = 0 by decide), Rel_x h 1⟩
          | true =>
            rw [h4] at hnb
            by_cases h3 : kT C = 0
            · have h3' : mS M 20 = 0 := by rw [← h.tg]; exact h3
              have z := xg_0 h1' h2 hnb h3'
              rw [m_pegr_0 (by omega) ha ea' z, z, decide_eq_true h3]
              obtain ⟨v, hv, e⟩ := in12_t h4
              subst e
              simp only [Bool.true_eq_false, if_false, if_true, nI_cl hv, show decide ((2 : Int32) = 0) = false by decide, show decide ((2 : Int32) = 1) = false by decide]
              refine ⟨(mz_0 _ _).symm, fun _ => ?_, Rel_x h 0⟩
              unfold c_peg2 m_pegv m_fi m_la
              rw [if_neg (fun y => absurd y.1 (by decide)), if_neg (show ¬ (2 : Int32) = 0 by decide), if_neg (show ¬ (2 : Int32) = 1 by decide), if_neg (show ¬ (2 : Int32) = 0 by decide), if_neg (show ¬ (2 : Int32) = 1 by decide)]
              obtain ⟨p1, p2⟩ := pf_b h h3 hu ha hb
              obtain ⟨s1, s2⟩ := sp_b h h3 ha hv
              obtain ⟨t1, t2⟩ := csum_b h.st.b2 (nI a) (nI v) (kN C 2) (Nat.le_refl _) n2
              obtain ⟨_, _, g1, g2⟩ := bd_all h h3 ha
              have g3 := g1 v hv
              have g4 : (kA C 3 a v).toInt ≤ 2000000000000000 := Int.le_trans (sz_one (F := fun i => (kA C 3 a i).toInt) hv g1) g2
              have m1 : (c_sp C a v + c_sum C 2 (nI a) (nI v) (kN C 2)).toInt = (c_sp C a v).toInt + (c_sum C 2 (nI a) (nI v) (kN C 2)).toInt := i_add (by omega) (by omega)
              rw [ov_eq p1 (by omega) (by omega) (by omega) (by omega) (by omega) (by omega) (by omega)]
              unfold m_fi
              rw [if_neg (show ¬ (2 : Int32) = 0 by decide), if_neg (show ¬ (2 : Int32) = 1 by decide), fi2_eq h ha hv, pf_eq h hu ha hb ea eb, em2, (h.rw a ha v hv).2]
            · have h3' : ¬ mS M 20 = 0 := by rw [← h.tg]; exact h3
              rw [xg_4 h1' h2 hnb h3', decide_eq_false h3]
              exact ⟨(mz_0 _ _).symm, fun q => absurd q (show ¬ (3 : Int32) = 0 by decide), Rel_x h 3⟩
