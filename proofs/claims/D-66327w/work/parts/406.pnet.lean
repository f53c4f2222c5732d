/-! PLAIN LAW: what netting lays -/
def ndC (C : CS) (k : Nat) : Nat → Int64 := p_nd (c_la C k) (cLd C k)
def bC (C : CS) (k : Nat) : Nat → Int64 := p_bs (c_su C k) (c_ho C k) (ndC C k) (fun _ => 0) (12 - cLd C k)
def gotC (C : CS) (k : Nat) : Nat → Int64 := p_got (kI C 1 k) (kI C 2 k) (cLd C k) (c_su C k) (c_ho C k) (ndC C k) (bC C k)
def PLc (C : CS) (k w : Nat) : Int64 := p_q (kI C 1 k) (kI C 2 k) (cLd C k) (c_su C k) (c_ho C k) (ndC C k) (bC C k) w (gotC C k w)
def ndM (M : MS) (k : Nat) : Nat → Int64 := p_nd (m_lacks M k) (mLd M k)
def bM (M : MS) (k : Nat) : Nat → Int64 := p_bs (m_su M k) (m_ho M k) (ndM M k) (fun _ => 0) (12 - mLd M k)
def gotM (M : MS) (k : Nat) : Nat → Int64 := p_got (mI M 0 k) (mI M 1 k) (mLd M k) (m_su M k) (m_ho M k) (ndM M k) (bM M k)
def PLm (M : MS) (k w : Nat) : Int64 := p_q (mI M 0 k) (mI M 1 k) (mLd M k) (m_su M k) (m_ho M k) (ndM M k) (bM M k) w (gotM M k w)
/-- alike inputs, alike plans -/
theorem pl_g {ru z : Int32} {ld : Nat} {su ho : Int64} {nd nd' : Nat → Int64} (h : N12 nd nd') (b0 b1 : Nat → Int64) {w : Nat} (hw : w < 12) : p_q ru z ld su ho nd (p_bs su ho nd b0 (12 - ld)) w (p_got ru z ld su ho nd (p_bs su ho nd b0 (12 - ld)) w) = p_q ru z ld su ho nd' (p_bs su ho nd' b1 (12 - ld)) w (p_got ru z ld su ho nd' (p_bs su ho nd' b1 (12 - ld)) w) := by
  have hb : ∀ j, ld < j → j ≤ 12 → p_bs su ho nd b0 (12 - ld) j = p_bs su ho nd' b1 (12 - ld) j := fun j h1 h2 => bs_c h _ (by omega) j (by omega) h2
  rw [got_c h hb (by omega), pq_c h hw hb]
theorem pl_eq {C : CS} {M : MS} {k : Nat} (hk : k < 12) (hF : Fi C M) (h : ∀ v, v < 12 → c_la C k v = m_lacks M k v) {w : Nat} (hw : w < 12) : PLc C k w = PLm M k w := by
  have eL : cLd C k = mLd M k := by unfold cLd mLd; rw [hF _ hk 2 (by decide)]
  have e0 := hF k hk 0 (by decide)
  have e1 := hF k hk 1 (by decide)
  have e5 : c_su C k = m_su M k := by unfold c_su m_su; rw [hF _ hk 5 (by decide)]
  have e6 : c_ho C k = m_ho M k := by unfold c_ho m_ho; rw [hF _ hk 6 (by decide)]
  unfold PLc PLm gotC gotM bC bM
  rw [e0, e1, eL, e5, e6]
  have hN : N12 (ndC C k) (ndM M k) := by unfold ndC ndM; rw [eL]; exact nd_c h _
  exact pl_g hN _ _ hw
theorem sg_pl {C : CS} {k n : Nat} : sg (PLc C k) n = gotC C k n := by
  induction n with
  | zero => rfl
  | succ n ih => rw [sg, ih]; rfl
/-- the class's plan reads fields, orders and the gross row alone -/
theorem PLc_of {C C' : CS} {k : Nat} (h1 : ∀ j, 1 ≤ j → j ≤ 8 → kI C' j k = kI C j k) (h2 : ∀ v, v < 12 → c_la C' k v = c_la C k v) {w : Nat} (hw : w < 12) : PLc C' k w = PLc C k w := by
  have eL : cLd C' k = cLd C k := by unfold cLd; rw [h1 3 (by decide) (by decide)]
  have e5 : c_su C' k = c_su C k := by unfold c_su; rw [h1 6 (by decide) (by decide)]
  have e6 : c_ho C' k = c_ho C k := by unfold c_ho; rw [h1 7 (by decide) (by decide)]
  unfold PLc gotC bC
  rw [h1 1 (by decide) (by decide), h1 2 (by decide) (by decide), eL, e5, e6]
  have hN : N12 (ndC C' k) (ndC C k) := by unfold ndC; rw [eL]; exact nd_c h2 _
  exact pl_g hN _ _ hw
theorem cq_c {r : Nat} {z : Int32} {ld : Nat} {nd nd' : Nat → Int64} {lst : Nat → Nat} (h : N12 nd nd') (hl : r = 3 → ∀ w, ld ≤ w → w < 12 → lst w < 12) (hr : r ≤ 3) {w : Nat} (hw : w < 12) (g : Int64) : c_q r z ld nd lst w g = c_q r z ld nd' lst w g := by
  unfold c_q
  rw [h (w + 1) (by omega)]
  by_cases e : ld ≤ w ∧ g < nd' (w + 1)
  · rw [if_pos e, if_pos e]
    unfold c_lot
    rw [h (w + 1) (by omega), h ((if w + z.toNatClampNeg - 1 < 11 then w + z.toNatClampNeg - 1 else 11) + 1) (by split <;> omega)]
    by_cases e3 : r = 3
    · have := hl e3 w e.1 hw
      rw [h (lst w + 1) (by omega)]
    · rcases (show r = 0 ∨ r = 1 ∨ r = 2 by omega) with q | q | q
      · rw [if_pos q, if_pos q]
      · subst q; simp only [show ¬ (1 : Nat) = 0 by decide, if_false, if_true]
      · subst q; simp only [show ¬ (2 : Nat) = 0 by decide, show ¬ (2 : Nat) = 1 by decide, if_false, if_true]
  · rw [if_neg e, if_neg e]
theorem cgot_c {r : Nat} {z : Int32} {ld : Nat} {nd nd' : Nat → Int64} {lst : Nat → Nat} (h : N12 nd nd') (hl : r = 3 → ∀ w, ld ≤ w → w < 12 → lst w < 12) (hr : r ≤ 3) {n : Nat} (hn : n ≤ 12) : c_got r z ld nd lst n = c_got r z ld nd' lst n := by
  induction n with
  | zero => rfl
  | succ n ih => rw [c_got, c_got, ih (by omega), cq_c h hl hr (by omega)]
theorem n1_2 {C : CS} {k : Nat} (h0 : kA C 2 k 0 = 0) : N12 (kA (c_n1 C k 12) 2 k) (ndC C k) := by
  intro i hi
  show (if (2 : Nat) = 4 ∧ k = k ∧ i < 12 then c_ba C k (i + 1) else if (2 : Nat) = 2 ∧ k = k ∧ 0 < i ∧ i ≤ 12 then p_nd (c_la C k) (cLd C k) i else kA C 2 k i) = _
  rw [if_neg (by omega)]
  by_cases e : i = 0
  · subst e; rw [if_neg (by omega), h0]; rfl
  · rw [if_pos ⟨rfl, rfl, by omega, hi⟩]; rfl
/-- the plan's row, by either road -/
theorem pr_3 {C1 : CS} {k : Nat} {f : Nat → Int64} (hC : CC C1) (hk : k < 12) (h : N12 (kA C1 2 k) (p_nd f (cLd C1 k))) {w : Nat} (hw : w < 12) : kA (c_pr C1 k) 3 k w = p_q (kI C1 1 k) (kI C1 2 k) (cLd C1 k) (c_su C1 k) (c_ho C1 k) (p_nd f (cLd C1 k)) (p_bs (c_su C1 k) (c_ho C1 k) (p_nd f (cLd C1 k)) (fun _ => 0) (12 - cLd C1 k)) w (p_got (kI C1 1 k) (kI C1 2 k) (cLd C1 k) (c_su C1 k) (c_ho C1 k) (p_nd f (cLd C1 k)) (p_bs (c_su C1 k) (c_ho C1 k) (p_nd f (cLd C1 k)) (fun _ => 0) (12 - cLd C1 k)) w) := by
  have hr := hC.r3 hk
  have hl4 := hC.l4 hk
  rw [hC.ru hk]
  unfold c_pr
  by_cases e3 : cRu C1 k = 3
  · rw [if_pos e3]
    unfold c_plc c_pl
    rw [c_wr_i _ _ hw]
    unfold c_pq c_pg
    obtain ⟨o1, o2, o3, o4⟩ := c_lks_o C1 k (12 - cLd C1 k)
    have eL : cLd (c_lks C1 k (12 - cLd C1 k)) k = cLd C1 k := congrArg (fun x => (x 3 k).toNatClampNeg) o1
    have hlt : ∀ w, cLd C1 k ≤ w → w < 12 → cW (c_lks C1 k (12 - cLd C1 k)) w < 12 := fun w h1 h2 => (c_lks_lst (by omega) (by omega) h2).2
    rw [eL, o1, o2, e3]
    rw [cgot_c h (fun _ => hlt) (by omega) (by omega), cq_c h (fun _ => hlt) (by omega) hw]
    have hl : (3 : Nat) = 3 → ∀ w, cLd C1 k ≤ w → w < 12 → cW (c_lks C1 k (12 - cLd C1 k)) w = if p_nd f (cLd C1 k) (w + 1) = p_nd f (cLd C1 k) w then w else p_last (c_su C1 k) (c_ho C1 k) (p_nd f (cLd C1 k)) (p_bs (c_su C1 k) (c_ho C1 k) (p_nd f (cLd C1 k)) (fun _ => 0) (12 - cLd C1 k)) w := by
      intro _ w h1 h2
      unfold cW
      rw [c_lks_W C1 k _ (by omega) (by omega) h2]
      unfold c_lv
      rw [h (w + 1) (by omega), h w (by omega)]
      by_cases q : p_nd f (cLd C1 k) (w + 1) = p_nd f (cLd C1 k) w
      · rw [if_pos q, if_pos q, nI_clamp (by omega)]
      · rw [if_neg q, if_neg q]
        have e : p_last (c_su C1 k) (c_ho C1 k) (kA C1 2 k) (p_bs (c_su C1 k) (c_ho C1 k) (kA C1 2 k) (kB C1) (11 - w)) w = p_last (c_su C1 k) (c_ho C1 k) (p_nd f (cLd C1 k)) (p_bs (c_su C1 k) (c_ho C1 k) (p_nd f (cLd C1 k)) (fun _ => 0) (12 - cLd C1 k)) w := by
          unfold p_last
          congr 1
          refine last_c h (fun j q1 q2 => ?_)
          rw [bs_c (b1 := fun _ => 0) h (11 - w) (by omega) j (by omega) q2]
          have := bs_st (c_su C1 k) (c_ho C1 k) (p_nd f (cLd C1 k)) (fun _ => 0) (11 - w) (w + 1 - cLd C1 k) (by omega) j (by omega)
          rw [show 11 - w + (w + 1 - cLd C1 k) = 12 - cLd C1 k by omega] at this
          exact this.symm
        rw [e, nI_clamp]
        unfold p_last
        have := p_lst_lt (p_f (c_su C1 k) (c_ho C1 k) (p_nd f (cLd C1 k)) (p_bs (c_su C1 k) (c_ho C1 k) (p_nd f (cLd C1 k)) (fun _ => 0) (12 - cLd C1 k)) w) (12 - w) (by omega)
        omega
    rw [cgot_eq (by omega) hl (by omega), cq_eq (by omega) hl hw]
  · rw [if_neg e3]
    unfold c_pl
    rw [c_wr_i _ _ hw]
    unfold c_pq c_pg
    rw [cgot_c h (fun q => absurd q e3) hr (by omega), cq_c h (fun q => absurd q e3) hr hw, cgot_eq (b := p_bs (c_su C1 k) (c_ho C1 k) (p_nd f (cLd C1 k)) (fun _ => 0) (12 - cLd C1 k)) (su := c_su C1 k) (ho := c_ho C1 k) hr (fun q => absurd q e3) (by omega), cq_eq hr (fun q => absurd q e3) hw]
/-- planning an item lays its row 3 alone -/
theorem pr_o (C : CS) (k : Nat) {j k' : Nat} (h : j ≠ 3 ∨ k' ≠ k) : kA (c_pr C k) j k' = kA C j k' := by
  unfold c_pr
  split
  · unfold c_plc c_pl
    rw [c_wr_o _ _ h, (c_lks_o C k _).2.1]
  · unfold c_pl
    rw [c_wr_o _ _ h]
theorem net_3 {C : CS} {k : Nat} (hC : CC C) (hk : k < 12) (h0 : kA C 2 k 0 = 0) {w : Nat} (hw : w < 12) : kA (c_net C k) 3 k w = PLc C k w := by
  unfold c_net c_n2
  rw [c_wr_o _ _ (Or.inl (by decide))]
  exact pr_3 (C1 := c_n1 C k 12) (f := c_la C k) (hC.of rfl rfl rfl rfl rfl) hk (n1_2 h0) hw
theorem net_4 {C : CS} {k : Nat} (hC : CC C) (hk : k < 12) (h0 : kA C 2 k 0 = 0) {w : Nat} (hw : w < 12) : kA (c_net C k) 4 k w = c_ba C k (w + 1) + gotC C k (w + 1) := by
  unfold c_net c_n2
  rw [c_wr_i _ _ hw, c_gt_sg, pr_o _ _ (Or.inl (by decide))]
  rw [sg_c (g := PLc C k) (fun v hv => pr_3 (C1 := c_n1 C k 12) (f := c_la C k) (hC.of rfl rfl rfl rfl rfl) hk (n1_2 h0) (by omega)), sg_pl]
  congr 1
  show (if (4 : Nat) = 4 ∧ k = k ∧ w < 12 then c_ba C k (w + 1) else _) = _
  rw [if_pos ⟨rfl, rfl, hw⟩]
theorem net_k (C : CS) {k k' : Nat} (h : k' ≠ k) (j : Nat) : kA (c_net C k) j k' = kA C j k' := by
  unfold c_net c_n2
  rw [c_wr_o _ _ (Or.inr h), pr_o _ _ (Or.inr h)]
  funext w
  show (if j = 4 ∧ k' = k ∧ w < 12 then _ else if j = 2 ∧ k' = k ∧ 0 < w ∧ w ≤ 12 then _ else kA C j k' w) = _
  rw [if_neg (fun q => h q.2.1), if_neg (fun q => h q.2.1)]
theorem net_0 (C : CS) (k : Nat) : kA (c_net C k) 0 = kA C 0 := by
  funext k'
  unfold c_net c_n2
  rw [c_wr_o _ _ (Or.inl (by decide)), pr_o _ _ (Or.inl (by decide)), c_n1_g]
theorem net_20 (C : CS) (k k' : Nat) : kA (c_net C k) 2 k' 0 = kA C 2 k' 0 := by
  unfold c_net c_n2
  rw [c_wr_o _ _ (Or.inl (by decide)), pr_o _ _ (Or.inl (by decide))]
  show (if (2 : Nat) = 4 ∧ k' = k ∧ 0 < 12 then c_ba C k (0 + 1) else if (2 : Nat) = 2 ∧ k' = k ∧ 0 < 0 ∧ 0 ≤ 12 then p_nd (c_la C k) (cLd C k) 0 else kA C 2 k' 0) = _
  rw [if_neg (by omega), if_neg (by omega)]
/-! the reference -/
theorem mplan_19 (M : MS) {i w : Nat} (hw : w < 12) : mL (m_plan M i) 19 (12 * i + w) = PLm M i w := by
  unfold m_plan m_pl1
  rw [m_wr_i _ _ hw]
  unfold m_pq m_pg
  have hN : N12 (m_nd (m_fB (m_fN M i) i)) (ndM M i) := by
    intro j hj
    cases j with
    | zero => rfl
    | succ j =>
      show mL (m_wr M 21 0 12 (fun k => p_nd (m_lacks M i) (mLd M i) (k + 1))) 21 j = _
      have := m_wr_i M (j := 21) (a := 0) (n := 12) (k := j) (fun k => p_nd (m_lacks M i) (mLd M i) (k + 1)) (by omega)
      rw [Nat.zero_add] at this
      rw [this]; rfl
  have hN2 : N12 (m_nd (m_fN M i)) (ndM M i) := hN
  have eb : mL (m_fB (m_fN M i) i) 22 = p_bs (m_su M i) (m_ho M i) (m_nd (m_fN M i)) (mL M 22) (12 - mLd M i) := rfl
  rw [eb]
  have hb : ∀ j, mLd M i < j → j ≤ 12 → p_bs (m_su M i) (m_ho M i) (m_nd (m_fN M i)) (mL M 22) (12 - mLd M i) j = bM M i j := fun j h1 h2 => bs_c hN2 _ (by omega) j (by omega) h2
  show p_q (mI M 0 i) (mI M 1 i) (mLd M i) (m_su M i) (m_ho M i) _ _ w (p_got (mI M 0 i) (mI M 1 i) (mLd M i) (m_su M i) (m_ho M i) _ _ w) = _
  rw [got_c hN hb (by omega), pq_c hN hw hb]
  rfl
theorem mplan_o (M : MS) (i : Nat) {j q : Nat} (h : j ≠ 19 ∨ q < 12 * i ∨ 12 * i + 12 ≤ q) (h2 : j ≠ 21) (h3 : j ≠ 22) : mL (m_plan M i) j q = mL M j q := by
  unfold m_plan m_pl1
  have e : mL (m_fB (m_fN M i) i) j = mL M j := by
    show (if j = 22 then _ else mL (m_fN M i) j) = _
    rw [if_neg h3]
    exact m_wr_o M _ h2
  by_cases e1 : j = 19
  · subst e1
    rw [m_wr_x _ _ (h.resolve_left (fun q => q rfl)), e]
  · rw [m_wr_o _ _ e1, e]
/-- the reference's netting, ahead of the plan -/
def mG (M : MS) (i : Nat) : MS := m_wr (m_wr M 20 0 12 (fun w => m_gs M i w 12)) 18 (12 * i) 12 (fun w => m_gs M i w 12)
theorem m_net_e (M : MS) (i : Nat) : m_net M i = mi (m_plan (mG M i) i) 17 i 0 := rfl
theorem mG_18 (M : MS) {i w : Nat} (hw : w < 12) : mL (mG M i) 18 (12 * i + w) = m_gs M i w 12 := m_wr_i _ _ hw
theorem mG_o (M : MS) (i : Nat) {j q : Nat} (h : j ≠ 18 ∨ q < 12 * i ∨ 12 * i + 12 ≤ q) (h2 : j ≠ 20) : mL (mG M i) j q = mL M j q := by
  unfold mG
  by_cases e1 : j = 18
  · subst e1
    rw [m_wr_x _ _ (h.resolve_left (fun q => q rfl)), m_wr_o _ _ h2]
  · rw [m_wr_o _ _ e1, m_wr_o _ _ h2]
theorem mnet_18 (M : MS) {i w : Nat} (hw : w < 12) : mL (m_net M i) 18 (12 * i + w) = m_gs M i w 12 := by
  rw [m_net_e]
  show mL (m_plan (mG M i) i) 18 (12 * i + w) = _
  rw [mplan_o _ _ (Or.inl (by decide)) (by decide) (by decide), mG_18 M hw]
theorem mnet_19 (M : MS) {i w : Nat} (hw : w < 12) : mL (m_net M i) 19 (12 * i + w) = PLm (mG M i) i w := by
  rw [m_net_e]
  exact mplan_19 (mG M i) hw
theorem mnet_o (M : MS) (i : Nat) {j k w : Nat} (hj : j = 18 ∨ j = 19) (hk : k ≠ i) (hw : w < 12) : mL (m_net M i) j (12 * k + w) = mL M j (12 * k + w) := by
  rw [m_net_e]
  show mL (m_plan (mG M i) i) j (12 * k + w) = _
  rw [mplan_o _ _ (Or.inr (by omega)) (by omega) (by omega), mG_o _ _ (Or.inr (by omega)) (by omega)]
theorem mnet_I (M : MS) (i : Nat) {j : Nat} (hj : j ≠ 17) : mI (m_net M i) j = mI M j := by
  rw [m_net_e]
  funext k
  show up2 (mI M) 17 i 0 j k = _
  exact congrFun (up2_m hj) k
theorem mnet_17 (M : MS) (i k : Nat) : mI (m_net M i) 17 k = if k = i then 0 else mI M 17 k := by
  rw [m_net_e]
  show (if 17 = 17 ∧ k = i then (0 : Int32) else mI M 17 k) = _
  by_cases e : k = i
  · rw [if_pos ⟨rfl, e⟩, if_pos e]
  · rw [if_neg (fun q => e q.2), if_neg e]
theorem mnet_S (M : MS) (i : Nat) : mS (m_net M i) = mS M := rfl
