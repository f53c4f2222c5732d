def k_change (C : CS) (o : Int64) (kd x n : Int32) : Int32 × CS × Int64 := if (inR kd 0 1) = false then (1, C, o) else if (inR x 0 (nI (kN C (kd.toNatClampNeg + 1)) - 1)) = false then (2, C, o) else if (inR n 0 1000) = false then (1, C, o) else (0, c_tell (rE C (up3 (kE C) (kd.toNatClampNeg + 1) x.toNatClampNeg 2 n)) (kE C (kd.toNatClampNeg + 1) x.toNatClampNeg 0).toNatClampNeg, (kE C (kd.toNatClampNeg + 1) x.toNatClampNeg 2).toInt64)
set_option maxHeartbeats 4000000 in
set_option maxRecDepth 100000 in
theorem ct_X0_change {l : Launch} {s0 : State} {D : va_G} {DA : Nat → ClassId} {z0 : Nat} {C : CS} {M : MS} {o : Int64} {H : Heap} (hE : G0 l s0 D DA z0) (hR : RR s0 D DA z0 C M o H) (kd x n : Int32) (hC : CC C) : Met l yX0_change (wsW_ yX0_change cX0_change 6 (some .int) [(0, 12, 15, 15), (0, 12, 19, 13)]) ({ frames := 9, cells := 1, slots := 6, locals := 148 }) (cP s0 [.ref s0.heap.size, .int kd, .int x, .int n, .ref (s0.heap.size + 128)] H) (cQv (.int (k_change C o kd x n).1) (fun H1 => RR s0 D DA z0 (k_change C o kd x n).2.1 M (k_change C o kd x n).2.2 H1)) 1 6 (cF s0) := by
  refine va_MetW (cc := cX0_change) (maxL := 6) (ret := (some .int)) (hh := [(0, 12, 15, 15), (0, 12, 19, 13)]) (by decide) rfl ?_
  intro p e s m args below meth c s₁ Bd hml hv
  obtain ⟨rfl, rfl, hW0⟩ := hv
  have hx := Bd.exec
  have hb := Bd.bytes
  have hr := Bd.returns
  have hts := atoms_spec (ws := (wsW_ yX0_change cX0_change 6 (some .int) [(0, 12, 15, 15), (0, 12, 19, 13)])) Bd.pre
  obtain ⟨m9, meth9, c9, hn9, hm9, hc9, -, -, htab, -⟩ := Cond.codeWith_spec (hts _ List.mem_cons_self)
  cases Bd.named.symm.trans hn9
  cases Bd.method.symm.trans hm9
  cases (Stand.of_body Bd).code.symm.trans hc9
  have hts : ∀ w ∈ lw_all, w.before _ s = true := fun w h => hts w (List.mem_cons_of_mem _ h)
  have hown : s.vm.findClass RX0 = some m.cls := findClass_of_methodNamed Bd.named
  have hlocks := Bd.notSynchronized
  have hK := va_K.moved hW0.alike hE.K
  have hL : gx_L s0.heap.size ([] : List Loc) := gx_L0
  obtain ⟨Y, hR⟩ := hR
  have hl := lv_entry ([.ref s0.heap.size, .int kd, .int x, .int n, .ref (s0.heap.size + 128)]) (n := 6) (Nat.le_of_ble_eq_true rfl)
  rw [lg_entry_eq]
  generalize (lg_sl ([.ref s0.heap.size, .int kd, .int x, .int n, .ref (s0.heap.size + 128)]) ++ List.replicate (6 - (lg_sl ([.ref s0.heap.size, .int kd, .int x, .int n, .ref (s0.heap.size + 128)])).length) Slot.unset).toArray = ls at hl ⊢
  have hl : lv_has ls 6 [(0, .ref s0.heap.size), (1, .int kd), (2, .int x), (3, .int n), (4, .ref (s0.heap.size + 128))] := hl
  cases hc0 : inR kd 0 1 with
  | false =>
    refine lv_aload hx hb dX0_change_0 (lv_at hl 4 rfl) ?_
    refine lv_iconst (v := 0) hx hb dX0_change_2 (by decide) ?_
    refine lv_aload_n hx hb dX0_change_3 rfl (lv_at hl 0 rfl) ?_
    refine lv_iload_n hx hb dX0_change_4 rfl (lv_at hl 1 rfl) ?_
    refine lv_iload_n hx hb dX0_change_5 rfl (lv_at hl 2 rfl) ?_
    refine lv_iload_n hx hb dX0_change_6 rfl (lv_at hl 3 rfl) ?_
    refine gt_hand (pre := []) (h := (0, 12, 15, 15)) (post := [(0, 12, 19, 13)]) (va_runTV (b := s0.heap.size) (As := [.int kd, .int x, .int n]) (rest := [.int 0, .ref (s0.heap.size + 128)]) ⟨hx, hb, hml, hown, hts⟩ (ct_X1_change_A hE ⟨_, hR⟩ kd x n hc0) (cwV 3 hts (lw_V q766 q767 q768 q47 q769) rfl rfl rfl (by decide +kernel) ⟨Nat.le_of_ble_eq_true rfl, Nat.le_of_ble_eq_true rfl⟩) (cc_pV hW0 (cc_re hK hR.np (show gcl[0]? = _ from rfl))) rfl rfl hl.1 rfl (lv_room (Nat.le_of_ble_eq_true rfl)) dX0_change_7 ⟨Nat.le_of_ble_eq_true rfl, Nat.le_of_ble_eq_true rfl⟩) hL hW0 hown htab rfl ⟨by decide, by decide, by decide⟩ (hts _ q531) (fun y hy => by cases hy) (fun H locs xx hP1 hL => ?_)
    obtain ⟨Y, hR⟩ := hP1
    refine lv_astore (lv' := [(5, .ref xx), (0, .ref s0.heap.size), (1, .int kd), (2, .int x), (3, .int n), (4, .ref (s0.heap.size + 128))]) hx hb dX0_change_15 hl (by decide) rfl (fun ls hl => ?_)
    refine lv_iconst (v := 1) hx hb dX0_change_17 (by decide) ?_
    refine W.widen (k := 1) (n := 6) (by omega) (by omega) ?_
    exact W.iret (v := 1) hx hb hr (fun t ht hW => ⟨ovI (by unfold k_change; rw [if_pos hc0]), by rw [ht]; exact (RR_CO (by unfold k_change; rw [if_pos hc0]) (by unfold k_change; rw [if_pos hc0]) ⟨_, hR⟩)⟩) hL dX0_change_18
  | true =>
    obtain ⟨kj, hkj, rfl⟩ := in01_t hc0
    cases hc1 : inR x 0 (nI (kN C ((nI kj).toNatClampNeg + 1)) - 1) with
    | false =>
      refine lv_aload hx hb dX0_change_0 (lv_at hl 4 rfl) ?_
      refine lv_iconst (v := 0) hx hb dX0_change_2 (by decide) ?_
      refine lv_aload_n hx hb dX0_change_3 rfl (lv_at hl 0 rfl) ?_
      refine lv_iload_n hx hb dX0_change_4 rfl (lv_at hl 1 rfl) ?_
      refine lv_iload_n hx hb dX0_change_5 rfl (lv_at hl 2 rfl) ?_
      refine lv_iload_n hx hb dX0_change_6 rfl (lv_at hl 3 rfl) ?_
      refine gt_hand (pre := [(0, 12, 15, 15)]) (h := (0, 12, 19, 13)) (post := []) (va_runTV (b := s0.heap.size) (As := [.int (nI kj), .int x, .int n]) (rest := [.int 0, .ref (s0.heap.size + 128)]) ⟨hx, hb, hml, hown, hts⟩ (ct_X1_change_I hE ⟨_, hR⟩ hkj x n (by have h9 := hc1; rw [nI_clamp (by omega)] at h9; exact h9)) (cwV 3 hts (lw_V q766 q767 q768 q47 q769) rfl rfl rfl (by decide +kernel) ⟨Nat.le_of_ble_eq_true rfl, Nat.le_of_ble_eq_true rfl⟩) (cc_pV hW0 (cc_re hK hR.np (show gcl[0]? = _ from rfl))) rfl rfl hl.1 rfl (lv_room (Nat.le_of_ble_eq_true rfl)) dX0_change_7 ⟨Nat.le_of_ble_eq_true rfl, Nat.le_of_ble_eq_true rfl⟩) hL hW0 hown htab rfl ⟨by decide, by decide, by decide⟩ (hts _ q530) (List.forall_mem_cons.mpr ⟨⟨⟨by decide, by decide, by decide⟩, _, hts _ q531, hE.nc_IA⟩, (fun y hy => by cases hy)⟩) (fun H locs xx hP1 hL => ?_)
      obtain ⟨Y, hR⟩ := hP1
      refine lv_astore (lv' := [(5, .ref xx), (0, .ref s0.heap.size), (1, .int (nI kj)), (2, .int x), (3, .int n), (4, .ref (s0.heap.size + 128))]) hx hb dX0_change_19 hl (by decide) rfl (fun ls hl => ?_)
      refine lv_iconst (v := 2) hx hb dX0_change_21 (by decide) ?_
      refine W.widen (k := 1) (n := 6) (by omega) (by omega) ?_
      exact W.iret (v := 2) hx hb hr (fun t ht hW => ⟨ovI (by unfold k_change; rw [if_neg (by rw [hc0]; decide), if_pos hc1]), by rw [ht]; exact (RR_CO (by unfold k_change; rw [if_neg (by rw [hc0]; decide), if_pos hc1]) (by unfold k_change; rw [if_neg (by rw [hc0]; decide), if_pos hc1]) ⟨_, hR⟩)⟩) hL dX0_change_22
    | true =>
      obtain ⟨u, hu, rfl⟩ := inR_in (by have := hR.lay.1 ((nI kj).toNatClampNeg + 1) (by rw [nI_clamp (by omega)]; omega); omega) hc1
      cases hc2 : inR n 0 1000 with
      | false =>
        refine lv_aload hx hb dX0_change_0 (lv_at hl 4 rfl) ?_
        refine lv_iconst (v := 0) hx hb dX0_change_2 (by decide) ?_
        refine lv_aload_n hx hb dX0_change_3 rfl (lv_at hl 0 rfl) ?_
        refine lv_iload_n hx hb dX0_change_4 rfl (lv_at hl 1 rfl) ?_
        refine lv_iload_n hx hb dX0_change_5 rfl (lv_at hl 2 rfl) ?_
        refine lv_iload_n hx hb dX0_change_6 rfl (lv_at hl 3 rfl) ?_
        refine gt_hand (pre := []) (h := (0, 12, 15, 15)) (post := [(0, 12, 19, 13)]) (va_runTV (b := s0.heap.size) (As := [.int (nI kj), .int (nI u), .int n]) (rest := [.int 0, .ref (s0.heap.size + 128)]) ⟨hx, hb, hml, hown, hts⟩ (ct_X1_change_B hE ⟨_, hR⟩ hkj (by have h9 := hu; rw [nI_clamp (by omega)] at h9; exact h9) n hc2) (cwV 3 hts (lw_V q766 q767 q768 q47 q769) rfl rfl rfl (by decide +kernel) ⟨Nat.le_of_ble_eq_true rfl, Nat.le_of_ble_eq_true rfl⟩) (cc_pV hW0 (cc_re hK hR.np (show gcl[0]? = _ from rfl))) rfl rfl hl.1 rfl (lv_room (Nat.le_of_ble_eq_true rfl)) dX0_change_7 ⟨Nat.le_of_ble_eq_true rfl, Nat.le_of_ble_eq_true rfl⟩) hL hW0 hown htab rfl ⟨by decide, by decide, by decide⟩ (hts _ q531) (fun y hy => by cases hy) (fun H locs xx hP1 hL => ?_)
        obtain ⟨Y, hR⟩ := hP1
        refine lv_astore (lv' := [(5, .ref xx), (0, .ref s0.heap.size), (1, .int (nI kj)), (2, .int (nI u)), (3, .int n), (4, .ref (s0.heap.size + 128))]) hx hb dX0_change_15 hl (by decide) rfl (fun ls hl => ?_)
        refine lv_iconst (v := 1) hx hb dX0_change_17 (by decide) ?_
        refine W.widen (k := 1) (n := 6) (by omega) (by omega) ?_
        exact W.iret (v := 1) hx hb hr (fun t ht hW => ⟨ovI (by unfold k_change; rw [if_neg (by rw [hc0]; decide), if_neg (by rw [hc1]; decide), if_pos hc2]), by rw [ht]; exact (RR_CO (by unfold k_change; rw [if_neg (by rw [hc0]; decide), if_neg (by rw [hc1]; decide), if_pos hc2]) (by unfold k_change; rw [if_neg (by rw [hc0]; decide), if_neg (by rw [hc1]; decide), if_pos hc2]) ⟨_, hR⟩)⟩) hL dX0_change_18
      | true =>
        have hu2 : u < kN C (kj + 1) := (by have h9 := hu; rw [nI_clamp (by omega)] at h9; exact h9)
        have h36 := hR.lay.1 (kj + 1) (by omega)
        obtain ⟨⟨a, ha, hea⟩, -⟩ := hC.2.2.2 (kj + 1) (by omega) (by omega) u hu2
        have hclk : (nI kj).toNatClampNeg = kj := nI_clamp (by omega)
        have hclu : (nI u).toNatClampNeg = u := nI_clamp (by omega)
        have hcla : (nI a).toNatClampNeg = a := nI_clamp (by omega)
        refine lv_aload hx hb dX0_change_0 (lv_at hl 4 rfl) ?_
        refine lv_iconst (v := 0) hx hb dX0_change_2 (by decide) ?_
        refine lv_aload_n hx hb dX0_change_3 rfl (lv_at hl 0 rfl) ?_
        refine lv_iload_n hx hb dX0_change_4 rfl (lv_at hl 1 rfl) ?_
        refine lv_iload_n hx hb dX0_change_5 rfl (lv_at hl 2 rfl) ?_
        refine lv_iload_n hx hb dX0_change_6 rfl (lv_at hl 3 rfl) ?_
        refine cc_v (va_runV (b := s0.heap.size) (As := [.int (nI kj), .int (nI u), .int n]) (rest := [.int 0, .ref (s0.heap.size + 128)]) ⟨hx, hb, hml, hown, hts⟩ (ct_X1_change hE ⟨_, hR⟩ hkj hu2 n hc2 ha hea) (cwV 3 hts (lw_V q766 q767 q768 q47 q769) rfl rfl rfl (by decide +kernel) ⟨Nat.le_of_ble_eq_true rfl, Nat.le_of_ble_eq_true rfl⟩) (cc_pV hW0 (cc_re hK hR.np (show gcl[0]? = _ from rfl))) rfl rfl hl.1 rfl (lv_room (Nat.le_of_ble_eq_true rfl)) dX0_change_7 ⟨Nat.le_of_ble_eq_true rfl, Nat.le_of_ble_eq_true rfl⟩) hL (fun H locs hP1 hL => ?_)
        obtain ⟨Y, hR⟩ := hP1
        refine lv_i2l (v := (kE C (kj + 1) u 2).toInt64) hx hb dX0_change_10 rfl ?_
        refine gx_last (n := 1) hx hb hK 0 hR.out rfl 0 ((by decide)) (by omega) (by decide) hL (by (try simp only [aI, aA, aT, aB, aL, mad]); omega) dX0_change_11 (fun H locs hU hA hL => ?_)
        have hR := GRb.pO1 hR hU hA
        refine lv_goto (tgt := 23) hx hb dX0_change_12 (by decide) ?_
        refine lv_iconst (v := 0) hx hb dX0_change_23 (by decide) ?_
        refine W.widen (k := 1) (n := 6) (by omega) (by omega) ?_
        exact W.iret (v := 0) hx hb hr (fun t ht hW => ⟨ovI (by unfold k_change; rw [if_neg (by rw [hc0]; decide), if_neg (by rw [hc1]; decide), if_neg (by rw [hc2]; decide)]), by rw [ht]; exact (RR_CO (by unfold k_change; rw [if_neg (by rw [hc0]; decide), if_neg (by rw [hc1]; decide), if_neg (by rw [hc2]; decide)] <;> simp only [hclk, hclu, hea, hcla]) (by unfold k_change; rw [if_neg (by rw [hc0]; decide), if_neg (by rw [hc1]; decide), if_neg (by rw [hc2]; decide)] <;> simp only [hclk, hclu, hea, hcla]) ⟨_, hR⟩)⟩) hL dX0_change_24
def c_peg0 (C : CS) (u a b : Nat) : Int64 := c_ov (c_pf C a b u) (kE C 1 u 2).toInt64 0 (kI C 8 a).toInt64
def c_peg1 (C : CS) (u a b v bo : Nat) : Int64 := if kE C 2 v 0 = nI a then c_ov (c_pf C a b u) (kE C 1 u 2).toInt64 (c_sp C a bo + c_sumB C 2 v v) (kE C 2 v 2).toInt64 else 0
def c_peg2 (C : CS) (u a b v : Nat) : Int64 := c_ov (c_pf C a b u) (kE C 1 u 2).toInt64 (c_sp C a v + c_sum C 2 (nI a) (nI v) (kN C 2)) (kA C 3 a v)
def c_lok (C : CS) (pa ch : Nat) (n : Int32) : Bool := !(decide (0 < n)) || ((c_lev C (some (pa, ch))).2 && (decide (¬ c_fd C pa ch (kN C 0) = -1) || decide (kN C 0 < 24)))
theorem lok_t {C : CS} {pa ch : Nat} {n : Int32} (h : c_lok C pa ch n = true) : 0 < n → (c_lev C (some (pa, ch))).2 = true ∧ (¬ c_fd C pa ch (kN C 0) = -1 ∨ kN C 0 < 24) := by
  intro h0
  unfold c_lok at h
  rw [decide_eq_true h0] at h
  simpa using h
theorem lok_f {C : CS} {pa ch : Nat} {n : Int32} (h : c_lok C pa ch n = false) : 0 < n ∧ ¬ ((c_lev C (some (pa, ch))).2 = true ∧ (¬ c_fd C pa ch (kN C 0) = -1 ∨ kN C 0 < 24)) := by
  unfold c_lok at h
  simp only [Bool.or_eq_false_iff, Bool.not_eq_false', decide_eq_true_eq] at h
  refine ⟨h.1, fun q => ?_⟩
  obtain ⟨q1, q2⟩ := q
  have h2 := h.2
  rw [q1, Bool.true_and] at h2
  simp only [Bool.or_eq_false_iff, decide_eq_false_iff_not] at h2
  rcases q2 with q2 | q2
  · exact h2.1 q2
  · exact h2.2 q2
def k_peg (C : CS) (o : Int64) (d kd nu : Int32) : Int32 × CS × Int64 := if (inR d 0 (nI (kN C 1) - 1)) = false then (1, C, o) else if (inR kd 0 2) = false then (2, C, o) else if (decide (kd = 0)) = false then if (decide (kd = 1)) = false then if (in12 nu) = false then (1, C, o) else if (decide (kT C = 0)) = false then (3, C, o) else (0, C, c_peg2 C d.toNatClampNeg (kE C 1 d.toNatClampNeg 0).toNatClampNeg (kE C 1 d.toNatClampNeg 1).toNatClampNeg nu.toNatClampNeg) else if (inR nu 0 (nI (kN C 2) - 1)) = false then (1, C, o) else if (decide (kT C = 0)) = false then (3, C, o) else (0, C, c_peg1 C d.toNatClampNeg (kE C 1 d.toNatClampNeg 0).toNatClampNeg (kE C 1 d.toNatClampNeg 1).toNatClampNeg nu.toNatClampNeg (kE C 2 nu.toNatClampNeg 1).toNatClampNeg) else if (decide (kT C = 0)) = false then (3, C, o) else (0, C, c_peg0 C d.toNatClampNeg (kE C 1 d.toNatClampNeg 0).toNatClampNeg (kE C 1 d.toNatClampNeg 1).toNatClampNeg)
set_option maxHeartbeats 4000000 in
set_option maxRecDepth 100000 in
theorem ct_X0_peg {l : Launch} {s0 : State} {D : va_G} {DA : Nat → ClassId} {z0 : Nat} {C : CS} {M : MS} {o : Int64} {H : Heap} (hE : G0 l s0 D DA z0) (hR : RR s0 D DA z0 C M o H) (d kd nu : Int32) (hC : CC C) : Met l yX0_peg (wsW_ yX0_peg cX0_peg 6 (some .int) [(0, 11, 14, 13), (0, 11, 18, 15), (0, 11, 22, 28)]) ({ frames := 9, cells := 1, slots := 6, locals := 151 }) (cP s0 [.ref s0.heap.size, .int d, .int kd, .int nu, .ref (s0.heap.size + 128)] H) (cQv (.int (k_peg C o d kd nu).1) (fun H1 => RR s0 D DA z0 (k_peg C o d kd nu).2.1 M (k_peg C o d kd nu).2.2 H1)) 1 6 (cF s0) := by
  refine va_MetW (cc := cX0_peg) (maxL := 6) (ret := (some .int)) (hh := [(0, 11, 14, 13), (0, 11, 18, 15), (0, 11, 22, 28)]) (by decide) rfl ?_
  intro p e s m args below meth c s₁ Bd hml hv
  obtain ⟨rfl, rfl, hW0⟩ := hv
  have hx := Bd.exec
  have hb := Bd.bytes
  have hr := Bd.returns
  have hts := atoms_spec (ws := (wsW_ yX0_peg cX0_peg 6 (some .int) [(0, 11, 14, 13), (0, 11, 18, 15), (0, 11, 22, 28)])) Bd.pre
  obtain ⟨m9, meth9, c9, hn9, hm9, hc9, -, -, htab, -⟩ := Cond.codeWith_spec (hts _ List.mem_cons_self)
  cases Bd.named.symm.trans hn9
  cases Bd.method.symm.trans hm9
  cases (Stand.of_body Bd).code.symm.trans hc9
  have hts : ∀ w ∈ lw_all, w.before _ s = true := fun w h => hts w (List.mem_cons_of_mem _ h)
  have hown : s.vm.findClass RX0 = some m.cls := findClass_of_methodNamed Bd.named
  have hlocks := Bd.notSynchronized
  have hK := va_K.moved hW0.alike hE.K
  have hL : gx_L s0.heap.size ([] : List Loc) := gx_L0
  obtain ⟨Y, hR⟩ := hR
  have hl := lv_entry ([.ref s0.heap.size, .int d, .int kd, .int nu, .ref (s0.heap.size + 128)]) (n := 6) (Nat.le_of_ble_eq_true rfl)
  rw [lg_entry_eq]
  generalize (lg_sl ([.ref s0.heap.size, .int d, .int kd, .int nu, .ref (s0.heap.size + 128)]) ++ List.replicate (6 - (lg_sl ([.ref s0.heap.size, .int d, .int kd, .int nu, .ref (s0.heap.size + 128)])).length) Slot.unset).toArray = ls at hl ⊢
  have hl : lv_has ls 6 [(0, .ref s0.heap.size), (1, .int d), (2, .int kd), (3, .int nu), (4, .ref (s0.heap.size + 128))] := hl
  cases hc0 : inR d 0 (nI (kN C 1) - 1) with
  | false =>
    refine lv_aload hx hb dX0_peg_0 (lv_at hl 4 rfl) ?_
    refine lv_iconst (v := 0) hx hb dX0_peg_2 (by decide) ?_
    refine lv_aload_n hx hb dX0_peg_3 rfl (lv_at hl 0 rfl) ?_
    refine lv_iload_n hx hb dX0_peg_4 rfl (lv_at hl 1 rfl) ?_
    refine lv_iload_n hx hb dX0_peg_5 rfl (lv_at hl 2 rfl) ?_
    refine lv_iload_n hx hb dX0_peg_6 rfl (lv_at hl 3 rfl) ?_
    refine gt_hand (pre := []) (h := (0, 11, 14, 13)) (post := [(0, 11, 18, 15), (0, 11, 22, 28)]) (va_runTV (b := s0.heap.size) (As := [.int d, .int kd, .int nu]) (rest := [.int 0, .ref (s0.heap.size + 128)]) ⟨hx, hb, hml, hown, hts⟩ (ct_X1_peg_I hE ⟨_, hR⟩ d kd nu hc0) (cwV 3 hts (lw_V q815 q816 q817 q47 q818) rfl rfl rfl (by decide +kernel) ⟨Nat.le_of_ble_eq_true rfl, Nat.le_of_ble_eq_true rfl⟩) (cc_pV hW0 (cc_re hK hR.np (show gcl[0]? = _ from rfl))) rfl rfl hl.1 rfl (lv_room (Nat.le_of_ble_eq_true rfl)) dX0_peg_7 ⟨Nat.le_of_ble_eq_true rfl, Nat.le_of_ble_eq_true rfl⟩) hL hW0 hown htab rfl ⟨by decide, by decide, by decide⟩ (hts _ q530) (fun y hy => by cases hy) (fun H locs xx hP1 hL => ?_)
    obtain ⟨Y, hR⟩ := hP1
    refine lv_astore (lv' := [(5, .ref xx), (0, .ref s0.heap.size), (1, .int d), (2, .int kd), (3, .int nu), (4, .ref (s0.heap.size + 128))]) hx hb dX0_peg_14 hl (by decide) rfl (fun ls hl => ?_)
    refine lv_iconst (v := 1) hx hb dX0_peg_16 (by decide) ?_
    refine W.widen (k := 1) (n := 6) (by omega) (by omega) ?_
    exact W.iret (v := 1) hx hb hr (fun t ht hW => ⟨ovI (by unfold k_peg; rw [if_pos hc0]), by rw [ht]; exact (RR_CO (by unfold k_peg; rw [if_pos hc0]) (by unfold k_peg; rw [if_pos hc0]) ⟨_, hR⟩)⟩) hL dX0_peg_17
  | true =>
    obtain ⟨u, hu, rfl⟩ := inR_in (by have := hR.lay.2.2.2.2.2.2.1; omega) hc0
    cases hc1 : inR kd 0 2 with
    | false =>
      refine lv_aload hx hb dX0_peg_0 (lv_at hl 4 rfl) ?_
      refine lv_iconst (v := 0) hx hb dX0_peg_2 (by decide) ?_
      refine lv_aload_n hx hb dX0_peg_3 rfl (lv_at hl 0 rfl) ?_
      refine lv_iload_n hx hb dX0_peg_4 rfl (lv_at hl 1 rfl) ?_
      refine lv_iload_n hx hb dX0_peg_5 rfl (lv_at hl 2 rfl) ?_
      refine lv_iload_n hx hb dX0_peg_6 rfl (lv_at hl 3 rfl) ?_
      refine gt_hand (pre := [(0, 11, 14, 13)]) (h := (0, 11, 18, 15)) (post := [(0, 11, 22, 28)]) (va_runTV (b := s0.heap.size) (As := [.int (nI u), .int kd, .int nu]) (rest := [.int 0, .ref (s0.heap.size + 128)]) ⟨hx, hb, hml, hown, hts⟩ (ct_X1_peg_A hE ⟨_, hR⟩ hu kd nu hc1) (cwV 3 hts (lw_V q815 q816 q817 q47 q818) rfl rfl rfl (by decide +kernel) ⟨Nat.le_of_ble_eq_true rfl, Nat.le_of_ble_eq_true rfl⟩) (cc_pV hW0 (cc_re hK hR.np (show gcl[0]? = _ from rfl))) rfl rfl hl.1 rfl (lv_room (Nat.le_of_ble_eq_true rfl)) dX0_peg_7 ⟨Nat.le_of_ble_eq_true rfl, Nat.le_of_ble_eq_true rfl⟩) hL hW0 hown htab rfl ⟨by decide, by decide, by decide⟩ (hts _ q531) (List.forall_mem_cons.mpr ⟨⟨⟨by decide, by decide, by decide⟩, _, hts _ q530, hE.nc_AI⟩, (fun y hy => by cases hy)⟩) (fun H locs xx hP1 hL => ?_)
      obtain ⟨Y, hR⟩ := hP1
      refine lv_astore (lv' := [(5, .ref xx), (0, .ref s0.heap.size), (1, .int (nI u)), (2, .int kd), (3, .int nu), (4, .ref (s0.heap.size + 128))]) hx hb dX0_peg_18 hl (by decide) rfl (fun ls hl => ?_)
      refine lv_iconst (v := 2) hx hb dX0_peg_20 (by decide) ?_
      refine W.widen (k := 1) (n := 6) (by omega) (by omega) ?_
      exact W.iret (v := 2) hx hb hr (fun t ht hW => ⟨ovI (by unfold k_peg; rw [if_neg (by rw [hc0]; decide), if_pos hc1]), by rw [ht]; exact (RR_CO (by unfold k_peg; rw [if_neg (by rw [hc0]; decide), if_pos hc1]) (by unfold k_peg; rw [if_neg (by rw [hc0]; decide), if_pos hc1]) ⟨_, hR⟩)⟩) hL dX0_peg_21
    | true =>
      cases hc2 : decide (kd = 0) with
      | false =>
        cases hc3 : decide (kd = 1) with
        | false =>
          obtain rfl : kd = 2 := in02_2 hc1 hc2 hc3
          cases hc4 : in12 nu with
          | false =>
            refine lv_aload hx hb dX0_peg_0 (lv_at hl 4 rfl) ?_
            refine lv_iconst (v := 0) hx hb dX0_peg_2 (by decide) ?_
            refine lv_aload_n hx hb dX0_peg_3 rfl (lv_at hl 0 rfl) ?_
            refine lv_iload_n hx hb dX0_peg_4 rfl (lv_at hl 1 rfl) ?_
            refine lv_iload_n hx hb dX0_peg_5 rfl (lv_at hl 2 rfl) ?_
            refine lv_iload_n hx hb dX0_peg_6 rfl (lv_at hl 3 rfl) ?_
            refine gt_hand (pre := []) (h := (0, 11, 14, 13)) (post := [(0, 11, 18, 15), (0, 11, 22, 28)]) (va_runTV (b := s0.heap.size) (As := [.int (nI u), .int 2, .int nu]) (rest := [.int 0, .ref (s0.heap.size + 128)]) ⟨hx, hb, hml, hown, hts⟩ (ct_X1_peg_I2 hE ⟨_, hR⟩ hu nu hc4) (cwV 3 hts (lw_V q815 q816 q817 q47 q818) rfl rfl rfl (by decide +kernel) ⟨Nat.le_of_ble_eq_true rfl, Nat.le_of_ble_eq_true rfl⟩) (cc_pV hW0 (cc_re hK hR.np (show gcl[0]? = _ from rfl))) rfl rfl hl.1 rfl (lv_room (Nat.le_of_ble_eq_true rfl)) dX0_peg_7 ⟨Nat.le_of_ble_eq_true rfl, Nat.le_of_ble_eq_true rfl⟩) hL hW0 hown htab rfl ⟨by decide, by decide, by decide⟩ (hts _ q530) (fun y hy => by cases hy) (fun H locs xx hP1 hL => ?_)
            obtain ⟨Y, hR⟩ := hP1
            refine lv_astore (lv' := [(5, .ref xx), (0, .ref s0.heap.size), (1, .int (nI u)), (2, .int 2), (3, .int nu), (4, .ref (s0.heap.size + 128))]) hx hb dX0_peg_14 hl (by decide) rfl (fun ls hl => ?_)
            refine lv_iconst (v := 1) hx hb dX0_peg_16 (by decide) ?_
            refine W.widen (k := 1) (n := 6) (by omega) (by omega) ?_
            exact W.iret (v := 1) hx hb hr (fun t ht hW => ⟨ovI (by unfold k_peg; rw [if_neg (by rw [hc0]; decide), if_neg (by rw [hc1]; decide), if_pos hc2, if_pos hc3, if_pos hc4]), by rw [ht]; exact (RR_CO (by unfold k_peg; rw [if_neg (by rw [hc0]; decide), if_neg (by rw [hc1]; decide), if_pos hc2, if_pos hc3, if_pos hc4]) (by unfold k_peg; rw [if_neg (by rw [hc0]; decide), if_neg (by rw [hc1]; decide), if_pos hc2, if_pos hc3, if_pos hc4]) ⟨_, hR⟩)⟩) hL dX0_peg_17
          | true =>
            obtain ⟨v, hv, rfl⟩ := in12_t hc4
            cases hc5 : decide (kT C = 0) with
            | false =>
              refine lv_aload hx hb dX0_peg_0 (lv_at hl 4 rfl) ?_
              refine lv_iconst (v := 0) hx hb dX0_peg_2 (by decide) ?_
              refine lv_aload_n hx hb dX0_peg_3 rfl (lv_at hl 0 rfl) ?_
              refine lv_iload_n hx hb dX0_peg_4 rfl (lv_at hl 1 rfl) ?_
              refine lv_iload_n hx hb dX0_peg_5 rfl (lv_at hl 2 rfl) ?_
              refine lv_iload_n hx hb dX0_peg_6 rfl (lv_at hl 3 rfl) ?_
              refine gt_hand (pre := [(0, 11, 14, 13), (0, 11, 18, 15)]) (h := (0, 11, 22, 28)) (post := []) (va_runTV (b := s0.heap.size) (As := [.int (nI u), .int 2, .int (nI v)]) (rest := [.int 0, .ref (s0.heap.size + 128)]) ⟨hx, hb, hml, hown, hts⟩ (ct_X1_peg_S2 hE ⟨_, hR⟩ hu (of_decide_eq_false hc5) hv) (cwV 3 hts (lw_V q815 q816 q817 q47 q818) rfl rfl rfl (by decide +kernel) ⟨Nat.le_of_ble_eq_true rfl, Nat.le_of_ble_eq_true rfl⟩) (cc_pV hW0 (cc_re hK hR.np (show gcl[0]? = _ from rfl))) rfl rfl hl.1 rfl (lv_room (Nat.le_of_ble_eq_true rfl)) dX0_peg_7 ⟨Nat.le_of_ble_eq_true rfl, Nat.le_of_ble_eq_true rfl⟩) hL hW0 hown htab rfl ⟨by decide, by decide, by decide⟩ (hts _ q649) (List.forall_mem_cons.mpr ⟨⟨⟨by decide, by decide, by decide⟩, _, hts _ q530, hE.nc_SI⟩, (List.forall_mem_cons.mpr ⟨⟨⟨by decide, by decide, by decide⟩, _, hts _ q531, hE.nc_SA⟩, (fun y hy => by cases hy)⟩)⟩) (fun H locs xx hP1 hL => ?_)
              obtain ⟨Y, hR⟩ := hP1
              refine lv_astore (lv' := [(5, .ref xx), (0, .ref s0.heap.size), (1, .int (nI u)), (2, .int 2), (3, .int (nI v)), (4, .ref (s0.heap.size + 128))]) hx hb dX0_peg_22 hl (by decide) rfl (fun ls hl => ?_)
              refine lv_iconst (v := 3) hx hb dX0_peg_24 (by decide) ?_
              refine W.widen (k := 1) (n := 6) (by omega) (by omega) ?_
              exact W.iret (v := 3) hx hb hr (fun t ht hW => ⟨ovI (by unfold k_peg; rw [if_neg (by rw [hc0]; decide), if_neg (by rw [hc1]; decide), if_pos hc2, if_pos hc3, if_neg (by rw [hc4]; decide), if_pos hc5]), by rw [ht]; exact (RR_CO (by unfold k_peg; rw [if_neg (by rw [hc0]; decide), if_neg (by rw [hc1]; decide), if_pos hc2, if_pos hc3, if_neg (by rw [hc4]; decide), if_pos hc5]) (by unfold k_peg; rw [if_neg (by rw [hc0]; decide), if_neg (by rw [hc1]; decide), if_pos hc2, if_pos hc3, if_neg (by rw [hc4]; decide), if_pos hc5]) ⟨_, hR⟩)⟩) hL dX0_peg_25
            | true =>
              have h24 := hR.lay.2.2.2.2.2.2.1
              obtain ⟨⟨a, ha, hea⟩, b, hb2, heb⟩ := hC.2.2.2 1 (by omega) (by omega) u hu
              have hclu : (nI u).toNatClampNeg = u := nI_clamp (by omega)
              have hcla : (nI a).toNatClampNeg = a := nI_clamp (by omega)
              have hclb : (nI b).toNatClampNeg = b := nI_clamp (by omega)
              have hclv : (nI v).toNatClampNeg = v := nI_clamp (by omega)
              refine lv_aload hx hb dX0_peg_0 (lv_at hl 4 rfl) ?_
              refine lv_iconst (v := 0) hx hb dX0_peg_2 (by decide) ?_
              refine lv_aload_n hx hb dX0_peg_3 rfl (lv_at hl 0 rfl) ?_
              refine lv_iload_n hx hb dX0_peg_4 rfl (lv_at hl 1 rfl) ?_
              refine lv_iload_n hx hb dX0_peg_5 rfl (lv_at hl 2 rfl) ?_
              refine lv_iload_n hx hb dX0_peg_6 rfl (lv_at hl 3 rfl) ?_
              refine cc_v (va_runV (b := s0.heap.size) (As := [.int (nI u), .int 2, .int (nI v)]) (rest := [.int 0, .ref (s0.heap.size + 128)]) ⟨hx, hb, hml, hown, hts⟩ (ct_X1_peg_2 hE hR hu ha hea hb2 heb (of_decide_eq_true hc5) hv) (cwV 3 hts (lw_V q815 q816 q817 q47 q818) rfl rfl rfl (by decide +kernel) ⟨Nat.le_of_ble_eq_true rfl, Nat.le_of_ble_eq_true rfl⟩) (cc_pV hW0 (cc_re hK hR.np (show gcl[0]? = _ from rfl))) rfl rfl hl.1 rfl (lv_room (Nat.le_of_ble_eq_true rfl)) dX0_peg_7 ⟨Nat.le_of_ble_eq_true rfl, Nat.le_of_ble_eq_true rfl⟩) hL (fun H locs hP1 hL => ?_)
              subst hP1
              refine gx_last (n := 1) hx hb hK 0 hR.out rfl 0 ((by decide)) (by omega) (by decide) hL (by (try simp only [aI, aA, aT, aB, aL, mad]); omega) dX0_peg_10 (fun H locs hU hA hL => ?_)
              have hR := GRb.pO1 hR hU hA
              refine lv_goto (tgt := 26) hx hb dX0_peg_11 (by decide) ?_
              refine lv_iconst (v := 0) hx hb dX0_peg_26 (by decide) ?_
              refine W.widen (k := 1) (n := 6) (by omega) (by omega) ?_
              exact W.iret (v := 0) hx hb hr (fun t ht hW => ⟨ovI (by unfold k_peg; rw [if_neg (by rw [hc0]; decide), if_neg (by rw [hc1]; decide), if_pos hc2, if_pos hc3, if_neg (by rw [hc4]; decide), if_neg (by rw [hc5]; decide)]), by rw [ht]; exact (RR_CO (by unfold k_peg; rw [if_neg (by rw [hc0]; decide), if_neg (by rw [hc1]; decide), if_pos hc2, if_pos hc3, if_neg (by rw [hc4]; decide), if_neg (by rw [hc5]; decide)] <;> simp only [hclu, hea, heb, hcla, hclb, hclv, c_peg2]) (by unfold k_peg; rw [if_neg (by rw [hc0]; decide), if_neg (by rw [hc1]; decide), if_pos hc2, if_pos hc3, if_neg (by rw [hc4]; decide), if_neg (by rw [hc5]; decide)] <;> simp only [hclu, hea, heb, hcla, hclb, hclv, c_peg2]) ⟨_, hR⟩)⟩) hL dX0_peg_27
        | true =>
          obtain rfl : kd = 1 := of_decide_eq_true hc3
          cases hc4 : inR nu 0 (nI (kN C 2) - 1) with
          | false =>
            refine lv_aload hx hb dX0_peg_0 (lv_at hl 4 rfl) ?_
            refine lv_iconst (v := 0) hx hb dX0_peg_2 (by decide) ?_
            refine lv_aload_n hx hb dX0_peg_3 rfl (lv_at hl 0 rfl) ?_
            refine lv_iload_n hx hb dX0_peg_4 rfl (lv_at hl 1 rfl) ?_
            refine lv_iload_n hx hb dX0_peg_5 rfl (lv_at hl 2 rfl) ?_
            refine lv_iload_n hx hb dX0_peg_6 rfl (lv_at hl 3 rfl) ?_
            refine gt_hand (pre := []) (h := (0, 11, 14, 13)) (post := [(0, 11, 18, 15), (0, 11, 22, 28)]) (va_runTV (b := s0.heap.size) (As := [.int (nI u), .int 1, .int nu]) (rest := [.int 0, .ref (s0.heap.size + 128)]) ⟨hx, hb, hml, hown, hts⟩ (ct_X1_peg_I1 hE ⟨_, hR⟩ hu nu hc4) (cwV 3 hts (lw_V q815 q816 q817 q47 q818) rfl rfl rfl (by decide +kernel) ⟨Nat.le_of_ble_eq_true rfl, Nat.le_of_ble_eq_true rfl⟩) (cc_pV hW0 (cc_re hK hR.np (show gcl[0]? = _ from rfl))) rfl rfl hl.1 rfl (lv_room (Nat.le_of_ble_eq_true rfl)) dX0_peg_7 ⟨Nat.le_of_ble_eq_true rfl, Nat.le_of_ble_eq_true rfl⟩) hL hW0 hown htab rfl ⟨by decide, by decide, by decide⟩ (hts _ q530) (fun y hy => by cases hy) (fun H locs xx hP1 hL => ?_)
            obtain ⟨Y, hR⟩ := hP1
            refine lv_astore (lv' := [(5, .ref xx), (0, .ref s0.heap.size), (1, .int (nI u)), (2, .int 1), (3, .int nu), (4, .ref (s0.heap.size + 128))]) hx hb dX0_peg_14 hl (by decide) rfl (fun ls hl => ?_)
            refine lv_iconst (v := 1) hx hb dX0_peg_16 (by decide) ?_
            refine W.widen (k := 1) (n := 6) (by omega) (by omega) ?_
            exact W.iret (v := 1) hx hb hr (fun t ht hW => ⟨ovI (by unfold k_peg; rw [if_neg (by rw [hc0]; decide), if_neg (by rw [hc1]; decide), if_pos hc2, if_neg (by rw [hc3]; decide), if_pos hc4]), by rw [ht]; exact (RR_CO (by unfold k_peg; rw [if_neg (by rw [hc0]; decide), if_neg (by rw [hc1]; decide), if_pos hc2, if_neg (by rw [hc3]; decide), if_pos hc4]) (by unfold k_peg; rw [if_neg (by rw [hc0]; decide), if_neg (by rw [hc1]; decide), if_pos hc2, if_neg (by rw [hc3]; decide), if_pos hc4]) ⟨_, hR⟩)⟩) hL dX0_peg_17
          | true =>
            obtain ⟨v, hv, rfl⟩ := inR_in (by have := hR.lay.2.2.2.2.2.2.1; omega) hc4
            cases hc5 : decide (kT C = 0) with
            | false =>
              refine lv_aload hx hb dX0_peg_0 (lv_at hl 4 rfl) ?_
              refine lv_iconst (v := 0) hx hb dX0_peg_2 (by decide) ?_
              refine lv_aload_n hx hb dX0_peg_3 rfl (lv_at hl 0 rfl) ?_
              refine lv_iload_n hx hb dX0_peg_4 rfl (lv_at hl 1 rfl) ?_
              refine lv_iload_n hx hb dX0_peg_5 rfl (lv_at hl 2 rfl) ?_
              refine lv_iload_n hx hb dX0_peg_6 rfl (lv_at hl 3 rfl) ?_
              refine gt_hand (pre := [(0, 11, 14, 13), (0, 11, 18, 15)]) (h := (0, 11, 22, 28)) (post := []) (va_runTV (b := s0.heap.size) (As := [.int (nI u), .int 1, .int (nI v)]) (rest := [.int 0, .ref (s0.heap.size + 128)]) ⟨hx, hb, hml, hown, hts⟩ (ct_X1_peg_S1 hE ⟨_, hR⟩ hu (of_decide_eq_false hc5) hv) (cwV 3 hts (lw_V q815 q816 q817 q47 q818) rfl rfl rfl (by decide +kernel) ⟨Nat.le_of_ble_eq_true rfl, Nat.le_of_ble_eq_true rfl⟩) (cc_pV hW0 (cc_re hK hR.np (show gcl[0]? = _ from rfl))) rfl rfl hl.1 rfl (lv_room (Nat.le_of_ble_eq_true rfl)) dX0_peg_7 ⟨Nat.le_of_ble_eq_true rfl, Nat.le_of_ble_eq_true rfl⟩) hL hW0 hown htab rfl ⟨by decide, by decide, by decide⟩ (hts _ q649) (List.forall_mem_cons.mpr ⟨⟨⟨by decide, by decide, by decide⟩, _, hts _ q530, hE.nc_SI⟩, (List.forall_mem_cons.mpr ⟨⟨⟨by decide, by decide, by decide⟩, _, hts _ q531, hE.nc_SA⟩, (fun y hy => by cases hy)⟩)⟩) (fun H locs xx hP1 hL => ?_)
              obtain ⟨Y, hR⟩ := hP1
              refine lv_astore (lv' := [(5, .ref xx), (0, .ref s0.heap.size), (1, .int (nI u)), (2, .int 1), (3, .int (nI v)), (4, .ref (s0.heap.size + 128))]) hx hb dX0_peg_22 hl (by decide) rfl (fun ls hl => ?_)
              refine lv_iconst (v := 3) hx hb dX0_peg_24 (by decide) ?_
              refine W.widen (k := 1) (n := 6) (by omega) (by omega) ?_
              exact W.iret (v := 3) hx hb hr (fun t ht hW => ⟨ovI (by unfold k_peg; rw [if_neg (by rw [hc0]; decide), if_neg (by rw [hc1]; decide), if_pos hc2, if_neg (by rw [hc3]; decide), if_neg (by rw [hc4]; decide), if_pos hc5]), by rw [ht]; exact (RR_CO (by unfold k_peg; rw [if_neg (by rw [hc0]; decide), if_neg (by rw [hc1]; decide), if_pos hc2, if_neg (by rw [hc3]; decide), if_neg (by rw [hc4]; decide), if_pos hc5]) (by unfold k_peg; rw [if_neg (by rw [hc0]; decide), if_neg (by rw [hc1]; decide), if_pos hc2, if_neg (by rw [hc3]; decide), if_neg (by rw [hc4]; decide), if_pos hc5]) ⟨_, hR⟩)⟩) hL dX0_peg_25
            | true =>
              have h24 := hR.lay.2.2.2.2.2.2.1
              obtain ⟨⟨a, ha, hea⟩, b, hb2, heb⟩ := hC.2.2.2 1 (by omega) (by omega) u hu
              have hclu : (nI u).toNatClampNeg = u := nI_clamp (by omega)
              have hcla : (nI a).toNatClampNeg = a := nI_clamp (by omega)
              have hclb : (nI b).toNatClampNeg = b := nI_clamp (by omega)
              have hclv : (nI v).toNatClampNeg = v := nI_clamp (by omega)
              obtain ⟨-, bo, hbo, heo⟩ := hC.2.2.2 2 (by omega) (by omega) v hv
              have hclo : (nI bo).toNatClampNeg = bo := nI_clamp (by omega)
              refine lv_aload hx hb dX0_peg_0 (lv_at hl 4 rfl) ?_
              refine lv_iconst (v := 0) hx hb dX0_peg_2 (by decide) ?_
              refine lv_aload_n hx hb dX0_peg_3 rfl (lv_at hl 0 rfl) ?_
              refine lv_iload_n hx hb dX0_peg_4 rfl (lv_at hl 1 rfl) ?_
              refine lv_iload_n hx hb dX0_peg_5 rfl (lv_at hl 2 rfl) ?_
              refine lv_iload_n hx hb dX0_peg_6 rfl (lv_at hl 3 rfl) ?_
              refine cc_v (va_runV (b := s0.heap.size) (As := [.int (nI u), .int 1, .int (nI v)]) (rest := [.int 0, .ref (s0.heap.size + 128)]) ⟨hx, hb, hml, hown, hts⟩ (ct_X1_peg_1 hE hR hu ha hea hb2 heb (of_decide_eq_true hc5) hv hbo heo) (cwV 3 hts (lw_V q815 q816 q817 q47 q818) rfl rfl rfl (by decide +kernel) ⟨Nat.le_of_ble_eq_true rfl, Nat.le_of_ble_eq_true rfl⟩) (cc_pV hW0 (cc_re hK hR.np (show gcl[0]? = _ from rfl))) rfl rfl hl.1 rfl (lv_room (Nat.le_of_ble_eq_true rfl)) dX0_peg_7 ⟨Nat.le_of_ble_eq_true rfl, Nat.le_of_ble_eq_true rfl⟩) hL (fun H locs hP1 hL => ?_)
              subst hP1
              refine gx_last (n := 1) hx hb hK 0 hR.out rfl 0 ((by decide)) (by omega) (by decide) hL (by (try simp only [aI, aA, aT, aB, aL, mad]); omega) dX0_peg_10 (fun H locs hU hA hL => ?_)
              have hR := GRb.pO1 hR hU hA
              refine lv_goto (tgt := 26) hx hb dX0_peg_11 (by decide) ?_
              refine lv_iconst (v := 0) hx hb dX0_peg_26 (by decide) ?_
              refine W.widen (k := 1) (n := 6) (by omega) (by omega) ?_
              exact W.iret (v := 0) hx hb hr (fun t ht hW => ⟨ovI (by unfold k_peg; rw [if_neg (by rw [hc0]; decide), if_neg (by rw [hc1]; decide), if_pos hc2, if_neg (by rw [hc3]; decide), if_neg (by rw [hc4]; decide), if_neg (by rw [hc5]; decide)]), by rw [ht]; exact (RR_CO (by unfold k_peg; rw [if_neg (by rw [hc0]; decide), if_neg (by rw [hc1]; decide), if_pos hc2, if_neg (by rw [hc3]; decide), if_neg (by rw [hc4]; decide), if_neg (by rw [hc5]; decide)] <;> simp only [hclu, hea, heb, hcla, hclb, hclv, heo, hclo, c_peg1]) (by unfold k_peg; rw [if_neg (by rw [hc0]; decide), if_neg (by rw [hc1]; decide), if_pos hc2, if_neg (by rw [hc3]; decide), if_neg (by rw [hc4]; decide), if_neg (by rw [hc5]; decide)] <;> simp only [hclu, hea, heb, hcla, hclb, hclv, heo, hclo, c_peg1]) ⟨_, hR⟩)⟩) hL dX0_peg_27
      | true =>
        obtain rfl : kd = 0 := of_decide_eq_true hc2
        cases hc3 : decide (kT C = 0) with
        | false =>
          refine lv_aload hx hb dX0_peg_0 (lv_at hl 4 rfl) ?_
          refine lv_iconst (v := 0) hx hb dX0_peg_2 (by decide) ?_
          refine lv_aload_n hx hb dX0_peg_3 rfl (lv_at hl 0 rfl) ?_
          refine lv_iload_n hx hb dX0_peg_4 rfl (lv_at hl 1 rfl) ?_
          refine lv_iload_n hx hb dX0_peg_5 rfl (lv_at hl 2 rfl) ?_
          refine lv_iload_n hx hb dX0_peg_6 rfl (lv_at hl 3 rfl) ?_
          refine gt_hand (pre := [(0, 11, 14, 13), (0, 11, 18, 15)]) (h := (0, 11, 22, 28)) (post := []) (va_runTV (b := s0.heap.size) (As := [.int (nI u), .int 0, .int nu]) (rest := [.int 0, .ref (s0.heap.size + 128)]) ⟨hx, hb, hml, hown, hts⟩ (ct_X1_peg_S0 hE ⟨_, hR⟩ hu (of_decide_eq_false hc3) nu) (cwV 3 hts (lw_V q815 q816 q817 q47 q818) rfl rfl rfl (by decide +kernel) ⟨Nat.le_of_ble_eq_true rfl, Nat.le_of_ble_eq_true rfl⟩) (cc_pV hW0 (cc_re hK hR.np (show gcl[0]? = _ from rfl))) rfl rfl hl.1 rfl (lv_room (Nat.le_of_ble_eq_true rfl)) dX0_peg_7 ⟨Nat.le_of_ble_eq_true rfl, Nat.le_of_ble_eq_true rfl⟩) hL hW0 hown htab rfl ⟨by decide, by decide, by decide⟩ (hts _ q649) (List.forall_mem_cons.mpr ⟨⟨⟨by decide, by decide, by decide⟩, _, hts _ q530, hE.nc_SI⟩, (List.forall_mem_cons.mpr ⟨⟨⟨by decide, by decide, by decide⟩, _, hts _ q531, hE.nc_SA⟩, (fun y hy => by cases hy)⟩)⟩) (fun H locs xx hP1 hL => ?_)
          obtain ⟨Y, hR⟩ := hP1
          refine lv_astore (lv' := [(5, .ref xx), (0, .ref s0.heap.size), (1, .int (nI u)), (2, .int 0), (3, .int nu), (4, .ref (s0.heap.size + 128))]) hx hb dX0_peg_22 hl (by decide) rfl (fun ls hl => ?_)
          refine lv_iconst (v := 3) hx hb dX0_peg_24 (by decide) ?_
          refine W.widen (k := 1) (n := 6) (by omega) (by omega) ?_
          exact W.iret (v := 3) hx hb hr (fun t ht hW => ⟨ovI (by unfold k_peg; rw [if_neg (by rw [hc0]; decide), if_neg (by rw [hc1]; decide), if_neg (by rw [hc2]; decide), if_pos hc3]), by rw [ht]; exact (RR_CO (by unfold k_peg; rw [if_neg (by rw [hc0]; decide), if_neg (by rw [hc1]; decide), if_neg (by rw [hc2]; decide), if_pos hc3]) (by unfold k_peg; rw [if_neg (by rw [hc0]; decide), if_neg (by rw [hc1]; decide), if_neg (by rw [hc2]; decide), if_pos hc3]) ⟨_, hR⟩)⟩) hL dX0_peg_25
        | true =>
          have h24 := hR.lay.2.2.2.2.2.2.1
          obtain ⟨⟨a, ha, hea⟩, b, hb2, heb⟩ := hC.2.2.2 1 (by omega) (by omega) u hu
          have hclu : (nI u).toNatClampNeg = u := nI_clamp (by omega)
          have hcla : (nI a).toNatClampNeg = a := nI_clamp (by omega)
          have hclb : (nI b).toNatClampNeg = b := nI_clamp (by omega)
          refine lv_aload hx hb dX0_peg_0 (lv_at hl 4 rfl) ?_
          refine lv_iconst (v := 0) hx hb dX0_peg_2 (by decide) ?_
          refine lv_aload_n hx hb dX0_peg_3 rfl (lv_at hl 0 rfl) ?_
          refine lv_iload_n hx hb dX0_peg_4 rfl (lv_at hl 1 rfl) ?_
          refine lv_iload_n hx hb dX0_peg_5 rfl (lv_at hl 2 rfl) ?_
          refine lv_iload_n hx hb dX0_peg_6 rfl (lv_at hl 3 rfl) ?_
          refine cc_v (va_runV (b := s0.heap.size) (As := [.int (nI u), .int 0, .int nu]) (rest := [.int 0, .ref (s0.heap.size + 128)]) ⟨hx, hb, hml, hown, hts⟩ (ct_X1_peg_0 hE hR hu ha hea hb2 heb (of_decide_eq_true hc3) nu) (cwV 3 hts (lw_V q815 q816 q817 q47 q818) rfl rfl rfl (by decide +kernel) ⟨Nat.le_of_ble_eq_true rfl, Nat.le_of_ble_eq_true rfl⟩) (cc_pV hW0 (cc_re hK hR.np (show gcl[0]? = _ from rfl))) rfl rfl hl.1 rfl (lv_room (Nat.le_of_ble_eq_true rfl)) dX0_peg_7 ⟨Nat.le_of_ble_eq_true rfl, Nat.le_of_ble_eq_true rfl⟩) hL (fun H locs hP1 hL => ?_)
          subst hP1
          refine gx_last (n := 1) hx hb hK 0 hR.out rfl 0 ((by decide)) (by omega) (by decide) hL (by (try simp only [aI, aA, aT, aB, aL, mad]); omega) dX0_peg_10 (fun H locs hU hA hL => ?_)
          have hR := GRb.pO1 hR hU hA
          refine lv_goto (tgt := 26) hx hb dX0_peg_11 (by decide) ?_
          refine lv_iconst (v := 0) hx hb dX0_peg_26 (by decide) ?_
          refine W.widen (k := 1) (n := 6) (by omega) (by omega) ?_
          exact W.iret (v := 0) hx hb hr (fun t ht hW => ⟨ovI (by unfold k_peg; rw [if_neg (by rw [hc0]; decide), if_neg (by rw [hc1]; decide), if_neg (by rw [hc2]; decide), if_neg (by rw [hc3]; decide)]), by rw [ht]; exact (RR_CO (by unfold k_peg; rw [if_neg (by rw [hc0]; decide), if_neg (by rw [hc1]; decide), if_neg (by rw [hc2]; decide), if_neg (by rw [hc3]; decide)] <;> simp only [hclu, hea, heb, hcla, hclb, c_peg0]) (by unfold k_peg; rw [if_neg (by rw [hc0]; decide), if_neg (by rw [hc1]; decide), if_neg (by rw [hc2]; decide), if_neg (by rw [hc3]; decide)] <;> simp only [hclu, hea, heb, hcla, hclb, c_peg0]) ⟨_, hR⟩)⟩) hL dX0_peg_27
def k_line (C : CS) (o : Int64) (xp xq nn xf xt : Int32) : Int32 × CS × Int64 := if (in12 xp && in12 xq) = false then (1, C, o) else if (inR nn 0 9 && c_wks nn xf xt) = false then (2, C, o) else if (c_lok C xp.toNatClampNeg xq.toNatClampNeg nn) = false then (3, rV C (c_lev C (some (xp.toNatClampNeg, xq.toNatClampNeg))).1, o) else (0, c_line C xp.toNatClampNeg xq.toNatClampNeg nn xf xt, o)
set_option maxHeartbeats 4000000 in
set_option maxRecDepth 100000 in
theorem ct_X0_line {l : Launch} {s0 : State} {D : va_G} {DA : Nat → ClassId} {z0 : Nat} {C : CS} {M : MS} {o : Int64} {H : Heap} (hE : G0 l s0 D DA z0) (hR : RR s0 D DA z0 C M o H) (xp xq nn xf xt : Int32) : Met l yX0_line (wsW_ yX0_line cX0_line 7 (some .int) [(0, 11, 14, 13), (0, 11, 18, 15), (0, 11, 22, 28)]) ({ frames := 9, cells := 2, slots := 41, locals := 199 }) (cP s0 [.ref s0.heap.size, .int xp, .int xq, .int nn, .int xf, .int xt] H) (cQv (.int (k_line C o xp xq nn xf xt).1) (fun H1 => RR s0 D DA z0 (k_line C o xp xq nn xf xt).2.1 M (k_line C o xp xq nn xf xt).2.2 H1)) 2 41 (cF s0) := by
  refine va_MetW (cc := cX0_line) (maxL := 7) (ret := (some .int)) (hh := [(0, 11, 14, 13), (0, 11, 18, 15), (0, 11, 22, 28)]) (by decide) rfl ?_
  intro p e s m args below meth c s₁ Bd hml hv
  obtain ⟨rfl, rfl, hW0⟩ := hv
  have hx := Bd.exec
  have hb := Bd.bytes
  have hr := Bd.returns
  have hts := atoms_spec (ws := (wsW_ yX0_line cX0_line 7 (some .int) [(0, 11, 14, 13), (0, 11, 18, 15), (0, 11, 22, 28)])) Bd.pre
  obtain ⟨m9, meth9, c9, hn9, hm9, hc9, -, -, htab, -⟩ := Cond.codeWith_spec (hts _ List.mem_cons_self)
  cases Bd.named.symm.trans hn9
  cases Bd.method.symm.trans hm9
  cases (Stand.of_body Bd).code.symm.trans hc9
  have hts : ∀ w ∈ lw_all, w.before _ s = true := fun w h => hts w (List.mem_cons_of_mem _ h)
  have hown : s.vm.findClass RX0 = some m.cls := findClass_of_methodNamed Bd.named
  have hlocks := Bd.notSynchronized
  have hK := va_K.moved hW0.alike hE.K
  have hL : gx_L s0.heap.size ([] : List Loc) := gx_L0
  obtain ⟨Y, hR⟩ := hR
  have hl := lv_entry ([.ref s0.heap.size, .int xp, .int xq, .int nn, .int xf, .int xt]) (n := 7) (Nat.le_of_ble_eq_true rfl)
  rw [lg_entry_eq]
  generalize (lg_sl ([.ref s0.heap.size, .int xp, .int xq, .int nn, .int xf, .int xt]) ++ List.replicate (7 - (lg_sl ([.ref s0.heap.size, .int xp, .int xq, .int nn, .int xf, .int xt])).length) Slot.unset).toArray = ls at hl ⊢
  have hl : lv_has ls 7 [(0, .ref s0.heap.size), (1, .int xp), (2, .int xq), (3, .int nn), (4, .int xf), (5, .int xt)] := hl
  cases hc0 : in12 xp && in12 xq with
  | false =>
    refine lv_aload_n hx hb dX0_line_0 rfl (lv_at hl 0 rfl) ?_
    refine lv_iload_n hx hb dX0_line_1 rfl (lv_at hl 1 rfl) ?_
    refine lv_iload_n hx hb dX0_line_2 rfl (lv_at hl 2 rfl) ?_
    refine lv_iload_n hx hb dX0_line_3 rfl (lv_at hl 3 rfl) ?_
    refine lv_iload hx hb dX0_line_4 (lv_at hl 4 rfl) ?_
    refine lv_iload hx hb dX0_line_6 (lv_at hl 5 rfl) ?_
    refine gt_hand (pre := []) (h := (0, 11, 14, 13)) (post := [(0, 11, 18, 15), (0, 11, 22, 28)]) (va_runTV (b := s0.heap.size) (As := [.int xp, .int xq, .int nn, .int xf, .int xt]) (rest := []) ⟨hx, hb, hml, hown, hts⟩ (ct_X1_line_I hE ⟨_, hR⟩ xp xq nn xf xt hc0) (cwV 5 hts (lw_V q650 q651 q652 q47 q653) rfl rfl rfl (by decide +kernel) ⟨Nat.le_of_ble_eq_true rfl, Nat.le_of_ble_eq_true rfl⟩) (cc_pV hW0 (cc_re hK hR.np (show gcl[0]? = _ from rfl))) rfl rfl hl.1 rfl (lv_room (Nat.le_of_ble_eq_true rfl)) dX0_line_8 ⟨Nat.le_of_ble_eq_true rfl, Nat.le_of_ble_eq_true rfl⟩) hL hW0 hown htab rfl ⟨by decide, by decide, by decide⟩ (hts _ q530) (fun y hy => by cases hy) (fun H locs xx hP1 hL => ?_)
    obtain ⟨Y, hR⟩ := hP1
    refine lv_astore (lv' := [(6, .ref xx), (0, .ref s0.heap.size), (1, .int xp), (2, .int xq), (3, .int nn), (4, .int xf), (5, .int xt)]) hx hb dX0_line_14 hl (by decide) rfl (fun ls hl => ?_)
    refine lv_iconst (v := 1) hx hb dX0_line_16 (by decide) ?_
    refine W.widen (k := 2) (n := 41) (by omega) (by omega) ?_
    exact W.iret (v := 1) hx hb hr (fun t ht hW => ⟨ovI (by unfold k_line; rw [if_pos hc0]), by rw [ht]; exact (RR_CO (by unfold k_line; rw [if_pos hc0]) (by unfold k_line; rw [if_pos hc0]) ⟨_, hR⟩)⟩) hL dX0_line_17
  | true =>
    obtain ⟨pa, hpa, rfl⟩ := in12_t (b21 hc0)
    obtain ⟨ch, hch, rfl⟩ := in12_t (b22 hc0)
    cases hc1 : inR nn 0 9 && c_wks nn xf xt with
    | false =>
      refine lv_aload_n hx hb dX0_line_0 rfl (lv_at hl 0 rfl) ?_
      refine lv_iload_n hx hb dX0_line_1 rfl (lv_at hl 1 rfl) ?_
      refine lv_iload_n hx hb dX0_line_2 rfl (lv_at hl 2 rfl) ?_
      refine lv_iload_n hx hb dX0_line_3 rfl (lv_at hl 3 rfl) ?_
      refine lv_iload hx hb dX0_line_4 (lv_at hl 4 rfl) ?_
      refine lv_iload hx hb dX0_line_6 (lv_at hl 5 rfl) ?_
      refine gt_hand (pre := [(0, 11, 14, 13)]) (h := (0, 11, 18, 15)) (post := [(0, 11, 22, 28)]) (va_runTV (b := s0.heap.size) (As := [.int (nI pa), .int (nI ch), .int nn, .int xf, .int xt]) (rest := []) ⟨hx, hb, hml, hown, hts⟩ (ct_X1_line_A hE ⟨_, hR⟩ hpa hch nn xf xt hc1) (cwV 5 hts (lw_V q650 q651 q652 q47 q653) rfl rfl rfl (by decide +kernel) ⟨Nat.le_of_ble_eq_true rfl, Nat.le_of_ble_eq_true rfl⟩) (cc_pV hW0 (cc_re hK hR.np (show gcl[0]? = _ from rfl))) rfl rfl hl.1 rfl (lv_room (Nat.le_of_ble_eq_true rfl)) dX0_line_8 ⟨Nat.le_of_ble_eq_true rfl, Nat.le_of_ble_eq_true rfl⟩) hL hW0 hown htab rfl ⟨by decide, by decide, by decide⟩ (hts _ q531) (List.forall_mem_cons.mpr ⟨⟨⟨by decide, by decide, by decide⟩, _, hts _ q530, hE.nc_AI⟩, (fun y hy => by cases hy)⟩) (fun H locs xx hP1 hL => ?_)
      obtain ⟨Y, hR⟩ := hP1
      refine lv_astore (lv' := [(6, .ref xx), (0, .ref s0.heap.size), (1, .int (nI pa)), (2, .int (nI ch)), (3, .int nn), (4, .int xf), (5, .int xt)]) hx hb dX0_line_18 hl (by decide) rfl (fun ls hl => ?_)
      refine lv_iconst (v := 2) hx hb dX0_line_20 (by decide) ?_
      refine W.widen (k := 2) (n := 41) (by omega) (by omega) ?_
      exact W.iret (v := 2) hx hb hr (fun t ht hW => ⟨ovI (by unfold k_line; rw [if_neg (by rw [hc0]; decide), if_pos hc1]), by rw [ht]; exact (RR_CO (by unfold k_line; rw [if_neg (by rw [hc0]; decide), if_pos hc1]) (by unfold k_line; rw [if_neg (by rw [hc0]; decide), if_pos hc1]) ⟨_, hR⟩)⟩) hL dX0_line_21
    | true =>
      cases hc2 : c_lok C (nI pa).toNatClampNeg (nI ch).toNatClampNeg nn with
      | false =>
        refine lv_aload_n hx hb dX0_line_0 rfl (lv_at hl 0 rfl) ?_
        refine lv_iload_n hx hb dX0_line_1 rfl (lv_at hl 1 rfl) ?_
        refine lv_iload_n hx hb dX0_line_2 rfl (lv_at hl 2 rfl) ?_
        refine lv_iload_n hx hb dX0_line_3 rfl (lv_at hl 3 rfl) ?_
        refine lv_iload hx hb dX0_line_4 (lv_at hl 4 rfl) ?_
        refine lv_iload hx hb dX0_line_6 (lv_at hl 5 rfl) ?_
        refine gt_hand (pre := [(0, 11, 14, 13), (0, 11, 18, 15)]) (h := (0, 11, 22, 28)) (post := []) (va_runTV (b := s0.heap.size) (As := [.int (nI pa), .int (nI ch), .int nn, .int xf, .int xt]) (rest := []) ⟨hx, hb, hml, hown, hts⟩ (ct_X1_line_S hE ⟨_, hR⟩ hpa hch nn xf xt (b21 hc1) (b22 hc1) ((lok_f (C := C) (pa := pa) (ch := ch) (n := nn) (by have h9 := hc2; rw [nI_cl hpa, nI_cl hch] at h9; exact h9))).1 ((lok_f (C := C) (pa := pa) (ch := ch) (n := nn) (by have h9 := hc2; rw [nI_cl hpa, nI_cl hch] at h9; exact h9))).2) (cwV 5 hts (lw_V q650 q651 q652 q47 q653) rfl rfl rfl (by decide +kernel) ⟨Nat.le_of_ble_eq_true rfl, Nat.le_of_ble_eq_true rfl⟩) (cc_pV hW0 (cc_re hK hR.np (show gcl[0]? = _ from rfl))) rfl rfl hl.1 rfl (lv_room (Nat.le_of_ble_eq_true rfl)) dX0_line_8 ⟨Nat.le_of_ble_eq_true rfl, Nat.le_of_ble_eq_true rfl⟩) hL hW0 hown htab rfl ⟨by decide, by decide, by decide⟩ (hts _ q649) (List.forall_mem_cons.mpr ⟨⟨⟨by decide, by decide, by decide⟩, _, hts _ q530, hE.nc_SI⟩, (List.forall_mem_cons.mpr ⟨⟨⟨by decide, by decide, by decide⟩, _, hts _ q531, hE.nc_SA⟩, (fun y hy => by cases hy)⟩)⟩) (fun H locs xx hP1 hL => ?_)
        obtain ⟨Y, hR⟩ := hP1
        refine lv_astore (lv' := [(6, .ref xx), (0, .ref s0.heap.size), (1, .int (nI pa)), (2, .int (nI ch)), (3, .int nn), (4, .int xf), (5, .int xt)]) hx hb dX0_line_22 hl (by decide) rfl (fun ls hl => ?_)
        refine lv_iconst (v := 3) hx hb dX0_line_24 (by decide) ?_
        refine W.widen (k := 2) (n := 41) (by omega) (by omega) ?_
        exact W.iret (v := 3) hx hb hr (fun t ht hW => ⟨ovI (by unfold k_line; rw [if_neg (by rw [hc0]; decide), if_neg (by rw [hc1]; decide), if_pos hc2]), by rw [ht]; exact (RR_CO (by unfold k_line; rw [if_neg (by rw [hc0]; decide), if_neg (by rw [hc1]; decide), if_pos hc2] <;> rw [nI_cl hpa, nI_cl hch]) (by unfold k_line; rw [if_neg (by rw [hc0]; decide), if_neg (by rw [hc1]; decide), if_pos hc2] <;> rw [nI_cl hpa, nI_cl hch]) ⟨_, hR⟩)⟩) hL dX0_line_25
      | true =>
        refine lv_aload_n hx hb dX0_line_0 rfl (lv_at hl 0 rfl) ?_
        refine lv_iload_n hx hb dX0_line_1 rfl (lv_at hl 1 rfl) ?_
        refine lv_iload_n hx hb dX0_line_2 rfl (lv_at hl 2 rfl) ?_
        refine lv_iload_n hx hb dX0_line_3 rfl (lv_at hl 3 rfl) ?_
        refine lv_iload hx hb dX0_line_4 (lv_at hl 4 rfl) ?_
        refine lv_iload hx hb dX0_line_6 (lv_at hl 5 rfl) ?_
        refine cc_0 (va_runV (b := s0.heap.size) (As := [.int (nI pa), .int (nI ch), .int nn, .int xf, .int xt]) (rest := []) ⟨hx, hb, hml, hown, hts⟩ (ct_X1_line hE ⟨_, hR⟩ hpa hch nn xf xt (b21 hc1) (b22 hc1) (lok_t (C := C) (pa := pa) (ch := ch) (n := nn) (by have h9 := hc2; rw [nI_cl hpa, nI_cl hch] at h9; exact h9))) (cwV 5 hts (lw_V q650 q651 q652 q47 q653) rfl rfl rfl (by decide +kernel) ⟨Nat.le_of_ble_eq_true rfl, Nat.le_of_ble_eq_true rfl⟩) (cc_pV hW0 (cc_re hK hR.np (show gcl[0]? = _ from rfl))) rfl rfl hl.1 rfl (lv_room (Nat.le_of_ble_eq_true rfl)) dX0_line_8 ⟨Nat.le_of_ble_eq_true rfl, Nat.le_of_ble_eq_true rfl⟩) hL (fun H locs hP1 hL => ?_)
        obtain ⟨Y, hR⟩ := hP1
        refine lv_goto (tgt := 26) hx hb dX0_line_11 (by decide) ?_
        refine lv_iconst (v := 0) hx hb dX0_line_26 (by decide) ?_
        refine W.widen (k := 2) (n := 41) (by omega) (by omega) ?_
        exact W.iret (v := 0) hx hb hr (fun t ht hW => ⟨ovI (by unfold k_line; rw [if_neg (by rw [hc0]; decide), if_neg (by rw [hc1]; decide), if_neg (by rw [hc2]; decide)]), by rw [ht]; exact (RR_CO (by unfold k_line; rw [if_neg (by rw [hc0]; decide), if_neg (by rw [hc1]; decide), if_neg (by rw [hc2]; decide)] <;> rw [nI_cl hpa, nI_cl hch]) (by unfold k_line; rw [if_neg (by rw [hc0]; decide), if_neg (by rw [hc1]; decide), if_neg (by rw [hc2]; decide)] <;> rw [nI_cl hpa, nI_cl hch]) ⟨_, hR⟩)⟩) hL dX0_line_27
