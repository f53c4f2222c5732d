theorem nc4 {x y : Int32} (h : (!(decide (x = 4)) || decide (y = 0)) = false) : x = 4 ∧ ¬ y = 0 := by
  simpa using h
theorem b41 {a b c d : Bool} (h : (a && b && c && d) = true) : a = true := by cases a <;> simp_all
theorem b42 {a b c d : Bool} (h : (a && b && c && d) = true) : b = true := by cases b <;> simp_all
theorem b43 {a b c d : Bool} (h : (a && b && c && d) = true) : c = true := by cases c <;> simp_all
theorem b44 {a b c d : Bool} (h : (a && b && c && d) = true) : d = true := by cases d <;> simp_all
theorem b31 {a b c : Bool} (h : (a && b && c) = true) : a = true := by cases a <;> simp_all
theorem b32 {a b c : Bool} (h : (a && b && c) = true) : b = true := by cases b <;> simp_all
theorem b33 {a b c : Bool} (h : (a && b && c) = true) : c = true := by cases c <;> simp_all
theorem b21 {a b : Bool} (h : (a && b) = true) : a = true := by cases a <;> simp_all
theorem b22 {a b : Bool} (h : (a && b) = true) : b = true := by cases b <;> simp_all
theorem in01_t {x : Int32} (h : inR x 0 1 = true) : ∃ k, (k = 0 ∨ k = 1) ∧ x = nI k := by
  obtain ⟨k, hk, e⟩ := inR_in (n := 2) (by decide) (show inR x 0 (nI 2 - 1) = true from h)
  exact ⟨k, by omega, e⟩
theorem in02_2 {x : Int32} (h : inR x 0 2 = true) (h0 : decide (x = 0) = false) (h1 : decide (x = 1) = false) : x = 2 := by
  obtain ⟨k, hk, e⟩ := inR_in (n := 3) (by decide) (show inR x 0 (nI 3 - 1) = true from h)
  have e0 := of_decide_eq_false h0
  have e1 := of_decide_eq_false h1
  subst e
  rcases (show k = 0 ∨ k = 1 ∨ k = 2 by omega) with e | e | e
  · subst e; exact absurd rfl e0
  · subst e; exact absurd (by decide) e1
  · subst e; decide
def k_item (C : CS) (o : Int64) (i r z d q : Int32) : Int32 × CS × Int64 := if (in12 i) = false then (1, C, o) else if (inR r 0 3 && inR z 1 1000 && inR d 0 4 && inR q 0 1000) = false then (2, C, o) else (0, c_item C i.toNatClampNeg r z d q, o)
set_option maxHeartbeats 4000000 in
set_option maxRecDepth 100000 in
theorem ct_X0_item {l : Launch} {s0 : State} {D : va_G} {DA : Nat → ClassId} {z0 : Nat} {C : CS} {M : MS} {o : Int64} {H : Heap} (hE : G0 l s0 D DA z0) (hR : RR s0 D DA z0 C M o H) (i r z d q : Int32) : Met l yX0_item (wsW_ yX0_item cX0_item 7 (some .int) [(0, 11, 14, 13), (0, 11, 18, 15)]) ({ frames := 9, cells := 1, slots := 6, locals := 149 }) (cP s0 [.ref s0.heap.size, .int i, .int r, .int z, .int d, .int q] H) (cQv (.int (k_item C o i r z d q).1) (fun H1 => RR s0 D DA z0 (k_item C o i r z d q).2.1 M (k_item C o i r z d q).2.2 H1)) 1 6 (cF s0) := by
  refine va_MetW (cc := cX0_item) (maxL := 7) (ret := (some .int)) (hh := [(0, 11, 14, 13), (0, 11, 18, 15)]) (by decide) rfl ?_
  intro p e s m args below meth c s₁ Bd hml hv
  obtain ⟨rfl, rfl, hW0⟩ := hv
  have hx := Bd.exec
  have hb := Bd.bytes
  have hr := Bd.returns
  have hts := atoms_spec (ws := (wsW_ yX0_item cX0_item 7 (some .int) [(0, 11, 14, 13), (0, 11, 18, 15)])) Bd.pre
  obtain ⟨m9, meth9, c9, hn9, hm9, hc9, -, -, htab, -⟩ := Cond.codeWith_spec (hts _ List.mem_cons_self)
  cases Bd.named.symm.trans hn9
  cases Bd.method.symm.trans hm9
  cases (Stand.of_body Bd).code.symm.trans hc9
  have hts : ∀ w ∈ lw_all, w.before _ s = true := fun w h => hts w (List.mem_cons_of_mem _ h)
  have hown : s.vm.findClass RX0 = some m.cls := findClass_of_methodNamed Bd.named
  have hlocks := Bd.notSynchronized
  have hK := va_K.moved hW0.alike hE.K
  have hL : gx_L s0.heap.size ([] : List Loc) := gx_L0
  obtain ⟨Y, hR⟩ := hR
  have hl := lv_entry ([.ref s0.heap.size, .int i, .int r, .int z, .int d, .int q]) (n := 7) (Nat.le_of_ble_eq_true rfl)
  rw [lg_entry_eq]
  generalize (lg_sl ([.ref s0.heap.size, .int i, .int r, .int z, .int d, .int q]) ++ List.replicate (7 - (lg_sl ([.ref s0.heap.size, .int i, .int r, .int z, .int d, .int q])).length) Slot.unset).toArray = ls at hl ⊢
  have hl : lv_has ls 7 [(0, .ref s0.heap.size), (1, .int i), (2, .int r), (3, .int z), (4, .int d), (5, .int q)] := hl
  cases hc0 : in12 i with
  | false =>
    refine lv_aload_n hx hb dX0_item_0 rfl (lv_at hl 0 rfl) ?_
    refine lv_iload_n hx hb dX0_item_1 rfl (lv_at hl 1 rfl) ?_
    refine lv_iload_n hx hb dX0_item_2 rfl (lv_at hl 2 rfl) ?_
    refine lv_iload_n hx hb dX0_item_3 rfl (lv_at hl 3 rfl) ?_
    refine lv_iload hx hb dX0_item_4 (lv_at hl 4 rfl) ?_
    refine lv_iload hx hb dX0_item_6 (lv_at hl 5 rfl) ?_
    refine gt_hand (pre := []) (h := (0, 11, 14, 13)) (post := [(0, 11, 18, 15)]) (va_runTV (b := s0.heap.size) (As := [.int i, .int r, .int z, .int d, .int q]) (rest := []) ⟨hx, hb, hml, hown, hts⟩ (ct_X1_item_I hE ⟨_, hR⟩ i r z d q hc0) (cwV 5 hts (lw_V q532 q533 q534 q47 q535) rfl rfl rfl (by decide +kernel) ⟨Nat.le_of_ble_eq_true rfl, Nat.le_of_ble_eq_true rfl⟩) (cc_pV hW0 (cc_re hK hR.np (show gcl[0]? = _ from rfl))) rfl rfl hl.1 rfl (lv_room (Nat.le_of_ble_eq_true rfl)) dX0_item_8 ⟨Nat.le_of_ble_eq_true rfl, Nat.le_of_ble_eq_true rfl⟩) hL hW0 hown htab rfl ⟨by decide, by decide, by decide⟩ (hts _ q530) (fun y hy => by cases hy) (fun H locs xx hP1 hL => ?_)
    obtain ⟨Y, hR⟩ := hP1
    refine lv_astore (lv' := [(6, .ref xx), (0, .ref s0.heap.size), (1, .int i), (2, .int r), (3, .int z), (4, .int d), (5, .int q)]) hx hb dX0_item_14 hl (by decide) rfl (fun ls hl => ?_)
    refine lv_iconst (v := 1) hx hb dX0_item_16 (by decide) ?_
    refine W.widen (k := 1) (n := 6) (by omega) (by omega) ?_
    exact W.iret (v := 1) hx hb hr (fun t ht hW => ⟨ovI (by unfold k_item; rw [if_pos hc0]), by rw [ht]; exact (RR_CO (by unfold k_item; rw [if_pos hc0]) (by unfold k_item; rw [if_pos hc0]) ⟨_, hR⟩)⟩) hL dX0_item_17
  | true =>
    obtain ⟨k, hk, rfl⟩ := in12_t hc0
    cases hc1 : inR r 0 3 && inR z 1 1000 && inR d 0 4 && inR q 0 1000 with
    | false =>
      refine lv_aload_n hx hb dX0_item_0 rfl (lv_at hl 0 rfl) ?_
      refine lv_iload_n hx hb dX0_item_1 rfl (lv_at hl 1 rfl) ?_
      refine lv_iload_n hx hb dX0_item_2 rfl (lv_at hl 2 rfl) ?_
      refine lv_iload_n hx hb dX0_item_3 rfl (lv_at hl 3 rfl) ?_
      refine lv_iload hx hb dX0_item_4 (lv_at hl 4 rfl) ?_
      refine lv_iload hx hb dX0_item_6 (lv_at hl 5 rfl) ?_
      refine gt_hand (pre := [(0, 11, 14, 13)]) (h := (0, 11, 18, 15)) (post := []) (va_runTV (b := s0.heap.size) (As := [.int (nI k), .int r, .int z, .int d, .int q]) (rest := []) ⟨hx, hb, hml, hown, hts⟩ (ct_X1_item_A hE ⟨_, hR⟩ hk r z d q hc1) (cwV 5 hts (lw_V q532 q533 q534 q47 q535) rfl rfl rfl (by decide +kernel) ⟨Nat.le_of_ble_eq_true rfl, Nat.le_of_ble_eq_true rfl⟩) (cc_pV hW0 (cc_re hK hR.np (show gcl[0]? = _ from rfl))) rfl rfl hl.1 rfl (lv_room (Nat.le_of_ble_eq_true rfl)) dX0_item_8 ⟨Nat.le_of_ble_eq_true rfl, Nat.le_of_ble_eq_true rfl⟩) hL hW0 hown htab rfl ⟨by decide, by decide, by decide⟩ (hts _ q531) (List.forall_mem_cons.mpr ⟨⟨⟨by decide, by decide, by decide⟩, _, hts _ q530, hE.nc_AI⟩, (fun y hy => by cases hy)⟩) (fun H locs xx hP1 hL => ?_)
      obtain ⟨Y, hR⟩ := hP1
      refine lv_astore (lv' := [(6, .ref xx), (0, .ref s0.heap.size), (1, .int (nI k)), (2, .int r), (3, .int z), (4, .int d), (5, .int q)]) hx hb dX0_item_18 hl (by decide) rfl (fun ls hl => ?_)
      refine lv_iconst (v := 2) hx hb dX0_item_20 (by decide) ?_
      refine W.widen (k := 1) (n := 6) (by omega) (by omega) ?_
      exact W.iret (v := 2) hx hb hr (fun t ht hW => ⟨ovI (by unfold k_item; rw [if_neg (by rw [hc0]; decide), if_pos hc1]), by rw [ht]; exact (RR_CO (by unfold k_item; rw [if_neg (by rw [hc0]; decide), if_pos hc1]) (by unfold k_item; rw [if_neg (by rw [hc0]; decide), if_pos hc1]) ⟨_, hR⟩)⟩) hL dX0_item_21
    | true =>
      refine lv_aload_n hx hb dX0_item_0 rfl (lv_at hl 0 rfl) ?_
      refine lv_iload_n hx hb dX0_item_1 rfl (lv_at hl 1 rfl) ?_
      refine lv_iload_n hx hb dX0_item_2 rfl (lv_at hl 2 rfl) ?_
      refine lv_iload_n hx hb dX0_item_3 rfl (lv_at hl 3 rfl) ?_
      refine lv_iload hx hb dX0_item_4 (lv_at hl 4 rfl) ?_
      refine lv_iload hx hb dX0_item_6 (lv_at hl 5 rfl) ?_
      refine cc_0 (va_runV (b := s0.heap.size) (As := [.int (nI k), .int r, .int z, .int d, .int q]) (rest := []) ⟨hx, hb, hml, hown, hts⟩ (ct_X1_item hE ⟨_, hR⟩ hk r z d q (b41 hc1) (b42 hc1) (b43 hc1) (b44 hc1)) (cwV 5 hts (lw_V q532 q533 q534 q47 q535) rfl rfl rfl (by decide +kernel) ⟨Nat.le_of_ble_eq_true rfl, Nat.le_of_ble_eq_true rfl⟩) (cc_pV hW0 (cc_re hK hR.np (show gcl[0]? = _ from rfl))) rfl rfl hl.1 rfl (lv_room (Nat.le_of_ble_eq_true rfl)) dX0_item_8 ⟨Nat.le_of_ble_eq_true rfl, Nat.le_of_ble_eq_true rfl⟩) hL (fun H locs hP1 hL => ?_)
      obtain ⟨Y, hR⟩ := hP1
      refine lv_goto (tgt := 22) hx hb dX0_item_11 (by decide) ?_
      refine lv_iconst (v := 0) hx hb dX0_item_22 (by decide) ?_
      refine W.widen (k := 1) (n := 6) (by omega) (by omega) ?_
      exact W.iret (v := 0) hx hb hr (fun t ht hW => ⟨ovI (by unfold k_item; rw [if_neg (by rw [hc0]; decide), if_neg (by rw [hc1]; decide)]), by rw [ht]; exact (RR_CO (by unfold k_item; rw [if_neg (by rw [hc0]; decide), if_neg (by rw [hc1]; decide)] <;> rw [nI_cl hk]) (by unfold k_item; rw [if_neg (by rw [hc0]; decide), if_neg (by rw [hc1]; decide)] <;> rw [nI_cl hk]) ⟨_, hR⟩)⟩) hL dX0_item_23
def k_costs (C : CS) (o : Int64) (i r z d : Int32) : Int32 × CS × Int64 := if (in12 i) = false then (1, C, o) else if (inR r 0 200 && inR z 0 100000 && inR d 0 100) = false then (2, C, o) else (0, c_costs C i.toNatClampNeg r z d, o)
set_option maxHeartbeats 4000000 in
set_option maxRecDepth 100000 in
theorem ct_X0_costs {l : Launch} {s0 : State} {D : va_G} {DA : Nat → ClassId} {z0 : Nat} {C : CS} {M : MS} {o : Int64} {H : Heap} (hE : G0 l s0 D DA z0) (hR : RR s0 D DA z0 C M o H) (i r z d : Int32) : Met l yX0_costs (wsW_ yX0_costs cX0_costs 6 (some .int) [(0, 9, 12, 13), (0, 9, 16, 15)]) ({ frames := 9, cells := 1, slots := 6, locals := 148 }) (cP s0 [.ref s0.heap.size, .int i, .int r, .int z, .int d] H) (cQv (.int (k_costs C o i r z d).1) (fun H1 => RR s0 D DA z0 (k_costs C o i r z d).2.1 M (k_costs C o i r z d).2.2 H1)) 1 6 (cF s0) := by
  refine va_MetW (cc := cX0_costs) (maxL := 6) (ret := (some .int)) (hh := [(0, 9, 12, 13), (0, 9, 16, 15)]) (by decide) rfl ?_
  intro p e s m args below meth c s₁ Bd hml hv
  obtain ⟨rfl, rfl, hW0⟩ := hv
  have hx := Bd.exec
  have hb := Bd.bytes
  have hr := Bd.returns
  have hts := atoms_spec (ws := (wsW_ yX0_costs cX0_costs 6 (some .int) [(0, 9, 12, 13), (0, 9, 16, 15)])) Bd.pre
  obtain ⟨m9, meth9, c9, hn9, hm9, hc9, -, -, htab, -⟩ := Cond.codeWith_spec (hts _ List.mem_cons_self)
  cases Bd.named.symm.trans hn9
  cases Bd.method.symm.trans hm9
  cases (Stand.of_body Bd).code.symm.trans hc9
  have hts : ∀ w ∈ lw_all, w.before _ s = true := fun w h => hts w (List.mem_cons_of_mem _ h)
  have hown : s.vm.findClass RX0 = some m.cls := findClass_of_methodNamed Bd.named
  have hlocks := Bd.notSynchronized
  have hK := va_K.moved hW0.alike hE.K
  have hL : gx_L s0.heap.size ([] : List Loc) := gx_L0
  obtain ⟨Y, hR⟩ := hR
  have hl := lv_entry ([.ref s0.heap.size, .int i, .int r, .int z, .int d]) (n := 6) (Nat.le_of_ble_eq_true rfl)
  rw [lg_entry_eq]
  generalize (lg_sl ([.ref s0.heap.size, .int i, .int r, .int z, .int d]) ++ List.replicate (6 - (lg_sl ([.ref s0.heap.size, .int i, .int r, .int z, .int d])).length) Slot.unset).toArray = ls at hl ⊢
  have hl : lv_has ls 6 [(0, .ref s0.heap.size), (1, .int i), (2, .int r), (3, .int z), (4, .int d)] := hl
  cases hc0 : in12 i with
  | false =>
    refine lv_aload_n hx hb dX0_costs_0 rfl (lv_at hl 0 rfl) ?_
    refine lv_iload_n hx hb dX0_costs_1 rfl (lv_at hl 1 rfl) ?_
    refine lv_iload_n hx hb dX0_costs_2 rfl (lv_at hl 2 rfl) ?_
    refine lv_iload_n hx hb dX0_costs_3 rfl (lv_at hl 3 rfl) ?_
    refine lv_iload hx hb dX0_costs_4 (lv_at hl 4 rfl) ?_
    refine gt_hand (pre := []) (h := (0, 9, 12, 13)) (post := [(0, 9, 16, 15)]) (va_runTV (b := s0.heap.size) (As := [.int i, .int r, .int z, .int d]) (rest := []) ⟨hx, hb, hml, hown, hts⟩ (ct_X1_costs_I hE ⟨_, hR⟩ i r z d hc0) (cwV 4 hts (lw_V q634 q635 q636 q47 q637) rfl rfl rfl (by decide +kernel) ⟨Nat.le_of_ble_eq_true rfl, Nat.le_of_ble_eq_true rfl⟩) (cc_pV hW0 (cc_re hK hR.np (show gcl[0]? = _ from rfl))) rfl rfl hl.1 rfl (lv_room (Nat.le_of_ble_eq_true rfl)) dX0_costs_6 ⟨Nat.le_of_ble_eq_true rfl, Nat.le_of_ble_eq_true rfl⟩) hL hW0 hown htab rfl ⟨by decide, by decide, by decide⟩ (hts _ q530) (fun y hy => by cases hy) (fun H locs xx hP1 hL => ?_)
    obtain ⟨Y, hR⟩ := hP1
    refine lv_astore (lv' := [(5, .ref xx), (0, .ref s0.heap.size), (1, .int i), (2, .int r), (3, .int z), (4, .int d)]) hx hb dX0_costs_12 hl (by decide) rfl (fun ls hl => ?_)
    refine lv_iconst (v := 1) hx hb dX0_costs_14 (by decide) ?_
    refine W.widen (k := 1) (n := 6) (by omega) (by omega) ?_
    exact W.iret (v := 1) hx hb hr (fun t ht hW => ⟨ovI (by unfold k_costs; rw [if_pos hc0]), by rw [ht]; exact (RR_CO (by unfold k_costs; rw [if_pos hc0]) (by unfold k_costs; rw [if_pos hc0]) ⟨_, hR⟩)⟩) hL dX0_costs_15
  | true =>
    obtain ⟨k, hk, rfl⟩ := in12_t hc0
    cases hc1 : inR r 0 200 && inR z 0 100000 && inR d 0 100 with
    | false =>
      refine lv_aload_n hx hb dX0_costs_0 rfl (lv_at hl 0 rfl) ?_
      refine lv_iload_n hx hb dX0_costs_1 rfl (lv_at hl 1 rfl) ?_
      refine lv_iload_n hx hb dX0_costs_2 rfl (lv_at hl 2 rfl) ?_
      refine lv_iload_n hx hb dX0_costs_3 rfl (lv_at hl 3 rfl) ?_
      refine lv_iload hx hb dX0_costs_4 (lv_at hl 4 rfl) ?_
      refine gt_hand (pre := [(0, 9, 12, 13)]) (h := (0, 9, 16, 15)) (post := []) (va_runTV (b := s0.heap.size) (As := [.int (nI k), .int r, .int z, .int d]) (rest := []) ⟨hx, hb, hml, hown, hts⟩ (ct_X1_costs_A hE ⟨_, hR⟩ hk r z d hc1) (cwV 4 hts (lw_V q634 q635 q636 q47 q637) rfl rfl rfl (by decide +kernel) ⟨Nat.le_of_ble_eq_true rfl, Nat.le_of_ble_eq_true rfl⟩) (cc_pV hW0 (cc_re hK hR.np (show gcl[0]? = _ from rfl))) rfl rfl hl.1 rfl (lv_room (Nat.le_of_ble_eq_true rfl)) dX0_costs_6 ⟨Nat.le_of_ble_eq_true rfl, Nat.le_of_ble_eq_true rfl⟩) hL hW0 hown htab rfl ⟨by decide, by decide, by decide⟩ (hts _ q531) (List.forall_mem_cons.mpr ⟨⟨⟨by decide, by decide, by decide⟩, _, hts _ q530, hE.nc_AI⟩, (fun y hy => by cases hy)⟩) (fun H locs xx hP1 hL => ?_)
      obtain ⟨Y, hR⟩ := hP1
      refine lv_astore (lv' := [(5, .ref xx), (0, .ref s0.heap.size), (1, .int (nI k)), (2, .int r), (3, .int z), (4, .int d)]) hx hb dX0_costs_16 hl (by decide) rfl (fun ls hl => ?_)
      refine lv_iconst (v := 2) hx hb dX0_costs_18 (by decide) ?_
      refine W.widen (k := 1) (n := 6) (by omega) (by omega) ?_
      exact W.iret (v := 2) hx hb hr (fun t ht hW => ⟨ovI (by unfold k_costs; rw [if_neg (by rw [hc0]; decide), if_pos hc1]), by rw [ht]; exact (RR_CO (by unfold k_costs; rw [if_neg (by rw [hc0]; decide), if_pos hc1]) (by unfold k_costs; rw [if_neg (by rw [hc0]; decide), if_pos hc1]) ⟨_, hR⟩)⟩) hL dX0_costs_19
    | true =>
      refine lv_aload_n hx hb dX0_costs_0 rfl (lv_at hl 0 rfl) ?_
      refine lv_iload_n hx hb dX0_costs_1 rfl (lv_at hl 1 rfl) ?_
      refine lv_iload_n hx hb dX0_costs_2 rfl (lv_at hl 2 rfl) ?_
      refine lv_iload_n hx hb dX0_costs_3 rfl (lv_at hl 3 rfl) ?_
      refine lv_iload hx hb dX0_costs_4 (lv_at hl 4 rfl) ?_
      refine cc_0 (va_runV (b := s0.heap.size) (As := [.int (nI k), .int r, .int z, .int d]) (rest := []) ⟨hx, hb, hml, hown, hts⟩ (ct_X1_costs hE ⟨_, hR⟩ hk r z d (b31 hc1) (b32 hc1) (b33 hc1)) (cwV 4 hts (lw_V q634 q635 q636 q47 q637) rfl rfl rfl (by decide +kernel) ⟨Nat.le_of_ble_eq_true rfl, Nat.le_of_ble_eq_true rfl⟩) (cc_pV hW0 (cc_re hK hR.np (show gcl[0]? = _ from rfl))) rfl rfl hl.1 rfl (lv_room (Nat.le_of_ble_eq_true rfl)) dX0_costs_6 ⟨Nat.le_of_ble_eq_true rfl, Nat.le_of_ble_eq_true rfl⟩) hL (fun H locs hP1 hL => ?_)
      obtain ⟨Y, hR⟩ := hP1
      refine lv_goto (tgt := 20) hx hb dX0_costs_9 (by decide) ?_
      refine lv_iconst (v := 0) hx hb dX0_costs_20 (by decide) ?_
      refine W.widen (k := 1) (n := 6) (by omega) (by omega) ?_
      exact W.iret (v := 0) hx hb hr (fun t ht hW => ⟨ovI (by unfold k_costs; rw [if_neg (by rw [hc0]; decide), if_neg (by rw [hc1]; decide)]), by rw [ht]; exact (RR_CO (by unfold k_costs; rw [if_neg (by rw [hc0]; decide), if_neg (by rw [hc1]; decide)] <;> rw [nI_cl hk]) (by unfold k_costs; rw [if_neg (by rw [hc0]; decide), if_neg (by rw [hc1]; decide)] <;> rw [nI_cl hk]) ⟨_, hR⟩)⟩) hL dX0_costs_21
def k_made (C : CS) (o : Int64) (i r z : Int32) : Int32 × CS × Int64 := if (in12 i && inR r 0 2) = false then (1, C, o) else if (inR z 0 9) = false then (2, C, o) else (0, c_made C i.toNatClampNeg r z, o)
set_option maxHeartbeats 4000000 in
set_option maxRecDepth 100000 in
theorem ct_X0_made {l : Launch} {s0 : State} {D : va_G} {DA : Nat → ClassId} {z0 : Nat} {C : CS} {M : MS} {o : Int64} {H : Heap} (hE : G0 l s0 D DA z0) (hR : RR s0 D DA z0 C M o H) (i r z : Int32) : Met l yX0_made (wsW_ yX0_made cX0_made 5 (some .int) [(0, 7, 10, 13), (0, 7, 14, 15)]) ({ frames := 9, cells := 1, slots := 6, locals := 147 }) (cP s0 [.ref s0.heap.size, .int i, .int r, .int z] H) (cQv (.int (k_made C o i r z).1) (fun H1 => RR s0 D DA z0 (k_made C o i r z).2.1 M (k_made C o i r z).2.2 H1)) 1 6 (cF s0) := by
  refine va_MetW (cc := cX0_made) (maxL := 5) (ret := (some .int)) (hh := [(0, 7, 10, 13), (0, 7, 14, 15)]) (by decide) rfl ?_
  intro p e s m args below meth c s₁ Bd hml hv
  obtain ⟨rfl, rfl, hW0⟩ := hv
  have hx := Bd.exec
  have hb := Bd.bytes
  have hr := Bd.returns
  have hts := atoms_spec (ws := (wsW_ yX0_made cX0_made 5 (some .int) [(0, 7, 10, 13), (0, 7, 14, 15)])) Bd.pre
  obtain ⟨m9, meth9, c9, hn9, hm9, hc9, -, -, htab, -⟩ := Cond.codeWith_spec (hts _ List.mem_cons_self)
  cases Bd.named.symm.trans hn9
  cases Bd.method.symm.trans hm9
  cases (Stand.of_body Bd).code.symm.trans hc9
  have hts : ∀ w ∈ lw_all, w.before _ s = true := fun w h => hts w (List.mem_cons_of_mem _ h)
  have hown : s.vm.findClass RX0 = some m.cls := findClass_of_methodNamed Bd.named
  have hlocks := Bd.notSynchronized
  have hK := va_K.moved hW0.alike hE.K
  have hL : gx_L s0.heap.size ([] : List Loc) := gx_L0
  obtain ⟨Y, hR⟩ := hR
  have hl := lv_entry ([.ref s0.heap.size, .int i, .int r, .int z]) (n := 5) (Nat.le_of_ble_eq_true rfl)
  rw [lg_entry_eq]
  generalize (lg_sl ([.ref s0.heap.size, .int i, .int r, .int z]) ++ List.replicate (5 - (lg_sl ([.ref s0.heap.size, .int i, .int r, .int z])).length) Slot.unset).toArray = ls at hl ⊢
  have hl : lv_has ls 5 [(0, .ref s0.heap.size), (1, .int i), (2, .int r), (3, .int z)] := hl
  cases hc0 : in12 i && inR r 0 2 with
  | false =>
    refine lv_aload_n hx hb dX0_made_0 rfl (lv_at hl 0 rfl) ?_
    refine lv_iload_n hx hb dX0_made_1 rfl (lv_at hl 1 rfl) ?_
    refine lv_iload_n hx hb dX0_made_2 rfl (lv_at hl 2 rfl) ?_
    refine lv_iload_n hx hb dX0_made_3 rfl (lv_at hl 3 rfl) ?_
    refine gt_hand (pre := []) (h := (0, 7, 10, 13)) (post := [(0, 7, 14, 15)]) (va_runTV (b := s0.heap.size) (As := [.int i, .int r, .int z]) (rest := []) ⟨hx, hb, hml, hown, hts⟩ (ct_X1_made_I hE ⟨_, hR⟩ i r z hc0) (cwV 3 hts (lw_V q642 q643 q644 q47 q645) rfl rfl rfl (by decide +kernel) ⟨Nat.le_of_ble_eq_true rfl, Nat.le_of_ble_eq_true rfl⟩) (cc_pV hW0 (cc_re hK hR.np (show gcl[0]? = _ from rfl))) rfl rfl hl.1 rfl (lv_room (Nat.le_of_ble_eq_true rfl)) dX0_made_4 ⟨Nat.le_of_ble_eq_true rfl, Nat.le_of_ble_eq_true rfl⟩) hL hW0 hown htab rfl ⟨by decide, by decide, by decide⟩ (hts _ q530) (fun y hy => by cases hy) (fun H locs xx hP1 hL => ?_)
    obtain ⟨Y, hR⟩ := hP1
    refine lv_astore (lv' := [(4, .ref xx), (0, .ref s0.heap.size), (1, .int i), (2, .int r), (3, .int z)]) hx hb dX0_made_10 hl (by decide) rfl (fun ls hl => ?_)
    refine lv_iconst (v := 1) hx hb dX0_made_12 (by decide) ?_
    refine W.widen (k := 1) (n := 6) (by omega) (by omega) ?_
    exact W.iret (v := 1) hx hb hr (fun t ht hW => ⟨ovI (by unfold k_made; rw [if_pos hc0]), by rw [ht]; exact (RR_CO (by unfold k_made; rw [if_pos hc0]) (by unfold k_made; rw [if_pos hc0]) ⟨_, hR⟩)⟩) hL dX0_made_13
  | true =>
    obtain ⟨k, hk, rfl⟩ := in12_t (b21 hc0)
    cases hc1 : inR z 0 9 with
    | false =>
      refine lv_aload_n hx hb dX0_made_0 rfl (lv_at hl 0 rfl) ?_
      refine lv_iload_n hx hb dX0_made_1 rfl (lv_at hl 1 rfl) ?_
      refine lv_iload_n hx hb dX0_made_2 rfl (lv_at hl 2 rfl) ?_
      refine lv_iload_n hx hb dX0_made_3 rfl (lv_at hl 3 rfl) ?_
      refine gt_hand (pre := [(0, 7, 10, 13)]) (h := (0, 7, 14, 15)) (post := []) (va_runTV (b := s0.heap.size) (As := [.int (nI k), .int r, .int z]) (rest := []) ⟨hx, hb, hml, hown, hts⟩ (ct_X1_made_A hE ⟨_, hR⟩ hk r z (b22 hc0) hc1) (cwV 3 hts (lw_V q642 q643 q644 q47 q645) rfl rfl rfl (by decide +kernel) ⟨Nat.le_of_ble_eq_true rfl, Nat.le_of_ble_eq_true rfl⟩) (cc_pV hW0 (cc_re hK hR.np (show gcl[0]? = _ from rfl))) rfl rfl hl.1 rfl (lv_room (Nat.le_of_ble_eq_true rfl)) dX0_made_4 ⟨Nat.le_of_ble_eq_true rfl, Nat.le_of_ble_eq_true rfl⟩) hL hW0 hown htab rfl ⟨by decide, by decide, by decide⟩ (hts _ q531) (List.forall_mem_cons.mpr ⟨⟨⟨by decide, by decide, by decide⟩, _, hts _ q530, hE.nc_AI⟩, (fun y hy => by cases hy)⟩) (fun H locs xx hP1 hL => ?_)
      obtain ⟨Y, hR⟩ := hP1
      refine lv_astore (lv' := [(4, .ref xx), (0, .ref s0.heap.size), (1, .int (nI k)), (2, .int r), (3, .int z)]) hx hb dX0_made_14 hl (by decide) rfl (fun ls hl => ?_)
      refine lv_iconst (v := 2) hx hb dX0_made_16 (by decide) ?_
      refine W.widen (k := 1) (n := 6) (by omega) (by omega) ?_
      exact W.iret (v := 2) hx hb hr (fun t ht hW => ⟨ovI (by unfold k_made; rw [if_neg (by rw [hc0]; decide), if_pos hc1]), by rw [ht]; exact (RR_CO (by unfold k_made; rw [if_neg (by rw [hc0]; decide), if_pos hc1]) (by unfold k_made; rw [if_neg (by rw [hc0]; decide), if_pos hc1]) ⟨_, hR⟩)⟩) hL dX0_made_17
    | true =>
      refine lv_aload_n hx hb dX0_made_0 rfl (lv_at hl 0 rfl) ?_
      refine lv_iload_n hx hb dX0_made_1 rfl (lv_at hl 1 rfl) ?_
      refine lv_iload_n hx hb dX0_made_2 rfl (lv_at hl 2 rfl) ?_
      refine lv_iload_n hx hb dX0_made_3 rfl (lv_at hl 3 rfl) ?_
      refine cc_0 (va_runV (b := s0.heap.size) (As := [.int (nI k), .int r, .int z]) (rest := []) ⟨hx, hb, hml, hown, hts⟩ (ct_X1_made hE ⟨_, hR⟩ hk r z (b22 hc0) hc1) (cwV 3 hts (lw_V q642 q643 q644 q47 q645) rfl rfl rfl (by decide +kernel) ⟨Nat.le_of_ble_eq_true rfl, Nat.le_of_ble_eq_true rfl⟩) (cc_pV hW0 (cc_re hK hR.np (show gcl[0]? = _ from rfl))) rfl rfl hl.1 rfl (lv_room (Nat.le_of_ble_eq_true rfl)) dX0_made_4 ⟨Nat.le_of_ble_eq_true rfl, Nat.le_of_ble_eq_true rfl⟩) hL (fun H locs hP1 hL => ?_)
      obtain ⟨Y, hR⟩ := hP1
      refine lv_goto (tgt := 18) hx hb dX0_made_7 (by decide) ?_
      refine lv_iconst (v := 0) hx hb dX0_made_18 (by decide) ?_
      refine W.widen (k := 1) (n := 6) (by omega) (by omega) ?_
      exact W.iret (v := 0) hx hb hr (fun t ht hW => ⟨ovI (by unfold k_made; rw [if_neg (by rw [hc0]; decide), if_neg (by rw [hc1]; decide)]), by rw [ht]; exact (RR_CO (by unfold k_made; rw [if_neg (by rw [hc0]; decide), if_neg (by rw [hc1]; decide)] <;> rw [nI_cl hk]) (by unfold k_made; rw [if_neg (by rw [hc0]; decide), if_neg (by rw [hc1]; decide)] <;> rw [nI_cl hk]) ⟨_, hR⟩)⟩) hL dX0_made_19
def k_stock (C : CS) (o : Int64) (i r : Int32) : Int32 × CS × Int64 := if (in12 i) = false then (1, C, o) else if (inR r 0 10000) = false then (2, C, o) else (0, c_stock C i.toNatClampNeg r, (kI C 8 i.toNatClampNeg).toInt64)
set_option maxHeartbeats 4000000 in
set_option maxRecDepth 100000 in
theorem ct_X0_stock {l : Launch} {s0 : State} {D : va_G} {DA : Nat → ClassId} {z0 : Nat} {C : CS} {M : MS} {o : Int64} {H : Heap} (hE : G0 l s0 D DA z0) (hR : RR s0 D DA z0 C M o H) (i r : Int32) : Met l yX0_stock (wsW_ yX0_stock cX0_stock 5 (some .int) [(0, 10, 13, 13), (0, 10, 17, 15)]) ({ frames := 9, cells := 1, slots := 6, locals := 147 }) (cP s0 [.ref s0.heap.size, .int i, .int r, .ref (s0.heap.size + 128)] H) (cQv (.int (k_stock C o i r).1) (fun H1 => RR s0 D DA z0 (k_stock C o i r).2.1 M (k_stock C o i r).2.2 H1)) 1 6 (cF s0) := by
  refine va_MetW (cc := cX0_stock) (maxL := 5) (ret := (some .int)) (hh := [(0, 10, 13, 13), (0, 10, 17, 15)]) (by decide) rfl ?_
  intro p e s m args below meth c s₁ Bd hml hv
  obtain ⟨rfl, rfl, hW0⟩ := hv
  have hx := Bd.exec
  have hb := Bd.bytes
  have hr := Bd.returns
  have hts := atoms_spec (ws := (wsW_ yX0_stock cX0_stock 5 (some .int) [(0, 10, 13, 13), (0, 10, 17, 15)])) Bd.pre
  obtain ⟨m9, meth9, c9, hn9, hm9, hc9, -, -, htab, -⟩ := Cond.codeWith_spec (hts _ List.mem_cons_self)
  cases Bd.named.symm.trans hn9
  cases Bd.method.symm.trans hm9
  cases (Stand.of_body Bd).code.symm.trans hc9
  have hts : ∀ w ∈ lw_all, w.before _ s = true := fun w h => hts w (List.mem_cons_of_mem _ h)
  have hown : s.vm.findClass RX0 = some m.cls := findClass_of_methodNamed Bd.named
  have hlocks := Bd.notSynchronized
  have hK := va_K.moved hW0.alike hE.K
  have hL : gx_L s0.heap.size ([] : List Loc) := gx_L0
  obtain ⟨Y, hR⟩ := hR
  have hl := lv_entry ([.ref s0.heap.size, .int i, .int r, .ref (s0.heap.size + 128)]) (n := 5) (Nat.le_of_ble_eq_true rfl)
  rw [lg_entry_eq]
  generalize (lg_sl ([.ref s0.heap.size, .int i, .int r, .ref (s0.heap.size + 128)]) ++ List.replicate (5 - (lg_sl ([.ref s0.heap.size, .int i, .int r, .ref (s0.heap.size + 128)])).length) Slot.unset).toArray = ls at hl ⊢
  have hl : lv_has ls 5 [(0, .ref s0.heap.size), (1, .int i), (2, .int r), (3, .ref (s0.heap.size + 128))] := hl
  cases hc0 : in12 i with
  | false =>
    refine lv_aload_n hx hb dX0_stock_0 rfl (lv_at hl 3 rfl) ?_
    refine lv_iconst (v := 0) hx hb dX0_stock_1 (by decide) ?_
    refine lv_aload_n hx hb dX0_stock_2 rfl (lv_at hl 0 rfl) ?_
    refine lv_iload_n hx hb dX0_stock_3 rfl (lv_at hl 1 rfl) ?_
    refine lv_iload_n hx hb dX0_stock_4 rfl (lv_at hl 2 rfl) ?_
    refine gt_hand (pre := []) (h := (0, 10, 13, 13)) (post := [(0, 10, 17, 15)]) (va_runTV (b := s0.heap.size) (As := [.int i, .int r]) (rest := [.int 0, .ref (s0.heap.size + 128)]) ⟨hx, hb, hml, hown, hts⟩ (ct_X1_stock_I hE ⟨_, hR⟩ i r hc0) (cwV 2 hts (lw_V q714 q715 q716 q47 q717) rfl rfl rfl (by decide +kernel) ⟨Nat.le_of_ble_eq_true rfl, Nat.le_of_ble_eq_true rfl⟩) (cc_pV hW0 (cc_re hK hR.np (show gcl[0]? = _ from rfl))) rfl rfl hl.1 rfl (lv_room (Nat.le_of_ble_eq_true rfl)) dX0_stock_5 ⟨Nat.le_of_ble_eq_true rfl, Nat.le_of_ble_eq_true rfl⟩) hL hW0 hown htab rfl ⟨by decide, by decide, by decide⟩ (hts _ q530) (fun y hy => by cases hy) (fun H locs xx hP1 hL => ?_)
    obtain ⟨Y, hR⟩ := hP1
    refine lv_astore (lv' := [(4, .ref xx), (0, .ref s0.heap.size), (1, .int i), (2, .int r), (3, .ref (s0.heap.size + 128))]) hx hb dX0_stock_13 hl (by decide) rfl (fun ls hl => ?_)
    refine lv_iconst (v := 1) hx hb dX0_stock_15 (by decide) ?_
    refine W.widen (k := 1) (n := 6) (by omega) (by omega) ?_
    exact W.iret (v := 1) hx hb hr (fun t ht hW => ⟨ovI (by unfold k_stock; rw [if_pos hc0]), by rw [ht]; exact (RR_CO (by unfold k_stock; rw [if_pos hc0]) (by unfold k_stock; rw [if_pos hc0]) ⟨_, hR⟩)⟩) hL dX0_stock_16
  | true =>
    obtain ⟨k, hk, rfl⟩ := in12_t hc0
    cases hc1 : inR r 0 10000 with
    | false =>
      refine lv_aload_n hx hb dX0_stock_0 rfl (lv_at hl 3 rfl) ?_
      refine lv_iconst (v := 0) hx hb dX0_stock_1 (by decide) ?_
      refine lv_aload_n hx hb dX0_stock_2 rfl (lv_at hl 0 rfl) ?_
      refine lv_iload_n hx hb dX0_stock_3 rfl (lv_at hl 1 rfl) ?_
      refine lv_iload_n hx hb dX0_stock_4 rfl (lv_at hl 2 rfl) ?_
      refine gt_hand (pre := [(0, 10, 13, 13)]) (h := (0, 10, 17, 15)) (post := []) (va_runTV (b := s0.heap.size) (As := [.int (nI k), .int r]) (rest := [.int 0, .ref (s0.heap.size + 128)]) ⟨hx, hb, hml, hown, hts⟩ (ct_X1_stock_A hE ⟨_, hR⟩ hk r hc1) (cwV 2 hts (lw_V q714 q715 q716 q47 q717) rfl rfl rfl (by decide +kernel) ⟨Nat.le_of_ble_eq_true rfl, Nat.le_of_ble_eq_true rfl⟩) (cc_pV hW0 (cc_re hK hR.np (show gcl[0]? = _ from rfl))) rfl rfl hl.1 rfl (lv_room (Nat.le_of_ble_eq_true rfl)) dX0_stock_5 ⟨Nat.le_of_ble_eq_true rfl, Nat.le_of_ble_eq_true rfl⟩) hL hW0 hown htab rfl ⟨by decide, by decide, by decide⟩ (hts _ q531) (List.forall_mem_cons.mpr ⟨⟨⟨by decide, by decide, by decide⟩, _, hts _ q530, hE.nc_AI⟩, (fun y hy => by cases hy)⟩) (fun H locs xx hP1 hL => ?_)
      obtain ⟨Y, hR⟩ := hP1
      refine lv_astore (lv' := [(4, .ref xx), (0, .ref s0.heap.size), (1, .int (nI k)), (2, .int r), (3, .ref (s0.heap.size + 128))]) hx hb dX0_stock_17 hl (by decide) rfl (fun ls hl => ?_)
      refine lv_iconst (v := 2) hx hb dX0_stock_19 (by decide) ?_
      refine W.widen (k := 1) (n := 6) (by omega) (by omega) ?_
      exact W.iret (v := 2) hx hb hr (fun t ht hW => ⟨ovI (by unfold k_stock; rw [if_neg (by rw [hc0]; decide), if_pos hc1]), by rw [ht]; exact (RR_CO (by unfold k_stock; rw [if_neg (by rw [hc0]; decide), if_pos hc1]) (by unfold k_stock; rw [if_neg (by rw [hc0]; decide), if_pos hc1]) ⟨_, hR⟩)⟩) hL dX0_stock_20
    | true =>
      refine lv_aload_n hx hb dX0_stock_0 rfl (lv_at hl 3 rfl) ?_
      refine lv_iconst (v := 0) hx hb dX0_stock_1 (by decide) ?_
      refine lv_aload_n hx hb dX0_stock_2 rfl (lv_at hl 0 rfl) ?_
      refine lv_iload_n hx hb dX0_stock_3 rfl (lv_at hl 1 rfl) ?_
      refine lv_iload_n hx hb dX0_stock_4 rfl (lv_at hl 2 rfl) ?_
      refine cc_v (va_runV (b := s0.heap.size) (As := [.int (nI k), .int r]) (rest := [.int 0, .ref (s0.heap.size + 128)]) ⟨hx, hb, hml, hown, hts⟩ (ct_X1_stock hE ⟨_, hR⟩ hk r hc1) (cwV 2 hts (lw_V q714 q715 q716 q47 q717) rfl rfl rfl (by decide +kernel) ⟨Nat.le_of_ble_eq_true rfl, Nat.le_of_ble_eq_true rfl⟩) (cc_pV hW0 (cc_re hK hR.np (show gcl[0]? = _ from rfl))) rfl rfl hl.1 rfl (lv_room (Nat.le_of_ble_eq_true rfl)) dX0_stock_5 ⟨Nat.le_of_ble_eq_true rfl, Nat.le_of_ble_eq_true rfl⟩) hL (fun H locs hP1 hL => ?_)
      obtain ⟨Y, hR⟩ := hP1
      refine lv_i2l (v := (kI C 8 k).toInt64) hx hb dX0_stock_8 rfl ?_
      refine gx_last (n := 1) hx hb hK 0 hR.out rfl 0 ((by decide)) (by omega) (by decide) hL (by (try simp only [aI, aA, aT, aB, aL, mad]); omega) dX0_stock_9 (fun H locs hU hA hL => ?_)
      have hR := GRb.pO1 hR hU hA
      refine lv_goto (tgt := 21) hx hb dX0_stock_10 (by decide) ?_
      refine lv_iconst (v := 0) hx hb dX0_stock_21 (by decide) ?_
      refine W.widen (k := 1) (n := 6) (by omega) (by omega) ?_
      exact W.iret (v := 0) hx hb hr (fun t ht hW => ⟨ovI (by unfold k_stock; rw [if_neg (by rw [hc0]; decide), if_neg (by rw [hc1]; decide)]), by rw [ht]; exact (RR_CO (by unfold k_stock; rw [if_neg (by rw [hc0]; decide), if_neg (by rw [hc1]; decide)] <;> rw [nI_cl hk]) (by unfold k_stock; rw [if_neg (by rw [hc0]; decide), if_neg (by rw [hc1]; decide)] <;> rw [nI_cl hk]) ⟨_, hR⟩)⟩) hL dX0_stock_22
def k_demand (C : CS) (o : Int64) (i w n : Int32) : Int32 × CS × Int64 := if (in12 i && in12 w) = false then (1, C, o) else if (inR n 0 1000) = false then (2, C, o) else if (decide (kN C 1 < 24)) = false then (3, C, o) else (0, cAddE (c_tell C i.toNatClampNeg) 1 i w n, (nI (kN C 1)).toInt64)
set_option maxHeartbeats 4000000 in
set_option maxRecDepth 100000 in
theorem ct_X0_demand {l : Launch} {s0 : State} {D : va_G} {DA : Nat → ClassId} {z0 : Nat} {C : CS} {M : MS} {o : Int64} {H : Heap} (hE : G0 l s0 D DA z0) (hR : RR s0 D DA z0 C M o H) (i w n : Int32) : Met l yX0_demand (wsW_ yX0_demand cX0_demand 6 (some .int) [(0, 12, 15, 13), (0, 12, 19, 15), (0, 12, 23, 28)]) ({ frames := 10, cells := 2, slots := 39, locals := 240 }) (cP s0 [.ref s0.heap.size, .int i, .int w, .int n, .ref (s0.heap.size + 128)] H) (cQv (.int (k_demand C o i w n).1) (fun H1 => RR s0 D DA z0 (k_demand C o i w n).2.1 M (k_demand C o i w n).2.2 H1)) 2 39 (cF s0) := by
  refine va_MetW (cc := cX0_demand) (maxL := 6) (ret := (some .int)) (hh := [(0, 12, 15, 13), (0, 12, 19, 15), (0, 12, 23, 28)]) (by decide) rfl ?_
  intro p e s m args below meth c s₁ Bd hml hv
  obtain ⟨rfl, rfl, hW0⟩ := hv
  have hx := Bd.exec
  have hb := Bd.bytes
  have hr := Bd.returns
  have hts := atoms_spec (ws := (wsW_ yX0_demand cX0_demand 6 (some .int) [(0, 12, 15, 13), (0, 12, 19, 15), (0, 12, 23, 28)])) Bd.pre
  obtain ⟨m9, meth9, c9, hn9, hm9, hc9, -, -, htab, -⟩ := Cond.codeWith_spec (hts _ List.mem_cons_self)
  cases Bd.named.symm.trans hn9
  cases Bd.method.symm.trans hm9
  cases (Stand.of_body Bd).code.symm.trans hc9
  have hts : ∀ w ∈ lw_all, w.before _ s = true := fun w h => hts w (List.mem_cons_of_mem _ h)
  have hown : s.vm.findClass RX0 = some m.cls := findClass_of_methodNamed Bd.named
  have hlocks := Bd.notSynchronized
  have hK := va_K.moved hW0.alike hE.K
  have hL : gx_L s0.heap.size ([] : List Loc) := gx_L0
  obtain ⟨Y, hR⟩ := hR
  have hl := lv_entry ([.ref s0.heap.size, .int i, .int w, .int n, .ref (s0.heap.size + 128)]) (n := 6) (Nat.le_of_ble_eq_true rfl)
  rw [lg_entry_eq]
  generalize (lg_sl ([.ref s0.heap.size, .int i, .int w, .int n, .ref (s0.heap.size + 128)]) ++ List.replicate (6 - (lg_sl ([.ref s0.heap.size, .int i, .int w, .int n, .ref (s0.heap.size + 128)])).length) Slot.unset).toArray = ls at hl ⊢
  have hl : lv_has ls 6 [(0, .ref s0.heap.size), (1, .int i), (2, .int w), (3, .int n), (4, .ref (s0.heap.size + 128))] := hl
  cases hc0 : in12 i && in12 w with
  | false =>
    refine lv_aload hx hb dX0_demand_0 (lv_at hl 4 rfl) ?_
    refine lv_iconst (v := 0) hx hb dX0_demand_2 (by decide) ?_
    refine lv_aload_n hx hb dX0_demand_3 rfl (lv_at hl 0 rfl) ?_
    refine lv_iload_n hx hb dX0_demand_4 rfl (lv_at hl 1 rfl) ?_
    refine lv_iload_n hx hb dX0_demand_5 rfl (lv_at hl 2 rfl) ?_
    refine lv_iload_n hx hb dX0_demand_6 rfl (lv_at hl 3 rfl) ?_
    refine gt_hand (pre := []) (h := (0, 12, 15, 13)) (post := [(0, 12, 19, 15), (0, 12, 23, 28)]) (va_runTV (b := s0.heap.size) (As := [.int i, .int w, .int n]) (rest := [.int 0, .ref (s0.heap.size + 128)]) ⟨hx, hb, hml, hown, hts⟩ (ct_X1_demand_I hE ⟨_, hR⟩ i w n hc0) (cwV 3 hts (lw_V q721 q722 q723 q47 q724) rfl rfl rfl (by decide +kernel) ⟨Nat.le_of_ble_eq_true rfl, Nat.le_of_ble_eq_true rfl⟩) (cc_pV hW0 (cc_re hK hR.np (show gcl[0]? = _ from rfl))) rfl rfl hl.1 rfl (lv_room (Nat.le_of_ble_eq_true rfl)) dX0_demand_7 ⟨Nat.le_of_ble_eq_true rfl, Nat.le_of_ble_eq_true rfl⟩) hL hW0 hown htab rfl ⟨by decide, by decide, by decide⟩ (hts _ q530) (fun y hy => by cases hy) (fun H locs xx hP1 hL => ?_)
    obtain ⟨Y, hR⟩ := hP1
    refine lv_astore (lv' := [(5, .ref xx), (0, .ref s0.heap.size), (1, .int i), (2, .int w), (3, .int n), (4, .ref (s0.heap.size + 128))]) hx hb dX0_demand_15 hl (by decide) rfl (fun ls hl => ?_)
    refine lv_iconst (v := 1) hx hb dX0_demand_17 (by decide) ?_
    refine W.widen (k := 2) (n := 39) (by omega) (by omega) ?_
    exact W.iret (v := 1) hx hb hr (fun t ht hW => ⟨ovI (by unfold k_demand; rw [if_pos hc0]), by rw [ht]; exact (RR_CO (by unfold k_demand; rw [if_pos hc0]) (by unfold k_demand; rw [if_pos hc0]) ⟨_, hR⟩)⟩) hL dX0_demand_18
  | true =>
    obtain ⟨k, hk, rfl⟩ := in12_t (b21 hc0)
    obtain ⟨wk, hwk, rfl⟩ := in12_t (b22 hc0)
    cases hc1 : inR n 0 1000 with
    | false =>
      refine lv_aload hx hb dX0_demand_0 (lv_at hl 4 rfl) ?_
      refine lv_iconst (v := 0) hx hb dX0_demand_2 (by decide) ?_
      refine lv_aload_n hx hb dX0_demand_3 rfl (lv_at hl 0 rfl) ?_
      refine lv_iload_n hx hb dX0_demand_4 rfl (lv_at hl 1 rfl) ?_
      refine lv_iload_n hx hb dX0_demand_5 rfl (lv_at hl 2 rfl) ?_
      refine lv_iload_n hx hb dX0_demand_6 rfl (lv_at hl 3 rfl) ?_
      refine gt_hand (pre := [(0, 12, 15, 13)]) (h := (0, 12, 19, 15)) (post := [(0, 12, 23, 28)]) (va_runTV (b := s0.heap.size) (As := [.int (nI k), .int (nI wk), .int n]) (rest := [.int 0, .ref (s0.heap.size + 128)]) ⟨hx, hb, hml, hown, hts⟩ (ct_X1_demand_A hE ⟨_, hR⟩ hk hwk n hc1) (cwV 3 hts (lw_V q721 q722 q723 q47 q724) rfl rfl rfl (by decide +kernel) ⟨Nat.le_of_ble_eq_true rfl, Nat.le_of_ble_eq_true rfl⟩) (cc_pV hW0 (cc_re hK hR.np (show gcl[0]? = _ from rfl))) rfl rfl hl.1 rfl (lv_room (Nat.le_of_ble_eq_true rfl)) dX0_demand_7 ⟨Nat.le_of_ble_eq_true rfl, Nat.le_of_ble_eq_true rfl⟩) hL hW0 hown htab rfl ⟨by decide, by decide, by decide⟩ (hts _ q531) (List.forall_mem_cons.mpr ⟨⟨⟨by decide, by decide, by decide⟩, _, hts _ q530, hE.nc_AI⟩, (fun y hy => by cases hy)⟩) (fun H locs xx hP1 hL => ?_)
      obtain ⟨Y, hR⟩ := hP1
      refine lv_astore (lv' := [(5, .ref xx), (0, .ref s0.heap.size), (1, .int (nI k)), (2, .int (nI wk)), (3, .int n), (4, .ref (s0.heap.size + 128))]) hx hb dX0_demand_19 hl (by decide) rfl (fun ls hl => ?_)
      refine lv_iconst (v := 2) hx hb dX0_demand_21 (by decide) ?_
      refine W.widen (k := 2) (n := 39) (by omega) (by omega) ?_
      exact W.iret (v := 2) hx hb hr (fun t ht hW => ⟨ovI (by unfold k_demand; rw [if_neg (by rw [hc0]; decide), if_pos hc1]), by rw [ht]; exact (RR_CO (by unfold k_demand; rw [if_neg (by rw [hc0]; decide), if_pos hc1]) (by unfold k_demand; rw [if_neg (by rw [hc0]; decide), if_pos hc1]) ⟨_, hR⟩)⟩) hL dX0_demand_22
    | true =>
      cases hc2 : decide (kN C 1 < 24) with
      | false =>
        refine lv_aload hx hb dX0_demand_0 (lv_at hl 4 rfl) ?_
        refine lv_iconst (v := 0) hx hb dX0_demand_2 (by decide) ?_
        refine lv_aload_n hx hb dX0_demand_3 rfl (lv_at hl 0 rfl) ?_
        refine lv_iload_n hx hb dX0_demand_4 rfl (lv_at hl 1 rfl) ?_
        refine lv_iload_n hx hb dX0_demand_5 rfl (lv_at hl 2 rfl) ?_
        refine lv_iload_n hx hb dX0_demand_6 rfl (lv_at hl 3 rfl) ?_
        refine gt_hand (pre := [(0, 12, 15, 13), (0, 12, 19, 15)]) (h := (0, 12, 23, 28)) (post := []) (va_runTV (b := s0.heap.size) (As := [.int (nI k), .int (nI wk), .int n]) (rest := [.int 0, .ref (s0.heap.size + 128)]) ⟨hx, hb, hml, hown, hts⟩ (ct_X1_demand_S hE ⟨_, hR⟩ hk hwk n hc1 (by have := hR.lay.2.2.2.2.2.2.1; have h9 := of_decide_eq_false hc2; omega)) (cwV 3 hts (lw_V q721 q722 q723 q47 q724) rfl rfl rfl (by decide +kernel) ⟨Nat.le_of_ble_eq_true rfl, Nat.le_of_ble_eq_true rfl⟩) (cc_pV hW0 (cc_re hK hR.np (show gcl[0]? = _ from rfl))) rfl rfl hl.1 rfl (lv_room (Nat.le_of_ble_eq_true rfl)) dX0_demand_7 ⟨Nat.le_of_ble_eq_true rfl, Nat.le_of_ble_eq_true rfl⟩) hL hW0 hown htab rfl ⟨by decide, by decide, by decide⟩ (hts _ q649) (List.forall_mem_cons.mpr ⟨⟨⟨by decide, by decide, by decide⟩, _, hts _ q530, hE.nc_SI⟩, (List.forall_mem_cons.mpr ⟨⟨⟨by decide, by decide, by decide⟩, _, hts _ q531, hE.nc_SA⟩, (fun y hy => by cases hy)⟩)⟩) (fun H locs xx hP1 hL => ?_)
        obtain ⟨Y, hR⟩ := hP1
        refine lv_astore (lv' := [(5, .ref xx), (0, .ref s0.heap.size), (1, .int (nI k)), (2, .int (nI wk)), (3, .int n), (4, .ref (s0.heap.size + 128))]) hx hb dX0_demand_23 hl (by decide) rfl (fun ls hl => ?_)
        refine lv_iconst (v := 3) hx hb dX0_demand_25 (by decide) ?_
        refine W.widen (k := 2) (n := 39) (by omega) (by omega) ?_
        exact W.iret (v := 3) hx hb hr (fun t ht hW => ⟨ovI (by unfold k_demand; rw [if_neg (by rw [hc0]; decide), if_neg (by rw [hc1]; decide), if_pos hc2]), by rw [ht]; exact (RR_CO (by unfold k_demand; rw [if_neg (by rw [hc0]; decide), if_neg (by rw [hc1]; decide), if_pos hc2]) (by unfold k_demand; rw [if_neg (by rw [hc0]; decide), if_neg (by rw [hc1]; decide), if_pos hc2]) ⟨_, hR⟩)⟩) hL dX0_demand_26
      | true =>
        refine lv_aload hx hb dX0_demand_0 (lv_at hl 4 rfl) ?_
        refine lv_iconst (v := 0) hx hb dX0_demand_2 (by decide) ?_
        refine lv_aload_n hx hb dX0_demand_3 rfl (lv_at hl 0 rfl) ?_
        refine lv_iload_n hx hb dX0_demand_4 rfl (lv_at hl 1 rfl) ?_
        refine lv_iload_n hx hb dX0_demand_5 rfl (lv_at hl 2 rfl) ?_
        refine lv_iload_n hx hb dX0_demand_6 rfl (lv_at hl 3 rfl) ?_
        refine cc_v (va_runV (b := s0.heap.size) (As := [.int (nI k), .int (nI wk), .int n]) (rest := [.int 0, .ref (s0.heap.size + 128)]) ⟨hx, hb, hml, hown, hts⟩ (ct_X1_demand hE ⟨_, hR⟩ hk hwk n hc1 (of_decide_eq_true hc2)) (cwV 3 hts (lw_V q721 q722 q723 q47 q724) rfl rfl rfl (by decide +kernel) ⟨Nat.le_of_ble_eq_true rfl, Nat.le_of_ble_eq_true rfl⟩) (cc_pV hW0 (cc_re hK hR.np (show gcl[0]? = _ from rfl))) rfl rfl hl.1 rfl (lv_room (Nat.le_of_ble_eq_true rfl)) dX0_demand_7 ⟨Nat.le_of_ble_eq_true rfl, Nat.le_of_ble_eq_true rfl⟩) hL (fun H locs hP1 hL => ?_)
        obtain ⟨Y, hR⟩ := hP1
        refine lv_i2l (v := (nI (kN C 1)).toInt64) hx hb dX0_demand_10 rfl ?_
        refine gx_last (n := 1) hx hb hK 0 hR.out rfl 0 ((by decide)) (by omega) (by decide) hL (by (try simp only [aI, aA, aT, aB, aL, mad]); omega) dX0_demand_11 (fun H locs hU hA hL => ?_)
        have hR := GRb.pO1 hR hU hA
        refine lv_goto (tgt := 27) hx hb dX0_demand_12 (by decide) ?_
        refine lv_iconst (v := 0) hx hb dX0_demand_27 (by decide) ?_
        refine W.widen (k := 2) (n := 39) (by omega) (by omega) ?_
        exact W.iret (v := 0) hx hb hr (fun t ht hW => ⟨ovI (by unfold k_demand; rw [if_neg (by rw [hc0]; decide), if_neg (by rw [hc1]; decide), if_neg (by rw [hc2]; decide)]), by rw [ht]; exact (RR_CO (by unfold k_demand; rw [if_neg (by rw [hc0]; decide), if_neg (by rw [hc1]; decide), if_neg (by rw [hc2]; decide)] <;> rw [nI_cl hk]) (by unfold k_demand; rw [if_neg (by rw [hc0]; decide), if_neg (by rw [hc1]; decide), if_neg (by rw [hc2]; decide)] <;> rw [nI_cl hk]) ⟨_, hR⟩)⟩) hL dX0_demand_28
def k_order (C : CS) (o : Int64) (i w n : Int32) : Int32 × CS × Int64 := if (in12 i && in12 w) = false then (1, C, o) else if (inR n 0 1000) = false then (2, C, o) else if (decide (kN C 2 < 24)) = false then (3, C, o) else (0, cAddE (c_tell C i.toNatClampNeg) 2 i w n, (nI (kN C 2)).toInt64)
set_option maxHeartbeats 4000000 in
set_option maxRecDepth 100000 in
theorem ct_X0_order {l : Launch} {s0 : State} {D : va_G} {DA : Nat → ClassId} {z0 : Nat} {C : CS} {M : MS} {o : Int64} {H : Heap} (hE : G0 l s0 D DA z0) (hR : RR s0 D DA z0 C M o H) (i w n : Int32) : Met l yX0_order (wsW_ yX0_order cX0_order 6 (some .int) [(0, 12, 15, 13), (0, 12, 19, 15), (0, 12, 23, 28)]) ({ frames := 10, cells := 2, slots := 39, locals := 240 }) (cP s0 [.ref s0.heap.size, .int i, .int w, .int n, .ref (s0.heap.size + 128)] H) (cQv (.int (k_order C o i w n).1) (fun H1 => RR s0 D DA z0 (k_order C o i w n).2.1 M (k_order C o i w n).2.2 H1)) 2 39 (cF s0) := by
  refine va_MetW (cc := cX0_order) (maxL := 6) (ret := (some .int)) (hh := [(0, 12, 15, 13), (0, 12, 19, 15), (0, 12, 23, 28)]) (by decide) rfl ?_
  intro p e s m args below meth c s₁ Bd hml hv
  obtain ⟨rfl, rfl, hW0⟩ := hv
  have hx := Bd.exec
  have hb := Bd.bytes
  have hr := Bd.returns
  have hts := atoms_spec (ws := (wsW_ yX0_order cX0_order 6 (some .int) [(0, 12, 15, 13), (0, 12, 19, 15), (0, 12, 23, 28)])) Bd.pre
  obtain ⟨m9, meth9, c9, hn9, hm9, hc9, -, -, htab, -⟩ := Cond.codeWith_spec (hts _ List.mem_cons_self)
  cases Bd.named.symm.trans hn9
  cases Bd.method.symm.trans hm9
  cases (Stand.of_body Bd).code.symm.trans hc9
  have hts : ∀ w ∈ lw_all, w.before _ s = true := fun w h => hts w (List.mem_cons_of_mem _ h)
  have hown : s.vm.findClass RX0 = some m.cls := findClass_of_methodNamed Bd.named
  have hlocks := Bd.notSynchronized
  have hK := va_K.moved hW0.alike hE.K
  have hL : gx_L s0.heap.size ([] : List Loc) := gx_L0
  obtain ⟨Y, hR⟩ := hR
  have hl := lv_entry ([.ref s0.heap.size, .int i, .int w, .int n, .ref (s0.heap.size + 128)]) (n := 6) (Nat.le_of_ble_eq_true rfl)
  rw [lg_entry_eq]
  generalize (lg_sl ([.ref s0.heap.size, .int i, .int w, .int n, .ref (s0.heap.size + 128)]) ++ List.replicate (6 - (lg_sl ([.ref s0.heap.size, .int i, .int w, .int n, .ref (s0.heap.size + 128)])).length) Slot.unset).toArray = ls at hl ⊢
  have hl : lv_has ls 6 [(0, .ref s0.heap.size), (1, .int i), (2, .int w), (3, .int n), (4, .ref (s0.heap.size + 128))] := hl
  cases hc0 : in12 i && in12 w with
  | false =>
    refine lv_aload hx hb dX0_order_0 (lv_at hl 4 rfl) ?_
    refine lv_iconst (v := 0) hx hb dX0_order_2 (by decide) ?_
    refine lv_aload_n hx hb dX0_order_3 rfl (lv_at hl 0 rfl) ?_
    refine lv_iload_n hx hb dX0_order_4 rfl (lv_at hl 1 rfl) ?_
    refine lv_iload_n hx hb dX0_order_5 rfl (lv_at hl 2 rfl) ?_
    refine lv_iload_n hx hb dX0_order_6 rfl (lv_at hl 3 rfl) ?_
    refine gt_hand (pre := []) (h := (0, 12, 15, 13)) (post := [(0, 12, 19, 15), (0, 12, 23, 28)]) (va_runTV (b := s0.heap.size) (As := [.int i, .int w, .int n]) (rest := [.int 0, .ref (s0.heap.size + 128)]) ⟨hx, hb, hml, hown, hts⟩ (ct_X1_order_I hE ⟨_, hR⟩ i w n hc0) (cwV 3 hts (lw_V q776 q777 q778 q47 q779) rfl rfl rfl (by decide +kernel) ⟨Nat.le_of_ble_eq_true rfl, Nat.le_of_ble_eq_true rfl⟩) (cc_pV hW0 (cc_re hK hR.np (show gcl[0]? = _ from rfl))) rfl rfl hl.1 rfl (lv_room (Nat.le_of_ble_eq_true rfl)) dX0_order_7 ⟨Nat.le_of_ble_eq_true rfl, Nat.le_of_ble_eq_true rfl⟩) hL hW0 hown htab rfl ⟨by decide, by decide, by decide⟩ (hts _ q530) (fun y hy => by cases hy) (fun H locs xx hP1 hL => ?_)
    obtain ⟨Y, hR⟩ := hP1
    refine lv_astore (lv' := [(5, .ref xx), (0, .ref s0.heap.size), (1, .int i), (2, .int w), (3, .int n), (4, .ref (s0.heap.size + 128))]) hx hb dX0_order_15 hl (by decide) rfl (fun ls hl => ?_)
    refine lv_iconst (v := 1) hx hb dX0_order_17 (by decide) ?_
    refine W.widen (k := 2) (n := 39) (by omega) (by omega) ?_
    exact W.iret (v := 1) hx hb hr (fun t ht hW => ⟨ovI (by unfold k_order; rw [if_pos hc0]), by rw [ht]; exact (RR_CO (by unfold k_order; rw [if_pos hc0]) (by unfold k_order; rw [if_pos hc0]) ⟨_, hR⟩)⟩) hL dX0_order_18
  | true =>
    obtain ⟨k, hk, rfl⟩ := in12_t (b21 hc0)
    obtain ⟨wk, hwk, rfl⟩ := in12_t (b22 hc0)
    cases hc1 : inR n 0 1000 with
    | false =>
      refine lv_aload hx hb dX0_order_0 (lv_at hl 4 rfl) ?_
      refine lv_iconst (v := 0) hx hb dX0_order_2 (by decide) ?_
      refine lv_aload_n hx hb dX0_order_3 rfl (lv_at hl 0 rfl) ?_
      refine lv_iload_n hx hb dX0_order_4 rfl (lv_at hl 1 rfl) ?_
      refine lv_iload_n hx hb dX0_order_5 rfl (lv_at hl 2 rfl) ?_
      refine lv_iload_n hx hb dX0_order_6 rfl (lv_at hl 3 rfl) ?_
      refine gt_hand (pre := [(0, 12, 15, 13)]) (h := (0, 12, 19, 15)) (post := [(0, 12, 23, 28)]) (va_runTV (b := s0.heap.size) (As := [.int (nI k), .int (nI wk), .int n]) (rest := [.int 0, .ref (s0.heap.size + 128)]) ⟨hx, hb, hml, hown, hts⟩ (ct_X1_order_A hE ⟨_, hR⟩ hk hwk n hc1) (cwV 3 hts (lw_V q776 q777 q778 q47 q779) rfl rfl rfl (by decide +kernel) ⟨Nat.le_of_ble_eq_true rfl, Nat.le_of_ble_eq_true rfl⟩) (cc_pV hW0 (cc_re hK hR.np (show gcl[0]? = _ from rfl))) rfl rfl hl.1 rfl (lv_room (Nat.le_of_ble_eq_true rfl)) dX0_order_7 ⟨Nat.le_of_ble_eq_true rfl, Nat.le_of_ble_eq_true rfl⟩) hL hW0 hown htab rfl ⟨by decide, by decide, by decide⟩ (hts _ q531) (List.forall_mem_cons.mpr ⟨⟨⟨by decide, by decide, by decide⟩, _, hts _ q530, hE.nc_AI⟩, (fun y hy => by cases hy)⟩) (fun H locs xx hP1 hL => ?_)
      obtain ⟨Y, hR⟩ := hP1
      refine lv_astore (lv' := [(5, .ref xx), (0, .ref s0.heap.size), (1, .int (nI k)), (2, .int (nI wk)), (3, .int n), (4, .ref (s0.heap.size + 128))]) hx hb dX0_order_19 hl (by decide) rfl (fun ls hl => ?_)
      refine lv_iconst (v := 2) hx hb dX0_order_21 (by decide) ?_
      refine W.widen (k := 2) (n := 39) (by omega) (by omega) ?_
      exact W.iret (v := 2) hx hb hr (fun t ht hW => ⟨ovI (by unfold k_order; rw [if_neg (by rw [hc0]; decide), if_pos hc1]), by rw [ht]; exact (RR_CO (by unfold k_order; rw [if_neg (by rw [hc0]; decide), if_pos hc1]) (by unfold k_order; rw [if_neg (by rw [hc0]; decide), if_pos hc1]) ⟨_, hR⟩)⟩) hL dX0_order_22
    | true =>
      cases hc2 : decide (kN C 2 < 24) with
      | false =>
        refine lv_aload hx hb dX0_order_0 (lv_at hl 4 rfl) ?_
        refine lv_iconst (v := 0) hx hb dX0_order_2 (by decide) ?_
        refine lv_aload_n hx hb dX0_order_3 rfl (lv_at hl 0 rfl) ?_
        refine lv_iload_n hx hb dX0_order_4 rfl (lv_at hl 1 rfl) ?_
        refine lv_iload_n hx hb dX0_order_5 rfl (lv_at hl 2 rfl) ?_
        refine lv_iload_n hx hb dX0_order_6 rfl (lv_at hl 3 rfl) ?_
        refine gt_hand (pre := [(0, 12, 15, 13), (0, 12, 19, 15)]) (h := (0, 12, 23, 28)) (post := []) (va_runTV (b := s0.heap.size) (As := [.int (nI k), .int (nI wk), .int n]) (rest := [.int 0, .ref (s0.heap.size + 128)]) ⟨hx, hb, hml, hown, hts⟩ (ct_X1_order_S hE ⟨_, hR⟩ hk hwk n hc1 (by have := hR.lay.2.2.2.2.2.2.1; have h9 := of_decide_eq_false hc2; omega)) (cwV 3 hts (lw_V q776 q777 q778 q47 q779) rfl rfl rfl (by decide +kernel) ⟨Nat.le_of_ble_eq_true rfl, Nat.le_of_ble_eq_true rfl⟩) (cc_pV hW0 (cc_re hK hR.np (show gcl[0]? = _ from rfl))) rfl rfl hl.1 rfl (lv_room (Nat.le_of_ble_eq_true rfl)) dX0_order_7 ⟨Nat.le_of_ble_eq_true rfl, Nat.le_of_ble_eq_true rfl⟩) hL hW0 hown htab rfl ⟨by decide, by decide, by decide⟩ (hts _ q649) (List.forall_mem_cons.mpr ⟨⟨⟨by decide, by decide, by decide⟩, _, hts _ q530, hE.nc_SI⟩, (List.forall_mem_cons.mpr ⟨⟨⟨by decide, by decide, by decide⟩, _, hts _ q531, hE.nc_SA⟩, (fun y hy => by cases hy)⟩)⟩) (fun H locs xx hP1 hL => ?_)
        obtain ⟨Y, hR⟩ := hP1
        refine lv_astore (lv' := [(5, .ref xx), (0, .ref s0.heap.size), (1, .int (nI k)), (2, .int (nI wk)), (3, .int n), (4, .ref (s0.heap.size + 128))]) hx hb dX0_order_23 hl (by decide) rfl (fun ls hl => ?_)
        refine lv_iconst (v := 3) hx hb dX0_order_25 (by decide) ?_
        refine W.widen (k := 2) (n := 39) (by omega) (by omega) ?_
        exact W.iret (v := 3) hx hb hr (fun t ht hW => ⟨ovI (by unfold k_order; rw [if_neg (by rw [hc0]; decide), if_neg (by rw [hc1]; decide), if_pos hc2]), by rw [ht]; exact (RR_CO (by unfold k_order; rw [if_neg (by rw [hc0]; decide), if_neg (by rw [hc1]; decide), if_pos hc2]) (by unfold k_order; rw [if_neg (by rw [hc0]; decide), if_neg (by rw [hc1]; decide), if_pos hc2]) ⟨_, hR⟩)⟩) hL dX0_order_26
      | true =>
        refine lv_aload hx hb dX0_order_0 (lv_at hl 4 rfl) ?_
        refine lv_iconst (v := 0) hx hb dX0_order_2 (by decide) ?_
        refine lv_aload_n hx hb dX0_order_3 rfl (lv_at hl 0 rfl) ?_
        refine lv_iload_n hx hb dX0_order_4 rfl (lv_at hl 1 rfl) ?_
        refine lv_iload_n hx hb dX0_order_5 rfl (lv_at hl 2 rfl) ?_
        refine lv_iload_n hx hb dX0_order_6 rfl (lv_at hl 3 rfl) ?_
        refine cc_v (va_runV (b := s0.heap.size) (As := [.int (nI k), .int (nI wk), .int n]) (rest := [.int 0, .ref (s0.heap.size + 128)]) ⟨hx, hb, hml, hown, hts⟩ (ct_X1_order hE ⟨_, hR⟩ hk hwk n hc1 (of_decide_eq_true hc2)) (cwV 3 hts (lw_V q776 q777 q778 q47 q779) rfl rfl rfl (by decide +kernel) ⟨Nat.le_of_ble_eq_true rfl, Nat.le_of_ble_eq_true rfl⟩) (cc_pV hW0 (cc_re hK hR.np (show gcl[0]? = _ from rfl))) rfl rfl hl.1 rfl (lv_room (Nat.le_of_ble_eq_true rfl)) dX0_order_7 ⟨Nat.le_of_ble_eq_true rfl, Nat.le_of_ble_eq_true rfl⟩) hL (fun H locs hP1 hL => ?_)
        obtain ⟨Y, hR⟩ := hP1
        refine lv_i2l (v := (nI (kN C 2)).toInt64) hx hb dX0_order_10 rfl ?_
        refine gx_last (n := 1) hx hb hK 0 hR.out rfl 0 ((by decide)) (by omega) (by decide) hL (by (try simp only [aI, aA, aT, aB, aL, mad]); omega) dX0_order_11 (fun H locs hU hA hL => ?_)
        have hR := GRb.pO1 hR hU hA
        refine lv_goto (tgt := 27) hx hb dX0_order_12 (by decide) ?_
        refine lv_iconst (v := 0) hx hb dX0_order_27 (by decide) ?_
        refine W.widen (k := 2) (n := 39) (by omega) (by omega) ?_
        exact W.iret (v := 0) hx hb hr (fun t ht hW => ⟨ovI (by unfold k_order; rw [if_neg (by rw [hc0]; decide), if_neg (by rw [hc1]; decide), if_neg (by rw [hc2]; decide)]), by rw [ht]; exact (RR_CO (by unfold k_order; rw [if_neg (by rw [hc0]; decide), if_neg (by rw [hc1]; decide), if_neg (by rw [hc2]; decide)] <;> rw [nI_cl hk]) (by unfold k_order; rw [if_neg (by rw [hc0]; decide), if_neg (by rw [hc1]; decide), if_neg (by rw [hc2]; decide)] <;> rw [nI_cl hk]) ⟨_, hR⟩)⟩) hL dX0_order_28
def k_level (C : CS) (o : Int64) (i : Int32) : Int32 × CS × Int64 := if (in12 i) = false then (1, C, o) else (0, C, (kI C 11 i.toNatClampNeg).toInt64)
set_option maxHeartbeats 4000000 in
set_option maxRecDepth 100000 in
theorem ct_X0_level {l : Launch} {s0 : State} {D : va_G} {DA : Nat → ClassId} {z0 : Nat} {C : CS} {M : MS} {o : Int64} {H : Heap} (hE : G0 l s0 D DA z0) (hR : RR s0 D DA z0 C M o H) (i : Int32) : Met l yX0_level (wsW_ yX0_level cX0_level 4 (some .int) [(0, 9, 12, 13)]) ({ frames := 9, cells := 1, slots := 6, locals := 144 }) (cP s0 [.ref s0.heap.size, .int i, .ref (s0.heap.size + 128)] H) (cQv (.int (k_level C o i).1) (fun H1 => RR s0 D DA z0 (k_level C o i).2.1 M (k_level C o i).2.2 H1)) 1 6 (cF s0) := by
  refine va_MetW (cc := cX0_level) (maxL := 4) (ret := (some .int)) (hh := [(0, 9, 12, 13)]) (by decide) rfl ?_
  intro p e s m args below meth c s₁ Bd hml hv
  obtain ⟨rfl, rfl, hW0⟩ := hv
  have hx := Bd.exec
  have hb := Bd.bytes
  have hr := Bd.returns
  have hts := atoms_spec (ws := (wsW_ yX0_level cX0_level 4 (some .int) [(0, 9, 12, 13)])) Bd.pre
  obtain ⟨m9, meth9, c9, hn9, hm9, hc9, -, -, htab, -⟩ := Cond.codeWith_spec (hts _ List.mem_cons_self)
  cases Bd.named.symm.trans hn9
  cases Bd.method.symm.trans hm9
  cases (Stand.of_body Bd).code.symm.trans hc9
  have hts : ∀ w ∈ lw_all, w.before _ s = true := fun w h => hts w (List.mem_cons_of_mem _ h)
  have hown : s.vm.findClass RX0 = some m.cls := findClass_of_methodNamed Bd.named
  have hlocks := Bd.notSynchronized
  have hK := va_K.moved hW0.alike hE.K
  have hL : gx_L s0.heap.size ([] : List Loc) := gx_L0
  obtain ⟨Y, hR⟩ := hR
  have hl := lv_entry ([.ref s0.heap.size, .int i, .ref (s0.heap.size + 128)]) (n := 4) (Nat.le_of_ble_eq_true rfl)
  rw [lg_entry_eq]
  generalize (lg_sl ([.ref s0.heap.size, .int i, .ref (s0.heap.size + 128)]) ++ List.replicate (4 - (lg_sl ([.ref s0.heap.size, .int i, .ref (s0.heap.size + 128)])).length) Slot.unset).toArray = ls at hl ⊢
  have hl : lv_has ls 4 [(0, .ref s0.heap.size), (1, .int i), (2, .ref (s0.heap.size + 128))] := hl
  cases hc0 : in12 i with
  | false =>
    refine lv_aload_n hx hb dX0_level_0 rfl (lv_at hl 2 rfl) ?_
    refine lv_iconst (v := 0) hx hb dX0_level_1 (by decide) ?_
    refine lv_aload_n hx hb dX0_level_2 rfl (lv_at hl 0 rfl) ?_
    refine lv_iload_n hx hb dX0_level_3 rfl (lv_at hl 1 rfl) ?_
    refine gt_hand (pre := []) (h := (0, 9, 12, 13)) (post := []) (va_runTV (b := s0.heap.size) (As := [.int i]) (rest := [.int 0, .ref (s0.heap.size + 128)]) ⟨hx, hb, hml, hown, hts⟩ (ct_X1_level_I hE ⟨_, hR⟩ i hc0) (cwV 1 hts (lw_V q783 q784 q785 q47 q786) rfl rfl rfl (by decide +kernel) ⟨Nat.le_of_ble_eq_true rfl, Nat.le_of_ble_eq_true rfl⟩) (cc_pV hW0 (cc_re hK hR.np (show gcl[0]? = _ from rfl))) rfl rfl hl.1 rfl (lv_room (Nat.le_of_ble_eq_true rfl)) dX0_level_4 ⟨Nat.le_of_ble_eq_true rfl, Nat.le_of_ble_eq_true rfl⟩) hL hW0 hown htab rfl ⟨by decide, by decide, by decide⟩ (hts _ q530) (fun y hy => by cases hy) (fun H locs xx hP1 hL => ?_)
    obtain ⟨Y, hR⟩ := hP1
    refine lv_astore_n (lv' := [(3, .ref xx), (0, .ref s0.heap.size), (1, .int i), (2, .ref (s0.heap.size + 128))]) hx hb dX0_level_12 rfl hl (by decide) rfl (fun ls hl => ?_)
    refine lv_iconst (v := 1) hx hb dX0_level_13 (by decide) ?_
    refine W.widen (k := 1) (n := 6) (by omega) (by omega) ?_
    exact W.iret (v := 1) hx hb hr (fun t ht hW => ⟨ovI (by unfold k_level; rw [if_pos hc0]), by rw [ht]; exact (RR_CO (by unfold k_level; rw [if_pos hc0]) (by unfold k_level; rw [if_pos hc0]) ⟨_, hR⟩)⟩) hL dX0_level_14
  | true =>
    obtain ⟨k, hk, rfl⟩ := in12_t hc0
    refine lv_aload_n hx hb dX0_level_0 rfl (lv_at hl 2 rfl) ?_
    refine lv_iconst (v := 0) hx hb dX0_level_1 (by decide) ?_
    refine lv_aload_n hx hb dX0_level_2 rfl (lv_at hl 0 rfl) ?_
    refine lv_iload_n hx hb dX0_level_3 rfl (lv_at hl 1 rfl) ?_
    refine cc_v (va_runV (b := s0.heap.size) (As := [.int (nI k)]) (rest := [.int 0, .ref (s0.heap.size + 128)]) ⟨hx, hb, hml, hown, hts⟩ (ct_X1_level hE hR hk) (cwV 1 hts (lw_V q783 q784 q785 q47 q786) rfl rfl rfl (by decide +kernel) ⟨Nat.le_of_ble_eq_true rfl, Nat.le_of_ble_eq_true rfl⟩) (cc_pV hW0 (cc_re hK hR.np (show gcl[0]? = _ from rfl))) rfl rfl hl.1 rfl (lv_room (Nat.le_of_ble_eq_true rfl)) dX0_level_4 ⟨Nat.le_of_ble_eq_true rfl, Nat.le_of_ble_eq_true rfl⟩) hL (fun H locs hP1 hL => ?_)
    subst hP1
    refine lv_i2l (v := (kI C 11 k).toInt64) hx hb dX0_level_7 rfl ?_
    refine gx_last (n := 1) hx hb hK 0 hR.out rfl 0 ((by decide)) (by omega) (by decide) hL (by (try simp only [aI, aA, aT, aB, aL, mad]); omega) dX0_level_8 (fun H locs hU hA hL => ?_)
    have hR := GRb.pO1 hR hU hA
    refine lv_goto (tgt := 15) hx hb dX0_level_9 (by decide) ?_
    refine lv_iconst (v := 0) hx hb dX0_level_15 (by decide) ?_
    refine W.widen (k := 1) (n := 6) (by omega) (by omega) ?_
    exact W.iret (v := 0) hx hb hr (fun t ht hW => ⟨ovI (by unfold k_level; rw [if_neg (by rw [hc0]; decide)]), by rw [ht]; exact (RR_CO (by unfold k_level; rw [if_neg (by rw [hc0]; decide)] <;> rw [nI_cl hk]) (by unfold k_level; rw [if_neg (by rw [hc0]; decide)] <;> rw [nI_cl hk]) ⟨_, hR⟩)⟩) hL dX0_level_16
def k_gross (C : CS) (o : Int64) (i w : Int32) : Int32 × CS × Int64 := if (in12 i && in12 w) = false then (1, C, o) else if (decide (kT C = 0)) = false then (2, C, o) else (0, C, kA C 0 i.toNatClampNeg w.toNatClampNeg)
set_option maxHeartbeats 4000000 in
set_option maxRecDepth 100000 in
theorem ct_X0_gross {l : Launch} {s0 : State} {D : va_G} {DA : Nat → ClassId} {z0 : Nat} {C : CS} {M : MS} {o : Int64} {H : Heap} (hE : G0 l s0 D DA z0) (hR : RR s0 D DA z0 C M o H) (i w : Int32) : Met l yX0_gross (wsW_ yX0_gross cX0_gross 5 (some .int) [(0, 9, 12, 13), (0, 9, 16, 28)]) ({ frames := 9, cells := 1, slots := 6, locals := 146 }) (cP s0 [.ref s0.heap.size, .int i, .int w, .ref (s0.heap.size + 128)] H) (cQv (.int (k_gross C o i w).1) (fun H1 => RR s0 D DA z0 (k_gross C o i w).2.1 M (k_gross C o i w).2.2 H1)) 1 6 (cF s0) := by
  refine va_MetW (cc := cX0_gross) (maxL := 5) (ret := (some .int)) (hh := [(0, 9, 12, 13), (0, 9, 16, 28)]) (by decide) rfl ?_
  intro p e s m args below meth c s₁ Bd hml hv
  obtain ⟨rfl, rfl, hW0⟩ := hv
  have hx := Bd.exec
  have hb := Bd.bytes
  have hr := Bd.returns
  have hts := atoms_spec (ws := (wsW_ yX0_gross cX0_gross 5 (some .int) [(0, 9, 12, 13), (0, 9, 16, 28)])) Bd.pre
  obtain ⟨m9, meth9, c9, hn9, hm9, hc9, -, -, htab, -⟩ := Cond.codeWith_spec (hts _ List.mem_cons_self)
  cases Bd.named.symm.trans hn9
  cases Bd.method.symm.trans hm9
  cases (Stand.of_body Bd).code.symm.trans hc9
  have hts : ∀ w ∈ lw_all, w.before _ s = true := fun w h => hts w (List.mem_cons_of_mem _ h)
  have hown : s.vm.findClass RX0 = some m.cls := findClass_of_methodNamed Bd.named
  have hlocks := Bd.notSynchronized
  have hK := va_K.moved hW0.alike hE.K
  have hL : gx_L s0.heap.size ([] : List Loc) := gx_L0
  obtain ⟨Y, hR⟩ := hR
  have hl := lv_entry ([.ref s0.heap.size, .int i, .int w, .ref (s0.heap.size + 128)]) (n := 5) (Nat.le_of_ble_eq_true rfl)
  rw [lg_entry_eq]
  generalize (lg_sl ([.ref s0.heap.size, .int i, .int w, .ref (s0.heap.size + 128)]) ++ List.replicate (5 - (lg_sl ([.ref s0.heap.size, .int i, .int w, .ref (s0.heap.size + 128)])).length) Slot.unset).toArray = ls at hl ⊢
  have hl : lv_has ls 5 [(0, .ref s0.heap.size), (1, .int i), (2, .int w), (3, .ref (s0.heap.size + 128))] := hl
  cases hc0 : in12 i && in12 w with
  | false =>
    refine lv_aload_n hx hb dX0_gross_0 rfl (lv_at hl 3 rfl) ?_
    refine lv_iconst (v := 0) hx hb dX0_gross_1 (by decide) ?_
    refine lv_aload_n hx hb dX0_gross_2 rfl (lv_at hl 0 rfl) ?_
    refine lv_iload_n hx hb dX0_gross_3 rfl (lv_at hl 1 rfl) ?_
    refine lv_iload_n hx hb dX0_gross_4 rfl (lv_at hl 2 rfl) ?_
    refine gt_hand (pre := []) (h := (0, 9, 12, 13)) (post := [(0, 9, 16, 28)]) (va_runTV (b := s0.heap.size) (As := [.int i, .int w]) (rest := [.int 0, .ref (s0.heap.size + 128)]) ⟨hx, hb, hml, hown, hts⟩ (ct_X1_gross_I hE ⟨_, hR⟩ i w hc0) (cwV 2 hts (lw_V q790 q791 q792 q47 q793) rfl rfl rfl (by decide +kernel) ⟨Nat.le_of_ble_eq_true rfl, Nat.le_of_ble_eq_true rfl⟩) (cc_pV hW0 (cc_re hK hR.np (show gcl[0]? = _ from rfl))) rfl rfl hl.1 rfl (lv_room (Nat.le_of_ble_eq_true rfl)) dX0_gross_5 ⟨Nat.le_of_ble_eq_true rfl, Nat.le_of_ble_eq_true rfl⟩) hL hW0 hown htab rfl ⟨by decide, by decide, by decide⟩ (hts _ q530) (fun y hy => by cases hy) (fun H locs xx hP1 hL => ?_)
    obtain ⟨Y, hR⟩ := hP1
    refine lv_astore (lv' := [(4, .ref xx), (0, .ref s0.heap.size), (1, .int i), (2, .int w), (3, .ref (s0.heap.size + 128))]) hx hb dX0_gross_12 hl (by decide) rfl (fun ls hl => ?_)
    refine lv_iconst (v := 1) hx hb dX0_gross_14 (by decide) ?_
    refine W.widen (k := 1) (n := 6) (by omega) (by omega) ?_
    exact W.iret (v := 1) hx hb hr (fun t ht hW => ⟨ovI (by unfold k_gross; rw [if_pos hc0]), by rw [ht]; exact (RR_CO (by unfold k_gross; rw [if_pos hc0]) (by unfold k_gross; rw [if_pos hc0]) ⟨_, hR⟩)⟩) hL dX0_gross_15
  | true =>
    obtain ⟨k, hk, rfl⟩ := in12_t (b21 hc0)
    obtain ⟨wk, hwk, rfl⟩ := in12_t (b22 hc0)
    cases hc1 : decide (kT C = 0) with
    | false =>
      refine lv_aload_n hx hb dX0_gross_0 rfl (lv_at hl 3 rfl) ?_
      refine lv_iconst (v := 0) hx hb dX0_gross_1 (by decide) ?_
      refine lv_aload_n hx hb dX0_gross_2 rfl (lv_at hl 0 rfl) ?_
      refine lv_iload_n hx hb dX0_gross_3 rfl (lv_at hl 1 rfl) ?_
      refine lv_iload_n hx hb dX0_gross_4 rfl (lv_at hl 2 rfl) ?_
      refine gt_hand (pre := [(0, 9, 12, 13)]) (h := (0, 9, 16, 28)) (post := []) (va_runTV (b := s0.heap.size) (As := [.int (nI k), .int (nI wk)]) (rest := [.int 0, .ref (s0.heap.size + 128)]) ⟨hx, hb, hml, hown, hts⟩ (ct_X1_gross_S hE ⟨_, hR⟩ hk hwk (of_decide_eq_false hc1)) (cwV 2 hts (lw_V q790 q791 q792 q47 q793) rfl rfl rfl (by decide +kernel) ⟨Nat.le_of_ble_eq_true rfl, Nat.le_of_ble_eq_true rfl⟩) (cc_pV hW0 (cc_re hK hR.np (show gcl[0]? = _ from rfl))) rfl rfl hl.1 rfl (lv_room (Nat.le_of_ble_eq_true rfl)) dX0_gross_5 ⟨Nat.le_of_ble_eq_true rfl, Nat.le_of_ble_eq_true rfl⟩) hL hW0 hown htab rfl ⟨by decide, by decide, by decide⟩ (hts _ q649) (List.forall_mem_cons.mpr ⟨⟨⟨by decide, by decide, by decide⟩, _, hts _ q530, hE.nc_SI⟩, (fun y hy => by cases hy)⟩) (fun H locs xx hP1 hL => ?_)
      obtain ⟨Y, hR⟩ := hP1
      refine lv_astore (lv' := [(4, .ref xx), (0, .ref s0.heap.size), (1, .int (nI k)), (2, .int (nI wk)), (3, .ref (s0.heap.size + 128))]) hx hb dX0_gross_16 hl (by decide) rfl (fun ls hl => ?_)
      refine lv_iconst (v := 2) hx hb dX0_gross_18 (by decide) ?_
      refine W.widen (k := 1) (n := 6) (by omega) (by omega) ?_
      exact W.iret (v := 2) hx hb hr (fun t ht hW => ⟨ovI (by unfold k_gross; rw [if_neg (by rw [hc0]; decide), if_pos hc1]), by rw [ht]; exact (RR_CO (by unfold k_gross; rw [if_neg (by rw [hc0]; decide), if_pos hc1]) (by unfold k_gross; rw [if_neg (by rw [hc0]; decide), if_pos hc1]) ⟨_, hR⟩)⟩) hL dX0_gross_19
    | true =>
      refine lv_aload_n hx hb dX0_gross_0 rfl (lv_at hl 3 rfl) ?_
      refine lv_iconst (v := 0) hx hb dX0_gross_1 (by decide) ?_
      refine lv_aload_n hx hb dX0_gross_2 rfl (lv_at hl 0 rfl) ?_
      refine lv_iload_n hx hb dX0_gross_3 rfl (lv_at hl 1 rfl) ?_
      refine lv_iload_n hx hb dX0_gross_4 rfl (lv_at hl 2 rfl) ?_
      refine cc_v (va_runV (b := s0.heap.size) (As := [.int (nI k), .int (nI wk)]) (rest := [.int 0, .ref (s0.heap.size + 128)]) ⟨hx, hb, hml, hown, hts⟩ (ct_X1_gross hE hR hk hwk (of_decide_eq_true hc1)) (cwV 2 hts (lw_V q790 q791 q792 q47 q793) rfl rfl rfl (by decide +kernel) ⟨Nat.le_of_ble_eq_true rfl, Nat.le_of_ble_eq_true rfl⟩) (cc_pV hW0 (cc_re hK hR.np (show gcl[0]? = _ from rfl))) rfl rfl hl.1 rfl (lv_room (Nat.le_of_ble_eq_true rfl)) dX0_gross_5 ⟨Nat.le_of_ble_eq_true rfl, Nat.le_of_ble_eq_true rfl⟩) hL (fun H locs hP1 hL => ?_)
      subst hP1
      refine gx_last (n := 1) hx hb hK 0 hR.out rfl 0 ((by decide)) (by omega) (by decide) hL (by (try simp only [aI, aA, aT, aB, aL, mad]); omega) dX0_gross_8 (fun H locs hU hA hL => ?_)
      have hR := GRb.pO1 hR hU hA
      refine lv_goto (tgt := 20) hx hb dX0_gross_9 (by decide) ?_
      refine lv_iconst (v := 0) hx hb dX0_gross_20 (by decide) ?_
      refine W.widen (k := 1) (n := 6) (by omega) (by omega) ?_
      exact W.iret (v := 0) hx hb hr (fun t ht hW => ⟨ovI (by unfold k_gross; rw [if_neg (by rw [hc0]; decide), if_neg (by rw [hc1]; decide)]), by rw [ht]; exact (RR_CO (by unfold k_gross; rw [if_neg (by rw [hc0]; decide), if_neg (by rw [hc1]; decide)] <;> rw [nI_cl hk, nI_cl hwk]) (by unfold k_gross; rw [if_neg (by rw [hc0]; decide), if_neg (by rw [hc1]; decide)] <;> rw [nI_cl hk, nI_cl hwk]) ⟨_, hR⟩)⟩) hL dX0_gross_21
def k_planned (C : CS) (o : Int64) (i w : Int32) : Int32 × CS × Int64 := if (in12 i && in12 w) = false then (1, C, o) else if (decide (kT C = 0)) = false then (2, C, o) else (0, C, kA C 3 i.toNatClampNeg w.toNatClampNeg)
set_option maxHeartbeats 4000000 in
set_option maxRecDepth 100000 in
theorem ct_X0_planned {l : Launch} {s0 : State} {D : va_G} {DA : Nat → ClassId} {z0 : Nat} {C : CS} {M : MS} {o : Int64} {H : Heap} (hE : G0 l s0 D DA z0) (hR : RR s0 D DA z0 C M o H) (i w : Int32) : Met l yX0_planned (wsW_ yX0_planned cX0_planned 5 (some .int) [(0, 9, 12, 13), (0, 9, 16, 28)]) ({ frames := 9, cells := 1, slots := 6, locals := 146 }) (cP s0 [.ref s0.heap.size, .int i, .int w, .ref (s0.heap.size + 128)] H) (cQv (.int (k_planned C o i w).1) (fun H1 => RR s0 D DA z0 (k_planned C o i w).2.1 M (k_planned C o i w).2.2 H1)) 1 6 (cF s0) := by
  refine va_MetW (cc := cX0_planned) (maxL := 5) (ret := (some .int)) (hh := [(0, 9, 12, 13), (0, 9, 16, 28)]) (by decide) rfl ?_
  intro p e s m args below meth c s₁ Bd hml hv
  obtain ⟨rfl, rfl, hW0⟩ := hv
  have hx := Bd.exec
  have hb := Bd.bytes
  have hr := Bd.returns
  have hts := atoms_spec (ws := (wsW_ yX0_planned cX0_planned 5 (some .int) [(0, 9, 12, 13), (0, 9, 16, 28)])) Bd.pre
  obtain ⟨m9, meth9, c9, hn9, hm9, hc9, -, -, htab, -⟩ := Cond.codeWith_spec (hts _ List.mem_cons_self)
  cases Bd.named.symm.trans hn9
  cases Bd.method.symm.trans hm9
  cases (Stand.of_body Bd).code.symm.trans hc9
  have hts : ∀ w ∈ lw_all, w.before _ s = true := fun w h => hts w (List.mem_cons_of_mem _ h)
  have hown : s.vm.findClass RX0 = some m.cls := findClass_of_methodNamed Bd.named
  have hlocks := Bd.notSynchronized
  have hK := va_K.moved hW0.alike hE.K
  have hL : gx_L s0.heap.size ([] : List Loc) := gx_L0
  obtain ⟨Y, hR⟩ := hR
  have hl := lv_entry ([.ref s0.heap.size, .int i, .int w, .ref (s0.heap.size + 128)]) (n := 5) (Nat.le_of_ble_eq_true rfl)
  rw [lg_entry_eq]
  generalize (lg_sl ([.ref s0.heap.size, .int i, .int w, .ref (s0.heap.size + 128)]) ++ List.replicate (5 - (lg_sl ([.ref s0.heap.size, .int i, .int w, .ref (s0.heap.size + 128)])).length) Slot.unset).toArray = ls at hl ⊢
  have hl : lv_has ls 5 [(0, .ref s0.heap.size), (1, .int i), (2, .int w), (3, .ref (s0.heap.size + 128))] := hl
  cases hc0 : in12 i && in12 w with
  | false =>
    refine lv_aload_n hx hb dX0_planned_0 rfl (lv_at hl 3 rfl) ?_
    refine lv_iconst (v := 0) hx hb dX0_planned_1 (by decide) ?_
    refine lv_aload_n hx hb dX0_planned_2 rfl (lv_at hl 0 rfl) ?_
    refine lv_iload_n hx hb dX0_planned_3 rfl (lv_at hl 1 rfl) ?_
    refine lv_iload_n hx hb dX0_planned_4 rfl (lv_at hl 2 rfl) ?_
    refine gt_hand (pre := []) (h := (0, 9, 12, 13)) (post := [(0, 9, 16, 28)]) (va_runTV (b := s0.heap.size) (As := [.int i, .int w]) (rest := [.int 0, .ref (s0.heap.size + 128)]) ⟨hx, hb, hml, hown, hts⟩ (ct_X1_planned_I hE ⟨_, hR⟩ i w hc0) (cwV 2 hts (lw_V q801 q802 q803 q47 q804) rfl rfl rfl (by decide +kernel) ⟨Nat.le_of_ble_eq_true rfl, Nat.le_of_ble_eq_true rfl⟩) (cc_pV hW0 (cc_re hK hR.np (show gcl[0]? = _ from rfl))) rfl rfl hl.1 rfl (lv_room (Nat.le_of_ble_eq_true rfl)) dX0_planned_5 ⟨Nat.le_of_ble_eq_true rfl, Nat.le_of_ble_eq_true rfl⟩) hL hW0 hown htab rfl ⟨by decide, by decide, by decide⟩ (hts _ q530) (fun y hy => by cases hy) (fun H locs xx hP1 hL => ?_)
    obtain ⟨Y, hR⟩ := hP1
    refine lv_astore (lv' := [(4, .ref xx), (0, .ref s0.heap.size), (1, .int i), (2, .int w), (3, .ref (s0.heap.size + 128))]) hx hb dX0_planned_12 hl (by decide) rfl (fun ls hl => ?_)
    refine lv_iconst (v := 1) hx hb dX0_planned_14 (by decide) ?_
    refine W.widen (k := 1) (n := 6) (by omega) (by omega) ?_
    exact W.iret (v := 1) hx hb hr (fun t ht hW => ⟨ovI (by unfold k_planned; rw [if_pos hc0]), by rw [ht]; exact (RR_CO (by unfold k_planned; rw [if_pos hc0]) (by unfold k_planned; rw [if_pos hc0]) ⟨_, hR⟩)⟩) hL dX0_planned_15
  | true =>
    obtain ⟨k, hk, rfl⟩ := in12_t (b21 hc0)
    obtain ⟨wk, hwk, rfl⟩ := in12_t (b22 hc0)
    cases hc1 : decide (kT C = 0) with
    | false =>
      refine lv_aload_n hx hb dX0_planned_0 rfl (lv_at hl 3 rfl) ?_
      refine lv_iconst (v := 0) hx hb dX0_planned_1 (by decide) ?_
      refine lv_aload_n hx hb dX0_planned_2 rfl (lv_at hl 0 rfl) ?_
      refine lv_iload_n hx hb dX0_planned_3 rfl (lv_at hl 1 rfl) ?_
      refine lv_iload_n hx hb dX0_planned_4 rfl (lv_at hl 2 rfl) ?_
      refine gt_hand (pre := [(0, 9, 12, 13)]) (h := (0, 9, 16, 28)) (post := []) (va_runTV (b := s0.heap.size) (As := [.int (nI k), .int (nI wk)]) (rest := [.int 0, .ref (s0.heap.size + 128)]) ⟨hx, hb, hml, hown, hts⟩ (ct_X1_planned_S hE ⟨_, hR⟩ hk hwk (of_decide_eq_false hc1)) (cwV 2 hts (lw_V q801 q802 q803 q47 q804) rfl rfl rfl (by decide +kernel) ⟨Nat.le_of_ble_eq_true rfl, Nat.le_of_ble_eq_true rfl⟩) (cc_pV hW0 (cc_re hK hR.np (show gcl[0]? = _ from rfl))) rfl rfl hl.1 rfl (lv_room (Nat.le_of_ble_eq_true rfl)) dX0_planned_5 ⟨Nat.le_of_ble_eq_true rfl, Nat.le_of_ble_eq_true rfl⟩) hL hW0 hown htab rfl ⟨by decide, by decide, by decide⟩ (hts _ q649) (List.forall_mem_cons.mpr ⟨⟨⟨by decide, by decide, by decide⟩, _, hts _ q530, hE.nc_SI⟩, (fun y hy => by cases hy)⟩) (fun H locs xx hP1 hL => ?_)
      obtain ⟨Y, hR⟩ := hP1
      refine lv_astore (lv' := [(4, .ref xx), (0, .ref s0.heap.size), (1, .int (nI k)), (2, .int (nI wk)), (3, .ref (s0.heap.size + 128))]) hx hb dX0_planned_16 hl (by decide) rfl (fun ls hl => ?_)
      refine lv_iconst (v := 2) hx hb dX0_planned_18 (by decide) ?_
      refine W.widen (k := 1) (n := 6) (by omega) (by omega) ?_
      exact W.iret (v := 2) hx hb hr (fun t ht hW => ⟨ovI (by unfold k_planned; rw [if_neg (by rw [hc0]; decide), if_pos hc1]), by rw [ht]; exact (RR_CO (by unfold k_planned; rw [if_neg (by rw [hc0]; decide), if_pos hc1]) (by unfold k_planned; rw [if_neg (by rw [hc0]; decide), if_pos hc1]) ⟨_, hR⟩)⟩) hL dX0_planned_19
    | true =>
      refine lv_aload_n hx hb dX0_planned_0 rfl (lv_at hl 3 rfl) ?_
      refine lv_iconst (v := 0) hx hb dX0_planned_1 (by decide) ?_
      refine lv_aload_n hx hb dX0_planned_2 rfl (lv_at hl 0 rfl) ?_
      refine lv_iload_n hx hb dX0_planned_3 rfl (lv_at hl 1 rfl) ?_
      refine lv_iload_n hx hb dX0_planned_4 rfl (lv_at hl 2 rfl) ?_
      refine cc_v (va_runV (b := s0.heap.size) (As := [.int (nI k), .int (nI wk)]) (rest := [.int 0, .ref (s0.heap.size + 128)]) ⟨hx, hb, hml, hown, hts⟩ (ct_X1_planned hE hR hk hwk (of_decide_eq_true hc1)) (cwV 2 hts (lw_V q801 q802 q803 q47 q804) rfl rfl rfl (by decide +kernel) ⟨Nat.le_of_ble_eq_true rfl, Nat.le_of_ble_eq_true rfl⟩) (cc_pV hW0 (cc_re hK hR.np (show gcl[0]? = _ from rfl))) rfl rfl hl.1 rfl (lv_room (Nat.le_of_ble_eq_true rfl)) dX0_planned_5 ⟨Nat.le_of_ble_eq_true rfl, Nat.le_of_ble_eq_true rfl⟩) hL (fun H locs hP1 hL => ?_)
      subst hP1
      refine gx_last (n := 1) hx hb hK 0 hR.out rfl 0 ((by decide)) (by omega) (by decide) hL (by (try simp only [aI, aA, aT, aB, aL, mad]); omega) dX0_planned_8 (fun H locs hU hA hL => ?_)
      have hR := GRb.pO1 hR hU hA
      refine lv_goto (tgt := 20) hx hb dX0_planned_9 (by decide) ?_
      refine lv_iconst (v := 0) hx hb dX0_planned_20 (by decide) ?_
      refine W.widen (k := 1) (n := 6) (by omega) (by omega) ?_
      exact W.iret (v := 0) hx hb hr (fun t ht hW => ⟨ovI (by unfold k_planned; rw [if_neg (by rw [hc0]; decide), if_neg (by rw [hc1]; decide)]), by rw [ht]; exact (RR_CO (by unfold k_planned; rw [if_neg (by rw [hc0]; decide), if_neg (by rw [hc1]; decide)] <;> rw [nI_cl hk, nI_cl hwk]) (by unfold k_planned; rw [if_neg (by rw [hc0]; decide), if_neg (by rw [hc1]; decide)] <;> rw [nI_cl hk, nI_cl hwk]) ⟨_, hR⟩)⟩) hL dX0_planned_21
def k_balance (C : CS) (o : Int64) (i w : Int32) : Int32 × CS × Int64 := if (in12 i && in12 w) = false then (1, C, o) else if (decide (kT C = 0)) = false then (2, C, o) else (0, C, kA C 4 i.toNatClampNeg w.toNatClampNeg)
set_option maxHeartbeats 4000000 in
set_option maxRecDepth 100000 in
theorem ct_X0_balance {l : Launch} {s0 : State} {D : va_G} {DA : Nat → ClassId} {z0 : Nat} {C : CS} {M : MS} {o : Int64} {H : Heap} (hE : G0 l s0 D DA z0) (hR : RR s0 D DA z0 C M o H) (i w : Int32) : Met l yX0_balance (wsW_ yX0_balance cX0_balance 5 (some .int) [(0, 9, 12, 13), (0, 9, 16, 28)]) ({ frames := 9, cells := 1, slots := 6, locals := 146 }) (cP s0 [.ref s0.heap.size, .int i, .int w, .ref (s0.heap.size + 128)] H) (cQv (.int (k_balance C o i w).1) (fun H1 => RR s0 D DA z0 (k_balance C o i w).2.1 M (k_balance C o i w).2.2 H1)) 1 6 (cF s0) := by
  refine va_MetW (cc := cX0_balance) (maxL := 5) (ret := (some .int)) (hh := [(0, 9, 12, 13), (0, 9, 16, 28)]) (by decide) rfl ?_
  intro p e s m args below meth c s₁ Bd hml hv
  obtain ⟨rfl, rfl, hW0⟩ := hv
  have hx := Bd.exec
  have hb := Bd.bytes
  have hr := Bd.returns
  have hts := atoms_spec (ws := (wsW_ yX0_balance cX0_balance 5 (some .int) [(0, 9, 12, 13), (0, 9, 16, 28)])) Bd.pre
  obtain ⟨m9, meth9, c9, hn9, hm9, hc9, -, -, htab, -⟩ := Cond.codeWith_spec (hts _ List.mem_cons_self)
  cases Bd.named.symm.trans hn9
  cases Bd.method.symm.trans hm9
  cases (Stand.of_body Bd).code.symm.trans hc9
  have hts : ∀ w ∈ lw_all, w.before _ s = true := fun w h => hts w (List.mem_cons_of_mem _ h)
  have hown : s.vm.findClass RX0 = some m.cls := findClass_of_methodNamed Bd.named
  have hlocks := Bd.notSynchronized
  have hK := va_K.moved hW0.alike hE.K
  have hL : gx_L s0.heap.size ([] : List Loc) := gx_L0
  obtain ⟨Y, hR⟩ := hR
  have hl := lv_entry ([.ref s0.heap.size, .int i, .int w, .ref (s0.heap.size + 128)]) (n := 5) (Nat.le_of_ble_eq_true rfl)
  rw [lg_entry_eq]
  generalize (lg_sl ([.ref s0.heap.size, .int i, .int w, .ref (s0.heap.size + 128)]) ++ List.replicate (5 - (lg_sl ([.ref s0.heap.size, .int i, .int w, .ref (s0.heap.size + 128)])).length) Slot.unset).toArray = ls at hl ⊢
  have hl : lv_has ls 5 [(0, .ref s0.heap.size), (1, .int i), (2, .int w), (3, .ref (s0.heap.size + 128))] := hl
  cases hc0 : in12 i && in12 w with
  | false =>
    refine lv_aload_n hx hb dX0_balance_0 rfl (lv_at hl 3 rfl) ?_
    refine lv_iconst (v := 0) hx hb dX0_balance_1 (by decide) ?_
    refine lv_aload_n hx hb dX0_balance_2 rfl (lv_at hl 0 rfl) ?_
    refine lv_iload_n hx hb dX0_balance_3 rfl (lv_at hl 1 rfl) ?_
    refine lv_iload_n hx hb dX0_balance_4 rfl (lv_at hl 2 rfl) ?_
    refine gt_hand (pre := []) (h := (0, 9, 12, 13)) (post := [(0, 9, 16, 28)]) (va_runTV (b := s0.heap.size) (As := [.int i, .int w]) (rest := [.int 0, .ref (s0.heap.size + 128)]) ⟨hx, hb, hml, hown, hts⟩ (ct_X1_balance_I hE ⟨_, hR⟩ i w hc0) (cwV 2 hts (lw_V q808 q809 q810 q47 q811) rfl rfl rfl (by decide +kernel) ⟨Nat.le_of_ble_eq_true rfl, Nat.le_of_ble_eq_true rfl⟩) (cc_pV hW0 (cc_re hK hR.np (show gcl[0]? = _ from rfl))) rfl rfl hl.1 rfl (lv_room (Nat.le_of_ble_eq_true rfl)) dX0_balance_5 ⟨Nat.le_of_ble_eq_true rfl, Nat.le_of_ble_eq_true rfl⟩) hL hW0 hown htab rfl ⟨by decide, by decide, by decide⟩ (hts _ q530) (fun y hy => by cases hy) (fun H locs xx hP1 hL => ?_)
    obtain ⟨Y, hR⟩ := hP1
    refine lv_astore (lv' := [(4, .ref xx), (0, .ref s0.heap.size), (1, .int i), (2, .int w), (3, .ref (s0.heap.size + 128))]) hx hb dX0_balance_12 hl (by decide) rfl (fun ls hl => ?_)
    refine lv_iconst (v := 1) hx hb dX0_balance_14 (by decide) ?_
    refine W.widen (k := 1) (n := 6) (by omega) (by omega) ?_
    exact W.iret (v := 1) hx hb hr (fun t ht hW => ⟨ovI (by unfold k_balance; rw [if_pos hc0]), by rw [ht]; exact (RR_CO (by unfold k_balance; rw [if_pos hc0]) (by unfold k_balance; rw [if_pos hc0]) ⟨_, hR⟩)⟩) hL dX0_balance_15
  | true =>
    obtain ⟨k, hk, rfl⟩ := in12_t (b21 hc0)
    obtain ⟨wk, hwk, rfl⟩ := in12_t (b22 hc0)
    cases hc1 : decide (kT C = 0) with
    | false =>
      refine lv_aload_n hx hb dX0_balance_0 rfl (lv_at hl 3 rfl) ?_
      refine lv_iconst (v := 0) hx hb dX0_balance_1 (by decide) ?_
      refine lv_aload_n hx hb dX0_balance_2 rfl (lv_at hl 0 rfl) ?_
      refine lv_iload_n hx hb dX0_balance_3 rfl (lv_at hl 1 rfl) ?_
      refine lv_iload_n hx hb dX0_balance_4 rfl (lv_at hl 2 rfl) ?_
      refine gt_hand (pre := [(0, 9, 12, 13)]) (h := (0, 9, 16, 28)) (post := []) (va_runTV (b := s0.heap.size) (As := [.int (nI k), .int (nI wk)]) (rest := [.int 0, .ref (s0.heap.size + 128)]) ⟨hx, hb, hml, hown, hts⟩ (ct_X1_balance_S hE ⟨_, hR⟩ hk hwk (of_decide_eq_false hc1)) (cwV 2 hts (lw_V q808 q809 q810 q47 q811) rfl rfl rfl (by decide +kernel) ⟨Nat.le_of_ble_eq_true rfl, Nat.le_of_ble_eq_true rfl⟩) (cc_pV hW0 (cc_re hK hR.np (show gcl[0]? = _ from rfl))) rfl rfl hl.1 rfl (lv_room (Nat.le_of_ble_eq_true rfl)) dX0_balance_5 ⟨Nat.le_of_ble_eq_true rfl, Nat.le_of_ble_eq_true rfl⟩) hL hW0 hown htab rfl ⟨by decide, by decide, by decide⟩ (hts _ q649) (List.forall_mem_cons.mpr ⟨⟨⟨by decide, by decide, by decide⟩, _, hts _ q530, hE.nc_SI⟩, (fun y hy => by cases hy)⟩) (fun H locs xx hP1 hL => ?_)
      obtain ⟨Y, hR⟩ := hP1
      refine lv_astore (lv' := [(4, .ref xx), (0, .ref s0.heap.size), (1, .int (nI k)), (2, .int (nI wk)), (3, .ref (s0.heap.size + 128))]) hx hb dX0_balance_16 hl (by decide) rfl (fun ls hl => ?_)
      refine lv_iconst (v := 2) hx hb dX0_balance_18 (by decide) ?_
      refine W.widen (k := 1) (n := 6) (by omega) (by omega) ?_
      exact W.iret (v := 2) hx hb hr (fun t ht hW => ⟨ovI (by unfold k_balance; rw [if_neg (by rw [hc0]; decide), if_pos hc1]), by rw [ht]; exact (RR_CO (by unfold k_balance; rw [if_neg (by rw [hc0]; decide), if_pos hc1]) (by unfold k_balance; rw [if_neg (by rw [hc0]; decide), if_pos hc1]) ⟨_, hR⟩)⟩) hL dX0_balance_19
    | true =>
      refine lv_aload_n hx hb dX0_balance_0 rfl (lv_at hl 3 rfl) ?_
      refine lv_iconst (v := 0) hx hb dX0_balance_1 (by decide) ?_
      refine lv_aload_n hx hb dX0_balance_2 rfl (lv_at hl 0 rfl) ?_
      refine lv_iload_n hx hb dX0_balance_3 rfl (lv_at hl 1 rfl) ?_
      refine lv_iload_n hx hb dX0_balance_4 rfl (lv_at hl 2 rfl) ?_
      refine cc_v (va_runV (b := s0.heap.size) (As := [.int (nI k), .int (nI wk)]) (rest := [.int 0, .ref (s0.heap.size + 128)]) ⟨hx, hb, hml, hown, hts⟩ (ct_X1_balance hE hR hk hwk (of_decide_eq_true hc1)) (cwV 2 hts (lw_V q808 q809 q810 q47 q811) rfl rfl rfl (by decide +kernel) ⟨Nat.le_of_ble_eq_true rfl, Nat.le_of_ble_eq_true rfl⟩) (cc_pV hW0 (cc_re hK hR.np (show gcl[0]? = _ from rfl))) rfl rfl hl.1 rfl (lv_room (Nat.le_of_ble_eq_true rfl)) dX0_balance_5 ⟨Nat.le_of_ble_eq_true rfl, Nat.le_of_ble_eq_true rfl⟩) hL (fun H locs hP1 hL => ?_)
      subst hP1
      refine gx_last (n := 1) hx hb hK 0 hR.out rfl 0 ((by decide)) (by omega) (by decide) hL (by (try simp only [aI, aA, aT, aB, aL, mad]); omega) dX0_balance_8 (fun H locs hU hA hL => ?_)
      have hR := GRb.pO1 hR hU hA
      refine lv_goto (tgt := 20) hx hb dX0_balance_9 (by decide) ?_
      refine lv_iconst (v := 0) hx hb dX0_balance_20 (by decide) ?_
      refine W.widen (k := 1) (n := 6) (by omega) (by omega) ?_
      exact W.iret (v := 0) hx hb hr (fun t ht hW => ⟨ovI (by unfold k_balance; rw [if_neg (by rw [hc0]; decide), if_neg (by rw [hc1]; decide)]), by rw [ht]; exact (RR_CO (by unfold k_balance; rw [if_neg (by rw [hc0]; decide), if_neg (by rw [hc1]; decide)] <;> rw [nI_cl hk, nI_cl hwk]) (by unfold k_balance; rw [if_neg (by rw [hc0]; decide), if_neg (by rw [hc1]; decide)] <;> rw [nI_cl hk, nI_cl hwk]) ⟨_, hR⟩)⟩) hL dX0_balance_21
def k_promise (C : CS) (o : Int64) (i n w : Int32) : Int32 × CS × Int64 := if (in12 i && in12 w) = false then (1, C, o) else if (inR n 1 1000) = false then (2, C, o) else if (decide (kT C = 0)) = false then (3, C, o) else (0, C, (c_pm C i.toNatClampNeg n (12 - w.toNatClampNeg) w.toNatClampNeg).toInt64)
set_option maxHeartbeats 4000000 in
set_option maxRecDepth 100000 in
theorem ct_X0_promise {l : Launch} {s0 : State} {D : va_G} {DA : Nat → ClassId} {z0 : Nat} {C : CS} {M : MS} {o : Int64} {H : Heap} (hE : G0 l s0 D DA z0) (hR : RR s0 D DA z0 C M o H) (i n w : Int32) : Met l yX0_promise (wsW_ yX0_promise cX0_promise 6 (some .int) [(0, 12, 15, 13), (0, 12, 19, 15), (0, 12, 23, 28)]) ({ frames := 9, cells := 1, slots := 6, locals := 149 }) (cP s0 [.ref s0.heap.size, .int i, .int n, .int w, .ref (s0.heap.size + 128)] H) (cQv (.int (k_promise C o i n w).1) (fun H1 => RR s0 D DA z0 (k_promise C o i n w).2.1 M (k_promise C o i n w).2.2 H1)) 1 6 (cF s0) := by
  refine va_MetW (cc := cX0_promise) (maxL := 6) (ret := (some .int)) (hh := [(0, 12, 15, 13), (0, 12, 19, 15), (0, 12, 23, 28)]) (by decide) rfl ?_
  intro p e s m args below meth c s₁ Bd hml hv
  obtain ⟨rfl, rfl, hW0⟩ := hv
  have hx := Bd.exec
  have hb := Bd.bytes
  have hr := Bd.returns
  have hts := atoms_spec (ws := (wsW_ yX0_promise cX0_promise 6 (some .int) [(0, 12, 15, 13), (0, 12, 19, 15), (0, 12, 23, 28)])) Bd.pre
  obtain ⟨m9, meth9, c9, hn9, hm9, hc9, -, -, htab, -⟩ := Cond.codeWith_spec (hts _ List.mem_cons_self)
  cases Bd.named.symm.trans hn9
  cases Bd.method.symm.trans hm9
  cases (Stand.of_body Bd).code.symm.trans hc9
  have hts : ∀ w ∈ lw_all, w.before _ s = true := fun w h => hts w (List.mem_cons_of_mem _ h)
  have hown : s.vm.findClass RX0 = some m.cls := findClass_of_methodNamed Bd.named
  have hlocks := Bd.notSynchronized
  have hK := va_K.moved hW0.alike hE.K
  have hL : gx_L s0.heap.size ([] : List Loc) := gx_L0
  obtain ⟨Y, hR⟩ := hR
  have hl := lv_entry ([.ref s0.heap.size, .int i, .int n, .int w, .ref (s0.heap.size + 128)]) (n := 6) (Nat.le_of_ble_eq_true rfl)
  rw [lg_entry_eq]
  generalize (lg_sl ([.ref s0.heap.size, .int i, .int n, .int w, .ref (s0.heap.size + 128)]) ++ List.replicate (6 - (lg_sl ([.ref s0.heap.size, .int i, .int n, .int w, .ref (s0.heap.size + 128)])).length) Slot.unset).toArray = ls at hl ⊢
  have hl : lv_has ls 6 [(0, .ref s0.heap.size), (1, .int i), (2, .int n), (3, .int w), (4, .ref (s0.heap.size + 128))] := hl
  cases hc0 : in12 i && in12 w with
  | false =>
    refine lv_aload hx hb dX0_promise_0 (lv_at hl 4 rfl) ?_
    refine lv_iconst (v := 0) hx hb dX0_promise_2 (by decide) ?_
    refine lv_aload_n hx hb dX0_promise_3 rfl (lv_at hl 0 rfl) ?_
    refine lv_iload_n hx hb dX0_promise_4 rfl (lv_at hl 1 rfl) ?_
    refine lv_iload_n hx hb dX0_promise_5 rfl (lv_at hl 2 rfl) ?_
    refine lv_iload_n hx hb dX0_promise_6 rfl (lv_at hl 3 rfl) ?_
    refine gt_hand (pre := []) (h := (0, 12, 15, 13)) (post := [(0, 12, 19, 15), (0, 12, 23, 28)]) (va_runTV (b := s0.heap.size) (As := [.int i, .int n, .int w]) (rest := [.int 0, .ref (s0.heap.size + 128)]) ⟨hx, hb, hml, hown, hts⟩ (ct_X1_promise_I hE ⟨_, hR⟩ i n w hc0) (cwV 3 hts (lw_V q840 q841 q842 q47 q843) rfl rfl rfl (by decide +kernel) ⟨Nat.le_of_ble_eq_true rfl, Nat.le_of_ble_eq_true rfl⟩) (cc_pV hW0 (cc_re hK hR.np (show gcl[0]? = _ from rfl))) rfl rfl hl.1 rfl (lv_room (Nat.le_of_ble_eq_true rfl)) dX0_promise_7 ⟨Nat.le_of_ble_eq_true rfl, Nat.le_of_ble_eq_true rfl⟩) hL hW0 hown htab rfl ⟨by decide, by decide, by decide⟩ (hts _ q530) (fun y hy => by cases hy) (fun H locs xx hP1 hL => ?_)
    obtain ⟨Y, hR⟩ := hP1
    refine lv_astore (lv' := [(5, .ref xx), (0, .ref s0.heap.size), (1, .int i), (2, .int n), (3, .int w), (4, .ref (s0.heap.size + 128))]) hx hb dX0_promise_15 hl (by decide) rfl (fun ls hl => ?_)
    refine lv_iconst (v := 1) hx hb dX0_promise_17 (by decide) ?_
    refine W.widen (k := 1) (n := 6) (by omega) (by omega) ?_
    exact W.iret (v := 1) hx hb hr (fun t ht hW => ⟨ovI (by unfold k_promise; rw [if_pos hc0]), by rw [ht]; exact (RR_CO (by unfold k_promise; rw [if_pos hc0]) (by unfold k_promise; rw [if_pos hc0]) ⟨_, hR⟩)⟩) hL dX0_promise_18
  | true =>
    obtain ⟨k, hk, rfl⟩ := in12_t (b21 hc0)
    obtain ⟨wk, hwk, rfl⟩ := in12_t (b22 hc0)
    cases hc1 : inR n 1 1000 with
    | false =>
      refine lv_aload hx hb dX0_promise_0 (lv_at hl 4 rfl) ?_
      refine lv_iconst (v := 0) hx hb dX0_promise_2 (by decide) ?_
      refine lv_aload_n hx hb dX0_promise_3 rfl (lv_at hl 0 rfl) ?_
      refine lv_iload_n hx hb dX0_promise_4 rfl (lv_at hl 1 rfl) ?_
      refine lv_iload_n hx hb dX0_promise_5 rfl (lv_at hl 2 rfl) ?_
      refine lv_iload_n hx hb dX0_promise_6 rfl (lv_at hl 3 rfl) ?_
      refine gt_hand (pre := [(0, 12, 15, 13)]) (h := (0, 12, 19, 15)) (post := [(0, 12, 23, 28)]) (va_runTV (b := s0.heap.size) (As := [.int (nI k), .int n, .int (nI wk)]) (rest := [.int 0, .ref (s0.heap.size + 128)]) ⟨hx, hb, hml, hown, hts⟩ (ct_X1_promise_A hE ⟨_, hR⟩ hk hwk n hc1) (cwV 3 hts (lw_V q840 q841 q842 q47 q843) rfl rfl rfl (by decide +kernel) ⟨Nat.le_of_ble_eq_true rfl, Nat.le_of_ble_eq_true rfl⟩) (cc_pV hW0 (cc_re hK hR.np (show gcl[0]? = _ from rfl))) rfl rfl hl.1 rfl (lv_room (Nat.le_of_ble_eq_true rfl)) dX0_promise_7 ⟨Nat.le_of_ble_eq_true rfl, Nat.le_of_ble_eq_true rfl⟩) hL hW0 hown htab rfl ⟨by decide, by decide, by decide⟩ (hts _ q531) (List.forall_mem_cons.mpr ⟨⟨⟨by decide, by decide, by decide⟩, _, hts _ q530, hE.nc_AI⟩, (fun y hy => by cases hy)⟩) (fun H locs xx hP1 hL => ?_)
      obtain ⟨Y, hR⟩ := hP1
      refine lv_astore (lv' := [(5, .ref xx), (0, .ref s0.heap.size), (1, .int (nI k)), (2, .int n), (3, .int (nI wk)), (4, .ref (s0.heap.size + 128))]) hx hb dX0_promise_19 hl (by decide) rfl (fun ls hl => ?_)
      refine lv_iconst (v := 2) hx hb dX0_promise_21 (by decide) ?_
      refine W.widen (k := 1) (n := 6) (by omega) (by omega) ?_
      exact W.iret (v := 2) hx hb hr (fun t ht hW => ⟨ovI (by unfold k_promise; rw [if_neg (by rw [hc0]; decide), if_pos hc1]), by rw [ht]; exact (RR_CO (by unfold k_promise; rw [if_neg (by rw [hc0]; decide), if_pos hc1]) (by unfold k_promise; rw [if_neg (by rw [hc0]; decide), if_pos hc1]) ⟨_, hR⟩)⟩) hL dX0_promise_22
    | true =>
      cases hc2 : decide (kT C = 0) with
      | false =>
        refine lv_aload hx hb dX0_promise_0 (lv_at hl 4 rfl) ?_
        refine lv_iconst (v := 0) hx hb dX0_promise_2 (by decide) ?_
        refine lv_aload_n hx hb dX0_promise_3 rfl (lv_at hl 0 rfl) ?_
        refine lv_iload_n hx hb dX0_promise_4 rfl (lv_at hl 1 rfl) ?_
        refine lv_iload_n hx hb dX0_promise_5 rfl (lv_at hl 2 rfl) ?_
        refine lv_iload_n hx hb dX0_promise_6 rfl (lv_at hl 3 rfl) ?_
        refine gt_hand (pre := [(0, 12, 15, 13), (0, 12, 19, 15)]) (h := (0, 12, 23, 28)) (post := []) (va_runTV (b := s0.heap.size) (As := [.int (nI k), .int n, .int (nI wk)]) (rest := [.int 0, .ref (s0.heap.size + 128)]) ⟨hx, hb, hml, hown, hts⟩ (ct_X1_promise_S hE ⟨_, hR⟩ hk hwk n hc1 (of_decide_eq_false hc2)) (cwV 3 hts (lw_V q840 q841 q842 q47 q843) rfl rfl rfl (by decide +kernel) ⟨Nat.le_of_ble_eq_true rfl, Nat.le_of_ble_eq_true rfl⟩) (cc_pV hW0 (cc_re hK hR.np (show gcl[0]? = _ from rfl))) rfl rfl hl.1 rfl (lv_room (Nat.le_of_ble_eq_true rfl)) dX0_promise_7 ⟨Nat.le_of_ble_eq_true rfl, Nat.le_of_ble_eq_true rfl⟩) hL hW0 hown htab rfl ⟨by decide, by decide, by decide⟩ (hts _ q649) (List.forall_mem_cons.mpr ⟨⟨⟨by decide, by decide, by decide⟩, _, hts _ q530, hE.nc_SI⟩, (List.forall_mem_cons.mpr ⟨⟨⟨by decide, by decide, by decide⟩, _, hts _ q531, hE.nc_SA⟩, (fun y hy => by cases hy)⟩)⟩) (fun H locs xx hP1 hL => ?_)
        obtain ⟨Y, hR⟩ := hP1
        refine lv_astore (lv' := [(5, .ref xx), (0, .ref s0.heap.size), (1, .int (nI k)), (2, .int n), (3, .int (nI wk)), (4, .ref (s0.heap.size + 128))]) hx hb dX0_promise_23 hl (by decide) rfl (fun ls hl => ?_)
        refine lv_iconst (v := 3) hx hb dX0_promise_25 (by decide) ?_
        refine W.widen (k := 1) (n := 6) (by omega) (by omega) ?_
        exact W.iret (v := 3) hx hb hr (fun t ht hW => ⟨ovI (by unfold k_promise; rw [if_neg (by rw [hc0]; decide), if_neg (by rw [hc1]; decide), if_pos hc2]), by rw [ht]; exact (RR_CO (by unfold k_promise; rw [if_neg (by rw [hc0]; decide), if_neg (by rw [hc1]; decide), if_pos hc2]) (by unfold k_promise; rw [if_neg (by rw [hc0]; decide), if_neg (by rw [hc1]; decide), if_pos hc2]) ⟨_, hR⟩)⟩) hL dX0_promise_26
      | true =>
        refine lv_aload hx hb dX0_promise_0 (lv_at hl 4 rfl) ?_
        refine lv_iconst (v := 0) hx hb dX0_promise_2 (by decide) ?_
        refine lv_aload_n hx hb dX0_promise_3 rfl (lv_at hl 0 rfl) ?_
        refine lv_iload_n hx hb dX0_promise_4 rfl (lv_at hl 1 rfl) ?_
        refine lv_iload_n hx hb dX0_promise_5 rfl (lv_at hl 2 rfl) ?_
        refine lv_iload_n hx hb dX0_promise_6 rfl (lv_at hl 3 rfl) ?_
        refine cc_v (va_runV (b := s0.heap.size) (As := [.int (nI k), .int n, .int (nI wk)]) (rest := [.int 0, .ref (s0.heap.size + 128)]) ⟨hx, hb, hml, hown, hts⟩ (ct_X1_promise hE hR hk hwk n hc1 (of_decide_eq_true hc2)) (cwV 3 hts (lw_V q840 q841 q842 q47 q843) rfl rfl rfl (by decide +kernel) ⟨Nat.le_of_ble_eq_true rfl, Nat.le_of_ble_eq_true rfl⟩) (cc_pV hW0 (cc_re hK hR.np (show gcl[0]? = _ from rfl))) rfl rfl hl.1 rfl (lv_room (Nat.le_of_ble_eq_true rfl)) dX0_promise_7 ⟨Nat.le_of_ble_eq_true rfl, Nat.le_of_ble_eq_true rfl⟩) hL (fun H locs hP1 hL => ?_)
        subst hP1
        refine lv_i2l (v := (c_pm C k n (12 - wk) wk).toInt64) hx hb dX0_promise_10 rfl ?_
        refine gx_last (n := 1) hx hb hK 0 hR.out rfl 0 ((by decide)) (by omega) (by decide) hL (by (try simp only [aI, aA, aT, aB, aL, mad]); omega) dX0_promise_11 (fun H locs hU hA hL => ?_)
        have hR := GRb.pO1 hR hU hA
        refine lv_goto (tgt := 27) hx hb dX0_promise_12 (by decide) ?_
        refine lv_iconst (v := 0) hx hb dX0_promise_27 (by decide) ?_
        refine W.widen (k := 1) (n := 6) (by omega) (by omega) ?_
        exact W.iret (v := 0) hx hb hr (fun t ht hW => ⟨ovI (by unfold k_promise; rw [if_neg (by rw [hc0]; decide), if_neg (by rw [hc1]; decide), if_neg (by rw [hc2]; decide)]), by rw [ht]; exact (RR_CO (by unfold k_promise; rw [if_neg (by rw [hc0]; decide), if_neg (by rw [hc1]; decide), if_neg (by rw [hc2]; decide)] <;> rw [nI_cl hk, nI_cl hwk]) (by unfold k_promise; rw [if_neg (by rw [hc0]; decide), if_neg (by rw [hc1]; decide), if_neg (by rw [hc2]; decide)] <;> rw [nI_cl hk, nI_cl hwk]) ⟨_, hR⟩)⟩) hL dX0_promise_28
def k_reserve (C : CS) (o : Int64) (i n w : Int32) : Int32 × CS × Int64 := if (in12 i && in12 w) = false then (1, C, o) else if (inR n 1 1000) = false then (2, C, o) else if (decide (kT C = 0)) = false then (3, C, o) else if (decide (kN C 3 < 24)) = false then (3, C, o) else (0, bif c_tr C i.toNatClampNeg n w.toNatClampNeg 12 then cAddE C 3 i w n else C, (bif c_tr C i.toNatClampNeg n w.toNatClampNeg 12 then nI (kN C 3) else -1).toInt64)
set_option maxHeartbeats 4000000 in
set_option maxRecDepth 100000 in
theorem ct_X0_reserve {l : Launch} {s0 : State} {D : va_G} {DA : Nat → ClassId} {z0 : Nat} {C : CS} {M : MS} {o : Int64} {H : Heap} (hE : G0 l s0 D DA z0) (hR : RR s0 D DA z0 C M o H) (i n w : Int32) : Met l yX0_reserve (wsW_ yX0_reserve cX0_reserve 6 (some .int) [(0, 12, 15, 13), (0, 12, 19, 15), (0, 12, 23, 28)]) ({ frames := 9, cells := 2, slots := 39, locals := 216 }) (cP s0 [.ref s0.heap.size, .int i, .int n, .int w, .ref (s0.heap.size + 128)] H) (cQv (.int (k_reserve C o i n w).1) (fun H1 => RR s0 D DA z0 (k_reserve C o i n w).2.1 M (k_reserve C o i n w).2.2 H1)) 2 39 (cF s0) := by
  refine va_MetW (cc := cX0_reserve) (maxL := 6) (ret := (some .int)) (hh := [(0, 12, 15, 13), (0, 12, 19, 15), (0, 12, 23, 28)]) (by decide) rfl ?_
  intro p e s m args below meth c s₁ Bd hml hv
  obtain ⟨rfl, rfl, hW0⟩ := hv
  have hx := Bd.exec
  have hb := Bd.bytes
  have hr := Bd.returns
  have hts := atoms_spec (ws := (wsW_ yX0_reserve cX0_reserve 6 (some .int) [(0, 12, 15, 13), (0, 12, 19, 15), (0, 12, 23, 28)])) Bd.pre
  obtain ⟨m9, meth9, c9, hn9, hm9, hc9, -, -, htab, -⟩ := Cond.codeWith_spec (hts _ List.mem_cons_self)
  cases Bd.named.symm.trans hn9
  cases Bd.method.symm.trans hm9
  cases (Stand.of_body Bd).code.symm.trans hc9
  have hts : ∀ w ∈ lw_all, w.before _ s = true := fun w h => hts w (List.mem_cons_of_mem _ h)
  have hown : s.vm.findClass RX0 = some m.cls := findClass_of_methodNamed Bd.named
  have hlocks := Bd.notSynchronized
  have hK := va_K.moved hW0.alike hE.K
  have hL : gx_L s0.heap.size ([] : List Loc) := gx_L0
  obtain ⟨Y, hR⟩ := hR
  have hl := lv_entry ([.ref s0.heap.size, .int i, .int n, .int w, .ref (s0.heap.size + 128)]) (n := 6) (Nat.le_of_ble_eq_true rfl)
  rw [lg_entry_eq]
  generalize (lg_sl ([.ref s0.heap.size, .int i, .int n, .int w, .ref (s0.heap.size + 128)]) ++ List.replicate (6 - (lg_sl ([.ref s0.heap.size, .int i, .int n, .int w, .ref (s0.heap.size + 128)])).length) Slot.unset).toArray = ls at hl ⊢
  have hl : lv_has ls 6 [(0, .ref s0.heap.size), (1, .int i), (2, .int n), (3, .int w), (4, .ref (s0.heap.size + 128))] := hl
  cases hc0 : in12 i && in12 w with
  | false =>
    refine lv_aload hx hb dX0_reserve_0 (lv_at hl 4 rfl) ?_
    refine lv_iconst (v := 0) hx hb dX0_reserve_2 (by decide) ?_
    refine lv_aload_n hx hb dX0_reserve_3 rfl (lv_at hl 0 rfl) ?_
    refine lv_iload_n hx hb dX0_reserve_4 rfl (lv_at hl 1 rfl) ?_
    refine lv_iload_n hx hb dX0_reserve_5 rfl (lv_at hl 2 rfl) ?_
    refine lv_iload_n hx hb dX0_reserve_6 rfl (lv_at hl 3 rfl) ?_
    refine gt_hand (pre := []) (h := (0, 12, 15, 13)) (post := [(0, 12, 19, 15), (0, 12, 23, 28)]) (va_runTV (b := s0.heap.size) (As := [.int i, .int n, .int w]) (rest := [.int 0, .ref (s0.heap.size + 128)]) ⟨hx, hb, hml, hown, hts⟩ (ct_X1_reserve_I hE ⟨_, hR⟩ i n w hc0) (cwV 3 hts (lw_V q851 q852 q853 q47 q854) rfl rfl rfl (by decide +kernel) ⟨Nat.le_of_ble_eq_true rfl, Nat.le_of_ble_eq_true rfl⟩) (cc_pV hW0 (cc_re hK hR.np (show gcl[0]? = _ from rfl))) rfl rfl hl.1 rfl (lv_room (Nat.le_of_ble_eq_true rfl)) dX0_reserve_7 ⟨Nat.le_of_ble_eq_true rfl, Nat.le_of_ble_eq_true rfl⟩) hL hW0 hown htab rfl ⟨by decide, by decide, by decide⟩ (hts _ q530) (fun y hy => by cases hy) (fun H locs xx hP1 hL => ?_)
    obtain ⟨Y, hR⟩ := hP1
    refine lv_astore (lv' := [(5, .ref xx), (0, .ref s0.heap.size), (1, .int i), (2, .int n), (3, .int w), (4, .ref (s0.heap.size + 128))]) hx hb dX0_reserve_15 hl (by decide) rfl (fun ls hl => ?_)
    refine lv_iconst (v := 1) hx hb dX0_reserve_17 (by decide) ?_
    refine W.widen (k := 2) (n := 39) (by omega) (by omega) ?_
    exact W.iret (v := 1) hx hb hr (fun t ht hW => ⟨ovI (by unfold k_reserve; rw [if_pos hc0]), by rw [ht]; exact (RR_CO (by unfold k_reserve; rw [if_pos hc0]) (by unfold k_reserve; rw [if_pos hc0]) ⟨_, hR⟩)⟩) hL dX0_reserve_18
  | true =>
    obtain ⟨k, hk, rfl⟩ := in12_t (b21 hc0)
    obtain ⟨wk, hwk, rfl⟩ := in12_t (b22 hc0)
    cases hc1 : inR n 1 1000 with
    | false =>
      refine lv_aload hx hb dX0_reserve_0 (lv_at hl 4 rfl) ?_
      refine lv_iconst (v := 0) hx hb dX0_reserve_2 (by decide) ?_
      refine lv_aload_n hx hb dX0_reserve_3 rfl (lv_at hl 0 rfl) ?_
      refine lv_iload_n hx hb dX0_reserve_4 rfl (lv_at hl 1 rfl) ?_
      refine lv_iload_n hx hb dX0_reserve_5 rfl (lv_at hl 2 rfl) ?_
      refine lv_iload_n hx hb dX0_reserve_6 rfl (lv_at hl 3 rfl) ?_
      refine gt_hand (pre := [(0, 12, 15, 13)]) (h := (0, 12, 19, 15)) (post := [(0, 12, 23, 28)]) (va_runTV (b := s0.heap.size) (As := [.int (nI k), .int n, .int (nI wk)]) (rest := [.int 0, .ref (s0.heap.size + 128)]) ⟨hx, hb, hml, hown, hts⟩ (ct_X1_reserve_A hE ⟨_, hR⟩ hk hwk n hc1) (cwV 3 hts (lw_V q851 q852 q853 q47 q854) rfl rfl rfl (by decide +kernel) ⟨Nat.le_of_ble_eq_true rfl, Nat.le_of_ble_eq_true rfl⟩) (cc_pV hW0 (cc_re hK hR.np (show gcl[0]? = _ from rfl))) rfl rfl hl.1 rfl (lv_room (Nat.le_of_ble_eq_true rfl)) dX0_reserve_7 ⟨Nat.le_of_ble_eq_true rfl, Nat.le_of_ble_eq_true rfl⟩) hL hW0 hown htab rfl ⟨by decide, by decide, by decide⟩ (hts _ q531) (List.forall_mem_cons.mpr ⟨⟨⟨by decide, by decide, by decide⟩, _, hts _ q530, hE.nc_AI⟩, (fun y hy => by cases hy)⟩) (fun H locs xx hP1 hL => ?_)
      obtain ⟨Y, hR⟩ := hP1
      refine lv_astore (lv' := [(5, .ref xx), (0, .ref s0.heap.size), (1, .int (nI k)), (2, .int n), (3, .int (nI wk)), (4, .ref (s0.heap.size + 128))]) hx hb dX0_reserve_19 hl (by decide) rfl (fun ls hl => ?_)
      refine lv_iconst (v := 2) hx hb dX0_reserve_21 (by decide) ?_
      refine W.widen (k := 2) (n := 39) (by omega) (by omega) ?_
      exact W.iret (v := 2) hx hb hr (fun t ht hW => ⟨ovI (by unfold k_reserve; rw [if_neg (by rw [hc0]; decide), if_pos hc1]), by rw [ht]; exact (RR_CO (by unfold k_reserve; rw [if_neg (by rw [hc0]; decide), if_pos hc1]) (by unfold k_reserve; rw [if_neg (by rw [hc0]; decide), if_pos hc1]) ⟨_, hR⟩)⟩) hL dX0_reserve_22
    | true =>
      cases hc2 : decide (kT C = 0) with
      | false =>
        refine lv_aload hx hb dX0_reserve_0 (lv_at hl 4 rfl) ?_
        refine lv_iconst (v := 0) hx hb dX0_reserve_2 (by decide) ?_
        refine lv_aload_n hx hb dX0_reserve_3 rfl (lv_at hl 0 rfl) ?_
        refine lv_iload_n hx hb dX0_reserve_4 rfl (lv_at hl 1 rfl) ?_
        refine lv_iload_n hx hb dX0_reserve_5 rfl (lv_at hl 2 rfl) ?_
        refine lv_iload_n hx hb dX0_reserve_6 rfl (lv_at hl 3 rfl) ?_
        refine gt_hand (pre := [(0, 12, 15, 13), (0, 12, 19, 15)]) (h := (0, 12, 23, 28)) (post := []) (va_runTV (b := s0.heap.size) (As := [.int (nI k), .int n, .int (nI wk)]) (rest := [.int 0, .ref (s0.heap.size + 128)]) ⟨hx, hb, hml, hown, hts⟩ (ct_X1_reserve_S hE ⟨_, hR⟩ hk hwk n hc1 (of_decide_eq_false hc2)) (cwV 3 hts (lw_V q851 q852 q853 q47 q854) rfl rfl rfl (by decide +kernel) ⟨Nat.le_of_ble_eq_true rfl, Nat.le_of_ble_eq_true rfl⟩) (cc_pV hW0 (cc_re hK hR.np (show gcl[0]? = _ from rfl))) rfl rfl hl.1 rfl (lv_room (Nat.le_of_ble_eq_true rfl)) dX0_reserve_7 ⟨Nat.le_of_ble_eq_true rfl, Nat.le_of_ble_eq_true rfl⟩) hL hW0 hown htab rfl ⟨by decide, by decide, by decide⟩ (hts _ q649) (List.forall_mem_cons.mpr ⟨⟨⟨by decide, by decide, by decide⟩, _, hts _ q530, hE.nc_SI⟩, (List.forall_mem_cons.mpr ⟨⟨⟨by decide, by decide, by decide⟩, _, hts _ q531, hE.nc_SA⟩, (fun y hy => by cases hy)⟩)⟩) (fun H locs xx hP1 hL => ?_)
        obtain ⟨Y, hR⟩ := hP1
        refine lv_astore (lv' := [(5, .ref xx), (0, .ref s0.heap.size), (1, .int (nI k)), (2, .int n), (3, .int (nI wk)), (4, .ref (s0.heap.size + 128))]) hx hb dX0_reserve_23 hl (by decide) rfl (fun ls hl => ?_)
        refine lv_iconst (v := 3) hx hb dX0_reserve_25 (by decide) ?_
        refine W.widen (k := 2) (n := 39) (by omega) (by omega) ?_
        exact W.iret (v := 3) hx hb hr (fun t ht hW => ⟨ovI (by unfold k_reserve; rw [if_neg (by rw [hc0]; decide), if_neg (by rw [hc1]; decide), if_pos hc2]), by rw [ht]; exact (RR_CO (by unfold k_reserve; rw [if_neg (by rw [hc0]; decide), if_neg (by rw [hc1]; decide), if_pos hc2]) (by unfold k_reserve; rw [if_neg (by rw [hc0]; decide), if_neg (by rw [hc1]; decide), if_pos hc2]) ⟨_, hR⟩)⟩) hL dX0_reserve_26
      | true =>
        cases hc3 : decide (kN C 3 < 24) with
        | false =>
          refine lv_aload hx hb dX0_reserve_0 (lv_at hl 4 rfl) ?_
          refine lv_iconst (v := 0) hx hb dX0_reserve_2 (by decide) ?_
          refine lv_aload_n hx hb dX0_reserve_3 rfl (lv_at hl 0 rfl) ?_
          refine lv_iload_n hx hb dX0_reserve_4 rfl (lv_at hl 1 rfl) ?_
          refine lv_iload_n hx hb dX0_reserve_5 rfl (lv_at hl 2 rfl) ?_
          refine lv_iload_n hx hb dX0_reserve_6 rfl (lv_at hl 3 rfl) ?_
          refine gt_hand (pre := [(0, 12, 15, 13), (0, 12, 19, 15)]) (h := (0, 12, 23, 28)) (post := []) (va_runTV (b := s0.heap.size) (As := [.int (nI k), .int n, .int (nI wk)]) (rest := [.int 0, .ref (s0.heap.size + 128)]) ⟨hx, hb, hml, hown, hts⟩ (ct_X1_reserve_F hE ⟨_, hR⟩ hk hwk n hc1 (of_decide_eq_true hc2) (by have := hR.lay.2.2.2.2.2.2.1; have h9 := of_decide_eq_false hc3; omega)) (cwV 3 hts (lw_V q851 q852 q853 q47 q854) rfl rfl rfl (by decide +kernel) ⟨Nat.le_of_ble_eq_true rfl, Nat.le_of_ble_eq_true rfl⟩) (cc_pV hW0 (cc_re hK hR.np (show gcl[0]? = _ from rfl))) rfl rfl hl.1 rfl (lv_room (Nat.le_of_ble_eq_true rfl)) dX0_reserve_7 ⟨Nat.le_of_ble_eq_true rfl, Nat.le_of_ble_eq_true rfl⟩) hL hW0 hown htab rfl ⟨by decide, by decide, by decide⟩ (hts _ q649) (List.forall_mem_cons.mpr ⟨⟨⟨by decide, by decide, by decide⟩, _, hts _ q530, hE.nc_SI⟩, (List.forall_mem_cons.mpr ⟨⟨⟨by decide, by decide, by decide⟩, _, hts _ q531, hE.nc_SA⟩, (fun y hy => by cases hy)⟩)⟩) (fun H locs xx hP1 hL => ?_)
          obtain ⟨Y, hR⟩ := hP1
          refine lv_astore (lv' := [(5, .ref xx), (0, .ref s0.heap.size), (1, .int (nI k)), (2, .int n), (3, .int (nI wk)), (4, .ref (s0.heap.size + 128))]) hx hb dX0_reserve_23 hl (by decide) rfl (fun ls hl => ?_)
          refine lv_iconst (v := 3) hx hb dX0_reserve_25 (by decide) ?_
          refine W.widen (k := 2) (n := 39) (by omega) (by omega) ?_
          exact W.iret (v := 3) hx hb hr (fun t ht hW => ⟨ovI (by unfold k_reserve; rw [if_neg (by rw [hc0]; decide), if_neg (by rw [hc1]; decide), if_neg (by rw [hc2]; decide), if_pos hc3]), by rw [ht]; exact (RR_CO (by unfold k_reserve; rw [if_neg (by rw [hc0]; decide), if_neg (by rw [hc1]; decide), if_neg (by rw [hc2]; decide), if_pos hc3]) (by unfold k_reserve; rw [if_neg (by rw [hc0]; decide), if_neg (by rw [hc1]; decide), if_neg (by rw [hc2]; decide), if_pos hc3]) ⟨_, hR⟩)⟩) hL dX0_reserve_26
        | true =>
          refine lv_aload hx hb dX0_reserve_0 (lv_at hl 4 rfl) ?_
          refine lv_iconst (v := 0) hx hb dX0_reserve_2 (by decide) ?_
          refine lv_aload_n hx hb dX0_reserve_3 rfl (lv_at hl 0 rfl) ?_
          refine lv_iload_n hx hb dX0_reserve_4 rfl (lv_at hl 1 rfl) ?_
          refine lv_iload_n hx hb dX0_reserve_5 rfl (lv_at hl 2 rfl) ?_
          refine lv_iload_n hx hb dX0_reserve_6 rfl (lv_at hl 3 rfl) ?_
          refine cc_v (va_runV (b := s0.heap.size) (As := [.int (nI k), .int n, .int (nI wk)]) (rest := [.int 0, .ref (s0.heap.size + 128)]) ⟨hx, hb, hml, hown, hts⟩ (ct_X1_reserve hE ⟨_, hR⟩ hk hwk n hc1 (of_decide_eq_true hc2) (of_decide_eq_true hc3)) (cwV 3 hts (lw_V q851 q852 q853 q47 q854) rfl rfl rfl (by decide +kernel) ⟨Nat.le_of_ble_eq_true rfl, Nat.le_of_ble_eq_true rfl⟩) (cc_pV hW0 (cc_re hK hR.np (show gcl[0]? = _ from rfl))) rfl rfl hl.1 rfl (lv_room (Nat.le_of_ble_eq_true rfl)) dX0_reserve_7 ⟨Nat.le_of_ble_eq_true rfl, Nat.le_of_ble_eq_true rfl⟩) hL (fun H locs hP1 hL => ?_)
          obtain ⟨Y, hR⟩ := hP1
          refine lv_i2l (v := (bif c_tr C k n wk 12 then nI (kN C 3) else -1).toInt64) hx hb dX0_reserve_10 rfl ?_
          refine gx_last (n := 1) hx hb hK 0 hR.out rfl 0 ((by decide)) (by omega) (by decide) hL (by (try simp only [aI, aA, aT, aB, aL, mad]); omega) dX0_reserve_11 (fun H locs hU hA hL => ?_)
          have hR := GRb.pO1 hR hU hA
          refine lv_goto (tgt := 27) hx hb dX0_reserve_12 (by decide) ?_
          refine lv_iconst (v := 0) hx hb dX0_reserve_27 (by decide) ?_
          refine W.widen (k := 2) (n := 39) (by omega) (by omega) ?_
          exact W.iret (v := 0) hx hb hr (fun t ht hW => ⟨ovI (by unfold k_reserve; rw [if_neg (by rw [hc0]; decide), if_neg (by rw [hc1]; decide), if_neg (by rw [hc2]; decide), if_neg (by rw [hc3]; decide)]), by rw [ht]; exact (RR_CO (by unfold k_reserve; rw [if_neg (by rw [hc0]; decide), if_neg (by rw [hc1]; decide), if_neg (by rw [hc2]; decide), if_neg (by rw [hc3]; decide)] <;> rw [nI_cl hk, nI_cl hwk]) (by unfold k_reserve; rw [if_neg (by rw [hc0]; decide), if_neg (by rw [hc1]; decide), if_neg (by rw [hc2]; decide), if_neg (by rw [hc3]; decide)] <;> rw [nI_cl hk, nI_cl hwk]) ⟨_, hR⟩)⟩) hL dX0_reserve_28
def k_load (C : CS) (o : Int64) (ce w : Int32) : Int32 × CS × Int64 := if (inR ce 0 2 && in12 w) = false then (1, C, o) else if (decide (kT C = 0)) = false then (2, C, o) else (0, C, c_ld C ce w.toNatClampNeg 12)
set_option maxHeartbeats 4000000 in
set_option maxRecDepth 100000 in
theorem ct_X0_load {l : Launch} {s0 : State} {D : va_G} {DA : Nat → ClassId} {z0 : Nat} {C : CS} {M : MS} {o : Int64} {H : Heap} (hE : G0 l s0 D DA z0) (hR : RR s0 D DA z0 C M o H) (ce w : Int32) (hC : CC C) : Met l yX0_load (wsW_ yX0_load cX0_load 5 (some .int) [(0, 9, 12, 13), (0, 9, 16, 28)]) ({ frames := 9, cells := 1, slots := 6, locals := 151 }) (cP s0 [.ref s0.heap.size, .int ce, .int w, .ref (s0.heap.size + 128)] H) (cQv (.int (k_load C o ce w).1) (fun H1 => RR s0 D DA z0 (k_load C o ce w).2.1 M (k_load C o ce w).2.2 H1)) 1 6 (cF s0) := by
  refine va_MetW (cc := cX0_load) (maxL := 5) (ret := (some .int)) (hh := [(0, 9, 12, 13), (0, 9, 16, 28)]) (by decide) rfl ?_
  intro p e s m args below meth c s₁ Bd hml hv
  obtain ⟨rfl, rfl, hW0⟩ := hv
  have hx := Bd.exec
  have hb := Bd.bytes
  have hr := Bd.returns
  have hts := atoms_spec (ws := (wsW_ yX0_load cX0_load 5 (some .int) [(0, 9, 12, 13), (0, 9, 16, 28)])) Bd.pre
  obtain ⟨m9, meth9, c9, hn9, hm9, hc9, -, -, htab, -⟩ := Cond.codeWith_spec (hts _ List.mem_cons_self)
  cases Bd.named.symm.trans hn9
  cases Bd.method.symm.trans hm9
  cases (Stand.of_body Bd).code.symm.trans hc9
  have hts : ∀ w ∈ lw_all, w.before _ s = true := fun w h => hts w (List.mem_cons_of_mem _ h)
  have hown : s.vm.findClass RX0 = some m.cls := findClass_of_methodNamed Bd.named
  have hlocks := Bd.notSynchronized
  have hK := va_K.moved hW0.alike hE.K
  have hL : gx_L s0.heap.size ([] : List Loc) := gx_L0
  obtain ⟨Y, hR⟩ := hR
  have hl := lv_entry ([.ref s0.heap.size, .int ce, .int w, .ref (s0.heap.size + 128)]) (n := 5) (Nat.le_of_ble_eq_true rfl)
  rw [lg_entry_eq]
  generalize (lg_sl ([.ref s0.heap.size, .int ce, .int w, .ref (s0.heap.size + 128)]) ++ List.replicate (5 - (lg_sl ([.ref s0.heap.size, .int ce, .int w, .ref (s0.heap.size + 128)])).length) Slot.unset).toArray = ls at hl ⊢
  have hl : lv_has ls 5 [(0, .ref s0.heap.size), (1, .int ce), (2, .int w), (3, .ref (s0.heap.size + 128))] := hl
  cases hc0 : inR ce 0 2 && in12 w with
  | false =>
    refine lv_aload_n hx hb dX0_load_0 rfl (lv_at hl 3 rfl) ?_
    refine lv_iconst (v := 0) hx hb dX0_load_1 (by decide) ?_
    refine lv_aload_n hx hb dX0_load_2 rfl (lv_at hl 0 rfl) ?_
    refine lv_iload_n hx hb dX0_load_3 rfl (lv_at hl 1 rfl) ?_
    refine lv_iload_n hx hb dX0_load_4 rfl (lv_at hl 2 rfl) ?_
    refine gt_hand (pre := []) (h := (0, 9, 12, 13)) (post := [(0, 9, 16, 28)]) (va_runTV (b := s0.heap.size) (As := [.int ce, .int w]) (rest := [.int 0, .ref (s0.heap.size + 128)]) ⟨hx, hb, hml, hown, hts⟩ (ct_X1_load_I hE ⟨_, hR⟩ ce w hc0) (cwV 2 hts (lw_V q865 q866 q867 q47 q868) rfl rfl rfl (by decide +kernel) ⟨Nat.le_of_ble_eq_true rfl, Nat.le_of_ble_eq_true rfl⟩) (cc_pV hW0 (cc_re hK hR.np (show gcl[0]? = _ from rfl))) rfl rfl hl.1 rfl (lv_room (Nat.le_of_ble_eq_true rfl)) dX0_load_5 ⟨Nat.le_of_ble_eq_true rfl, Nat.le_of_ble_eq_true rfl⟩) hL hW0 hown htab rfl ⟨by decide, by decide, by decide⟩ (hts _ q530) (fun y hy => by cases hy) (fun H locs xx hP1 hL => ?_)
    obtain ⟨Y, hR⟩ := hP1
    refine lv_astore (lv' := [(4, .ref xx), (0, .ref s0.heap.size), (1, .int ce), (2, .int w), (3, .ref (s0.heap.size + 128))]) hx hb dX0_load_12 hl (by decide) rfl (fun ls hl => ?_)
    refine lv_iconst (v := 1) hx hb dX0_load_14 (by decide) ?_
    refine W.widen (k := 1) (n := 6) (by omega) (by omega) ?_
    exact W.iret (v := 1) hx hb hr (fun t ht hW => ⟨ovI (by unfold k_load; rw [if_pos hc0]), by rw [ht]; exact (RR_CO (by unfold k_load; rw [if_pos hc0]) (by unfold k_load; rw [if_pos hc0]) ⟨_, hR⟩)⟩) hL dX0_load_15
  | true =>
    obtain ⟨wk, hwk, rfl⟩ := in12_t (b22 hc0)
    cases hc1 : decide (kT C = 0) with
    | false =>
      refine lv_aload_n hx hb dX0_load_0 rfl (lv_at hl 3 rfl) ?_
      refine lv_iconst (v := 0) hx hb dX0_load_1 (by decide) ?_
      refine lv_aload_n hx hb dX0_load_2 rfl (lv_at hl 0 rfl) ?_
      refine lv_iload_n hx hb dX0_load_3 rfl (lv_at hl 1 rfl) ?_
      refine lv_iload_n hx hb dX0_load_4 rfl (lv_at hl 2 rfl) ?_
      refine gt_hand (pre := [(0, 9, 12, 13)]) (h := (0, 9, 16, 28)) (post := []) (va_runTV (b := s0.heap.size) (As := [.int ce, .int (nI wk)]) (rest := [.int 0, .ref (s0.heap.size + 128)]) ⟨hx, hb, hml, hown, hts⟩ (ct_X1_load_S hE ⟨_, hR⟩ ce (b21 hc0) hwk (of_decide_eq_false hc1)) (cwV 2 hts (lw_V q865 q866 q867 q47 q868) rfl rfl rfl (by decide +kernel) ⟨Nat.le_of_ble_eq_true rfl, Nat.le_of_ble_eq_true rfl⟩) (cc_pV hW0 (cc_re hK hR.np (show gcl[0]? = _ from rfl))) rfl rfl hl.1 rfl (lv_room (Nat.le_of_ble_eq_true rfl)) dX0_load_5 ⟨Nat.le_of_ble_eq_true rfl, Nat.le_of_ble_eq_true rfl⟩) hL hW0 hown htab rfl ⟨by decide, by decide, by decide⟩ (hts _ q649) (List.forall_mem_cons.mpr ⟨⟨⟨by decide, by decide, by decide⟩, _, hts _ q530, hE.nc_SI⟩, (fun y hy => by cases hy)⟩) (fun H locs xx hP1 hL => ?_)
      obtain ⟨Y, hR⟩ := hP1
      refine lv_astore (lv' := [(4, .ref xx), (0, .ref s0.heap.size), (1, .int ce), (2, .int (nI wk)), (3, .ref (s0.heap.size + 128))]) hx hb dX0_load_16 hl (by decide) rfl (fun ls hl => ?_)
      refine lv_iconst (v := 2) hx hb dX0_load_18 (by decide) ?_
      refine W.widen (k := 1) (n := 6) (by omega) (by omega) ?_
      exact W.iret (v := 2) hx hb hr (fun t ht hW => ⟨ovI (by unfold k_load; rw [if_neg (by rw [hc0]; decide), if_pos hc1]), by rw [ht]; exact (RR_CO (by unfold k_load; rw [if_neg (by rw [hc0]; decide), if_pos hc1]) (by unfold k_load; rw [if_neg (by rw [hc0]; decide), if_pos hc1]) ⟨_, hR⟩)⟩) hL dX0_load_19
    | true =>
      refine lv_aload_n hx hb dX0_load_0 rfl (lv_at hl 3 rfl) ?_
      refine lv_iconst (v := 0) hx hb dX0_load_1 (by decide) ?_
      refine lv_aload_n hx hb dX0_load_2 rfl (lv_at hl 0 rfl) ?_
      refine lv_iload_n hx hb dX0_load_3 rfl (lv_at hl 1 rfl) ?_
      refine lv_iload_n hx hb dX0_load_4 rfl (lv_at hl 2 rfl) ?_
      refine cc_v (va_runV (b := s0.heap.size) (As := [.int ce, .int (nI wk)]) (rest := [.int 0, .ref (s0.heap.size + 128)]) ⟨hx, hb, hml, hown, hts⟩ (ct_X1_load hE hR ce (b21 hc0) hwk hC (of_decide_eq_true hc1)) (cwV 2 hts (lw_V q865 q866 q867 q47 q868) rfl rfl rfl (by decide +kernel) ⟨Nat.le_of_ble_eq_true rfl, Nat.le_of_ble_eq_true rfl⟩) (cc_pV hW0 (cc_re hK hR.np (show gcl[0]? = _ from rfl))) rfl rfl hl.1 rfl (lv_room (Nat.le_of_ble_eq_true rfl)) dX0_load_5 ⟨Nat.le_of_ble_eq_true rfl, Nat.le_of_ble_eq_true rfl⟩) hL (fun H locs hP1 hL => ?_)
      subst hP1
      refine gx_last (n := 1) hx hb hK 0 hR.out rfl 0 ((by decide)) (by omega) (by decide) hL (by (try simp only [aI, aA, aT, aB, aL, mad]); omega) dX0_load_8 (fun H locs hU hA hL => ?_)
      have hR := GRb.pO1 hR hU hA
      refine lv_goto (tgt := 20) hx hb dX0_load_9 (by decide) ?_
      refine lv_iconst (v := 0) hx hb dX0_load_20 (by decide) ?_
      refine W.widen (k := 1) (n := 6) (by omega) (by omega) ?_
      exact W.iret (v := 0) hx hb hr (fun t ht hW => ⟨ovI (by unfold k_load; rw [if_neg (by rw [hc0]; decide), if_neg (by rw [hc1]; decide)]), by rw [ht]; exact (RR_CO (by unfold k_load; rw [if_neg (by rw [hc0]; decide), if_neg (by rw [hc1]; decide)] <;> rw [nI_cl hwk]) (by unfold k_load; rw [if_neg (by rw [hc0]; decide), if_neg (by rw [hc1]; decide)] <;> rw [nI_cl hwk]) ⟨_, hR⟩)⟩) hL dX0_load_21
def k_count (C : CS) (o : Int64) (x : Int32) : Int32 × CS × Int64 := if (!(decide (x = 4)) || decide (kT C = 0)) = false then (1, C, o) else (0, C, (c_cnt C x).toInt64)
set_option maxHeartbeats 4000000 in
set_option maxRecDepth 100000 in
theorem ct_X0_count {l : Launch} {s0 : State} {D : va_G} {DA : Nat → ClassId} {z0 : Nat} {C : CS} {M : MS} {o : Int64} {H : Heap} (hE : G0 l s0 D DA z0) (hR : RR s0 D DA z0 C M o H) (x : Int32) : Met l yX0_count (wsW_ yX0_count cX0_count 4 (some .int) [(0, 9, 12, 28)]) ({ frames := 8, cells := 1, slots := 6, locals := 128 }) (cP s0 [.ref s0.heap.size, .int x, .ref (s0.heap.size + 128)] H) (cQv (.int (k_count C o x).1) (fun H1 => RR s0 D DA z0 (k_count C o x).2.1 M (k_count C o x).2.2 H1)) 1 6 (cF s0) := by
  refine va_MetW (cc := cX0_count) (maxL := 4) (ret := (some .int)) (hh := [(0, 9, 12, 28)]) (by decide) rfl ?_
  intro p e s m args below meth c s₁ Bd hml hv
  obtain ⟨rfl, rfl, hW0⟩ := hv
  have hx := Bd.exec
  have hb := Bd.bytes
  have hr := Bd.returns
  have hts := atoms_spec (ws := (wsW_ yX0_count cX0_count 4 (some .int) [(0, 9, 12, 28)])) Bd.pre
  obtain ⟨m9, meth9, c9, hn9, hm9, hc9, -, -, htab, -⟩ := Cond.codeWith_spec (hts _ List.mem_cons_self)
  cases Bd.named.symm.trans hn9
  cases Bd.method.symm.trans hm9
  cases (Stand.of_body Bd).code.symm.trans hc9
  have hts : ∀ w ∈ lw_all, w.before _ s = true := fun w h => hts w (List.mem_cons_of_mem _ h)
  have hown : s.vm.findClass RX0 = some m.cls := findClass_of_methodNamed Bd.named
  have hlocks := Bd.notSynchronized
  have hK := va_K.moved hW0.alike hE.K
  have hL : gx_L s0.heap.size ([] : List Loc) := gx_L0
  obtain ⟨Y, hR⟩ := hR
  have hl := lv_entry ([.ref s0.heap.size, .int x, .ref (s0.heap.size + 128)]) (n := 4) (Nat.le_of_ble_eq_true rfl)
  rw [lg_entry_eq]
  generalize (lg_sl ([.ref s0.heap.size, .int x, .ref (s0.heap.size + 128)]) ++ List.replicate (4 - (lg_sl ([.ref s0.heap.size, .int x, .ref (s0.heap.size + 128)])).length) Slot.unset).toArray = ls at hl ⊢
  have hl : lv_has ls 4 [(0, .ref s0.heap.size), (1, .int x), (2, .ref (s0.heap.size + 128))] := hl
  cases hc0 : !(decide (x = 4)) || decide (kT C = 0) with
  | false =>
    obtain rfl : x = 4 := (nc4 hc0).1
    refine lv_aload_n hx hb dX0_count_0 rfl (lv_at hl 2 rfl) ?_
    refine lv_iconst (v := 0) hx hb dX0_count_1 (by decide) ?_
    refine lv_aload_n hx hb dX0_count_2 rfl (lv_at hl 0 rfl) ?_
    refine lv_iload_n hx hb dX0_count_3 rfl (lv_at hl 1 rfl) ?_
    refine gt_hand (pre := []) (h := (0, 9, 12, 28)) (post := []) (va_runTV (b := s0.heap.size) (As := [.int 4]) (rest := [.int 0, .ref (s0.heap.size + 128)]) ⟨hx, hb, hml, hown, hts⟩ (ct_X1_count_S hE ⟨_, hR⟩ (nc4 hc0).2) (cwV 1 hts (lw_V q872 q873 q874 q47 q875) rfl rfl rfl (by decide +kernel) ⟨Nat.le_of_ble_eq_true rfl, Nat.le_of_ble_eq_true rfl⟩) (cc_pV hW0 (cc_re hK hR.np (show gcl[0]? = _ from rfl))) rfl rfl hl.1 rfl (lv_room (Nat.le_of_ble_eq_true rfl)) dX0_count_4 ⟨Nat.le_of_ble_eq_true rfl, Nat.le_of_ble_eq_true rfl⟩) hL hW0 hown htab rfl ⟨by decide, by decide, by decide⟩ (hts _ q649) (fun y hy => by cases hy) (fun H locs xx hP1 hL => ?_)
    obtain ⟨Y, hR⟩ := hP1
    refine lv_astore_n (lv' := [(3, .ref xx), (0, .ref s0.heap.size), (1, .int 4), (2, .ref (s0.heap.size + 128))]) hx hb dX0_count_12 rfl hl (by decide) rfl (fun ls hl => ?_)
    refine lv_iconst (v := 1) hx hb dX0_count_13 (by decide) ?_
    refine W.widen (k := 1) (n := 6) (by omega) (by omega) ?_
    exact W.iret (v := 1) hx hb hr (fun t ht hW => ⟨ovI (by unfold k_count; rw [if_pos hc0]), by rw [ht]; exact (RR_CO (by unfold k_count; rw [if_pos hc0]) (by unfold k_count; rw [if_pos hc0]) ⟨_, hR⟩)⟩) hL dX0_count_14
  | true =>
    refine lv_aload_n hx hb dX0_count_0 rfl (lv_at hl 2 rfl) ?_
    refine lv_iconst (v := 0) hx hb dX0_count_1 (by decide) ?_
    refine lv_aload_n hx hb dX0_count_2 rfl (lv_at hl 0 rfl) ?_
    refine lv_iload_n hx hb dX0_count_3 rfl (lv_at hl 1 rfl) ?_
    refine cc_v (va_runV (b := s0.heap.size) (As := [.int x]) (rest := [.int 0, .ref (s0.heap.size + 128)]) ⟨hx, hb, hml, hown, hts⟩ (ct_X1_count hE hR x (fun q => by subst q; simpa using hc0)) (cwV 1 hts (lw_V q872 q873 q874 q47 q875) rfl rfl rfl (by decide +kernel) ⟨Nat.le_of_ble_eq_true rfl, Nat.le_of_ble_eq_true rfl⟩) (cc_pV hW0 (cc_re hK hR.np (show gcl[0]? = _ from rfl))) rfl rfl hl.1 rfl (lv_room (Nat.le_of_ble_eq_true rfl)) dX0_count_4 ⟨Nat.le_of_ble_eq_true rfl, Nat.le_of_ble_eq_true rfl⟩) hL (fun H locs hP1 hL => ?_)
    subst hP1
    refine lv_i2l (v := (c_cnt C x).toInt64) hx hb dX0_count_7 rfl ?_
    refine gx_last (n := 1) hx hb hK 0 hR.out rfl 0 ((by decide)) (by omega) (by decide) hL (by (try simp only [aI, aA, aT, aB, aL, mad]); omega) dX0_count_8 (fun H locs hU hA hL => ?_)
    have hR := GRb.pO1 hR hU hA
    refine lv_goto (tgt := 15) hx hb dX0_count_9 (by decide) ?_
    refine lv_iconst (v := 0) hx hb dX0_count_15 (by decide) ?_
    refine W.widen (k := 1) (n := 6) (by omega) (by omega) ?_
    exact W.iret (v := 0) hx hb hr (fun t ht hW => ⟨ovI (by unfold k_count; rw [if_neg (by rw [hc0]; decide)]), by rw [ht]; exact (RR_CO (by unfold k_count; rw [if_neg (by rw [hc0]; decide)]) (by unfold k_count; rw [if_neg (by rw [hc0]; decide)]) ⟨_, hR⟩)⟩) hL dX0_count_16
def k_giveBack (C : CS) (o : Int64) (x : Int32) : Int32 × CS × Int64 := if (inR x 0 (nI (kN C 3) - 1)) = false then (1, C, o) else (0, rE C (up3 (kE C) 3 x.toNatClampNeg 2 0), (kE C 3 x.toNatClampNeg 2).toInt64)
set_option maxHeartbeats 4000000 in
set_option maxRecDepth 100000 in
theorem ct_X0_giveBack {l : Launch} {s0 : State} {D : va_G} {DA : Nat → ClassId} {z0 : Nat} {C : CS} {M : MS} {o : Int64} {H : Heap} (hE : G0 l s0 D DA z0) (hR : RR s0 D DA z0 C M o H) (x : Int32) : Met l yX0_giveBack (wsW_ yX0_giveBack cX0_giveBack 4 (some .int) [(0, 9, 12, 13)]) ({ frames := 9, cells := 1, slots := 6, locals := 146 }) (cP s0 [.ref s0.heap.size, .int x, .ref (s0.heap.size + 128)] H) (cQv (.int (k_giveBack C o x).1) (fun H1 => RR s0 D DA z0 (k_giveBack C o x).2.1 M (k_giveBack C o x).2.2 H1)) 1 6 (cF s0) := by
  refine va_MetW (cc := cX0_giveBack) (maxL := 4) (ret := (some .int)) (hh := [(0, 9, 12, 13)]) (by decide) rfl ?_
  intro p e s m args below meth c s₁ Bd hml hv
  obtain ⟨rfl, rfl, hW0⟩ := hv
  have hx := Bd.exec
  have hb := Bd.bytes
  have hr := Bd.returns
  have hts := atoms_spec (ws := (wsW_ yX0_giveBack cX0_giveBack 4 (some .int) [(0, 9, 12, 13)])) Bd.pre
  obtain ⟨m9, meth9, c9, hn9, hm9, hc9, -, -, htab, -⟩ := Cond.codeWith_spec (hts _ List.mem_cons_self)
  cases Bd.named.symm.trans hn9
  cases Bd.method.symm.trans hm9
  cases (Stand.of_body Bd).code.symm.trans hc9
  have hts : ∀ w ∈ lw_all, w.before _ s = true := fun w h => hts w (List.mem_cons_of_mem _ h)
  have hown : s.vm.findClass RX0 = some m.cls := findClass_of_methodNamed Bd.named
  have hlocks := Bd.notSynchronized
  have hK := va_K.moved hW0.alike hE.K
  have hL : gx_L s0.heap.size ([] : List Loc) := gx_L0
  obtain ⟨Y, hR⟩ := hR
  have hl := lv_entry ([.ref s0.heap.size, .int x, .ref (s0.heap.size + 128)]) (n := 4) (Nat.le_of_ble_eq_true rfl)
  rw [lg_entry_eq]
  generalize (lg_sl ([.ref s0.heap.size, .int x, .ref (s0.heap.size + 128)]) ++ List.replicate (4 - (lg_sl ([.ref s0.heap.size, .int x, .ref (s0.heap.size + 128)])).length) Slot.unset).toArray = ls at hl ⊢
  have hl : lv_has ls 4 [(0, .ref s0.heap.size), (1, .int x), (2, .ref (s0.heap.size + 128))] := hl
  cases hc0 : inR x 0 (nI (kN C 3) - 1) with
  | false =>
    refine lv_aload_n hx hb dX0_giveBack_0 rfl (lv_at hl 2 rfl) ?_
    refine lv_iconst (v := 0) hx hb dX0_giveBack_1 (by decide) ?_
    refine lv_aload_n hx hb dX0_giveBack_2 rfl (lv_at hl 0 rfl) ?_
    refine lv_iload_n hx hb dX0_giveBack_3 rfl (lv_at hl 1 rfl) ?_
    refine gt_hand (pre := []) (h := (0, 9, 12, 13)) (post := []) (va_runTV (b := s0.heap.size) (As := [.int x]) (rest := [.int 0, .ref (s0.heap.size + 128)]) ⟨hx, hb, hml, hown, hts⟩ (ct_X1_giveBack_I hE ⟨_, hR⟩ x hc0) (cwV 1 hts (lw_V q858 q859 q860 q47 q861) rfl rfl rfl (by decide +kernel) ⟨Nat.le_of_ble_eq_true rfl, Nat.le_of_ble_eq_true rfl⟩) (cc_pV hW0 (cc_re hK hR.np (show gcl[0]? = _ from rfl))) rfl rfl hl.1 rfl (lv_room (Nat.le_of_ble_eq_true rfl)) dX0_giveBack_4 ⟨Nat.le_of_ble_eq_true rfl, Nat.le_of_ble_eq_true rfl⟩) hL hW0 hown htab rfl ⟨by decide, by decide, by decide⟩ (hts _ q530) (fun y hy => by cases hy) (fun H locs xx hP1 hL => ?_)
    obtain ⟨Y, hR⟩ := hP1
    refine lv_astore_n (lv' := [(3, .ref xx), (0, .ref s0.heap.size), (1, .int x), (2, .ref (s0.heap.size + 128))]) hx hb dX0_giveBack_12 rfl hl (by decide) rfl (fun ls hl => ?_)
    refine lv_iconst (v := 1) hx hb dX0_giveBack_13 (by decide) ?_
    refine W.widen (k := 1) (n := 6) (by omega) (by omega) ?_
    exact W.iret (v := 1) hx hb hr (fun t ht hW => ⟨ovI (by unfold k_giveBack; rw [if_pos hc0]), by rw [ht]; exact (RR_CO (by unfold k_giveBack; rw [if_pos hc0]) (by unfold k_giveBack; rw [if_pos hc0]) ⟨_, hR⟩)⟩) hL dX0_giveBack_14
  | true =>
    obtain ⟨u, hu, rfl⟩ := inR_in (by have := hR.lay.2.2.2.2.2.2.1; omega) hc0
    have h24 := hR.lay.2.2.2.2.2.2.1
    refine lv_aload_n hx hb dX0_giveBack_0 rfl (lv_at hl 2 rfl) ?_
    refine lv_iconst (v := 0) hx hb dX0_giveBack_1 (by decide) ?_
    refine lv_aload_n hx hb dX0_giveBack_2 rfl (lv_at hl 0 rfl) ?_
    refine lv_iload_n hx hb dX0_giveBack_3 rfl (lv_at hl 1 rfl) ?_
    refine cc_v (va_runV (b := s0.heap.size) (As := [.int (nI u)]) (rest := [.int 0, .ref (s0.heap.size + 128)]) ⟨hx, hb, hml, hown, hts⟩ (ct_X1_giveBack hE ⟨_, hR⟩ hu) (cwV 1 hts (lw_V q858 q859 q860 q47 q861) rfl rfl rfl (by decide +kernel) ⟨Nat.le_of_ble_eq_true rfl, Nat.le_of_ble_eq_true rfl⟩) (cc_pV hW0 (cc_re hK hR.np (show gcl[0]? = _ from rfl))) rfl rfl hl.1 rfl (lv_room (Nat.le_of_ble_eq_true rfl)) dX0_giveBack_4 ⟨Nat.le_of_ble_eq_true rfl, Nat.le_of_ble_eq_true rfl⟩) hL (fun H locs hP1 hL => ?_)
    obtain ⟨Y, hR⟩ := hP1
    refine lv_i2l (v := (kE C 3 u 2).toInt64) hx hb dX0_giveBack_7 rfl ?_
    refine gx_last (n := 1) hx hb hK 0 hR.out rfl 0 ((by decide)) (by omega) (by decide) hL (by (try simp only [aI, aA, aT, aB, aL, mad]); omega) dX0_giveBack_8 (fun H locs hU hA hL => ?_)
    have hR := GRb.pO1 hR hU hA
    refine lv_goto (tgt := 15) hx hb dX0_giveBack_9 (by decide) ?_
    refine lv_iconst (v := 0) hx hb dX0_giveBack_15 (by decide) ?_
    refine W.widen (k := 1) (n := 6) (by omega) (by omega) ?_
    exact W.iret (v := 0) hx hb hr (fun t ht hW => ⟨ovI (by unfold k_giveBack; rw [if_neg (by rw [hc0]; decide)]), by rw [ht]; exact (RR_CO (by unfold k_giveBack; rw [if_neg (by rw [hc0]; decide)] <;> rw [nI_clamp (by have := hR.lay.2.2.2.2.2.2.1; omega)]) (by unfold k_giveBack; rw [if_neg (by rw [hc0]; decide)] <;> rw [nI_clamp (by have := hR.lay.2.2.2.2.2.2.1; omega)]) ⟨_, hR⟩)⟩) hL dX0_giveBack_16
