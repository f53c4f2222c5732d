set_option maxHeartbeats 4000000 in
set_option maxRecDepth 100000 in
/-- enter -/
theorem ct_X1_enter {l : Launch} {s0 : State} {D : va_G} {DA : Nat → ClassId} {z0 : Nat} {C : CS} {M : MS} {o : Int64} {H : Heap} (hE : G0 l s0 D DA z0) (hR : RR s0 D DA z0 C M o H) {j : Nat} (h1 : 1 ≤ j) (h3 : j ≤ 3) {k wk : Nat} (hk : k < 12) (hw : wk < 12) (n : Int32) (hn : inR n 0 1000 = true) (h24 : kN C j < 24) : Met l yX1_enter (ws_ yX1_enter cX1_enter 6 (some .int)) ({ frames := 8, cells := 2, slots := 39, locals := 192 }) (cP s0 [.ref s0.heap.size, .ref (aB s0.heap.size j), .int (nI k), .int (nI wk), .int n] H) (cQv (.int (nI (kN C j))) (fun H1 => RR s0 D DA z0 (cAddE (c_tell C k) j (nI k) (nI wk) n) M o H1)) 2 39 (cF s0) := by
  refine Met.ofW (cc := cX1_enter) (maxL := 6) (ret := (some .int)) (by decide) rfl ?_
  intro p e s m args below meth c s₁ Bd hml hv
  obtain ⟨rfl, rfl, hW0⟩ := hv
  have hx := Bd.exec
  have hb := Bd.bytes
  have hr := Bd.returns
  have hts := atoms_spec (ws := (ws_ yX1_enter cX1_enter 6 (some .int))) Bd.pre
  have hts : ∀ w ∈ lw_all, w.before _ s = true := fun w h => hts w (List.mem_cons_of_mem _ h)
  have hown : s.vm.findClass RX1 = some m.cls := findClass_of_methodNamed Bd.named
  have hlocks := Bd.notSynchronized
  have hK := va_K.moved hW0.alike hE.K
  have hL : gx_L s0.heap.size ([] : List Loc) := gx_L0
  obtain ⟨Y, hR⟩ := hR
  have hl := lv_entry ([.ref s0.heap.size, .ref (aB s0.heap.size j), .int (nI k), .int (nI wk), .int n]) (n := 6) (Nat.le_of_ble_eq_true rfl)
  rw [lg_entry_eq]
  generalize (lg_sl ([.ref s0.heap.size, .ref (aB s0.heap.size j), .int (nI k), .int (nI wk), .int n]) ++ List.replicate (6 - (lg_sl ([.ref s0.heap.size, .ref (aB s0.heap.size j), .int (nI k), .int (nI wk), .int n])).length) Slot.unset).toArray = ls at hl ⊢
  have hl : lv_has ls 6 [(0, .ref s0.heap.size), (1, .ref (aB s0.heap.size j)), (2, .int (nI k)), (3, .int (nI wk)), (4, .int n)] := hl
  refine lv_aload_n hx hb dX1_enter_0 rfl (lv_at hl 0 rfl) ?_
  refine lv_iload_n hx hb dX1_enter_1 rfl (lv_at hl 2 rfl) ?_
  refine cc_v (va_runV (b := s0.heap.size) (As := [.int (nI k)]) (rest := []) ⟨hx, hb, hml, hown, hts⟩ (ct_X1_of hE hR hk) (cwV 1 hts (lw_V q536 q538 qs11 q47 q539) rfl rfl rfl (by decide +kernel) ⟨Nat.le_of_ble_eq_true rfl, Nat.le_of_ble_eq_true rfl⟩) (cc_pV hW0 (cc_re hK hR.np (show gcl[0]? = _ from rfl))) rfl rfl hl.1 rfl (lv_room (Nat.le_of_ble_eq_true rfl)) dX1_enter_2 ⟨Nat.le_of_ble_eq_true rfl, Nat.le_of_ble_eq_true rfl⟩) hL (fun H locs hP1 hL => ?_)
  subst hP1
  refine lv_astore (lv' := [(5, .ref (aI s0.heap.size k)), (0, .ref s0.heap.size), (1, .ref (aB s0.heap.size j)), (2, .int (nI k)), (3, .int (nI wk)), (4, .int n)]) hx hb dX1_enter_5 hl (by decide) rfl (fun ls hl => ?_)
  refine lv_iload_n hx hb dX1_enter_7 rfl (lv_at hl 4 rfl) ?_
  refine cc_0 (va_runS (As := [.int (nI wk)]) (rest := []) ⟨hx, hb, hml, hown, hts⟩ (ct_X1_week hE (x := nI wk) (in12_n hw)) (va_cwS 1 hts (lw_S q729 q730 q47 q731) rfl rfl rfl (by decide +kernel) ⟨Nat.le_of_ble_eq_true rfl, Nat.le_of_ble_eq_true rfl⟩) (cc_pS hW0) rfl rfl hl.1 rfl (lv_room (Nat.le_of_ble_eq_true rfl)) dX1_enter_8 ⟨Nat.le_of_ble_eq_true rfl, Nat.le_of_ble_eq_true rfl⟩) hL (fun H locs hP1 hL => ?_)
  subst hP1
  refine lv_iload hx hb dX1_enter_11 (lv_at hl 5 rfl) ?_
  refine lv_iconst (v := 0) hx hb dX1_enter_13 (by decide) ?_
  refine lv_sipush (v := 1000) hx hb dX1_enter_14 (by decide) ?_
  refine cc_v (va_runS (As := [.int n, .int 0, .int 1000]) (rest := []) ⟨hx, hb, hml, hown, hts⟩ (ct_X1_isIn hE n 0 1000) (va_cwS 3 hts (lw_S q540 q541 q47 q542) rfl rfl rfl (by decide +kernel) ⟨Nat.le_of_ble_eq_true rfl, Nat.le_of_ble_eq_true rfl⟩) (cc_pS hW0) rfl rfl hl.1 rfl (lv_room (Nat.le_of_ble_eq_true rfl)) dX1_enter_17 ⟨Nat.le_of_ble_eq_true rfl, Nat.le_of_ble_eq_true rfl⟩) hL (fun H locs hP1 hL => ?_)
  subst hP1
  refine cc_0 (va_runS (As := [.int (bZ (inR n 0 1000))]) (rest := []) ⟨hx, hb, hml, hown, hts⟩ (ct_X1_argue hE (x := bZ (inR n 0 1000)) (by rw [hn]; decide)) (va_cwS 1 hts (lw_S q609 q610 q47 q611) rfl rfl rfl (by decide +kernel) ⟨Nat.le_of_ble_eq_true rfl, Nat.le_of_ble_eq_true rfl⟩) (cc_pS hW0) rfl rfl hl.1 rfl (lv_room (Nat.le_of_ble_eq_true rfl)) dX1_enter_20 ⟨Nat.le_of_ble_eq_true rfl, Nat.le_of_ble_eq_true rfl⟩) hL (fun H locs hP1 hL => ?_)
  subst hP1
  refine lv_aload_n hx hb dX1_enter_23 rfl (lv_at hl 2 rfl) ?_
  refine cc_v (va_runV (b := aB s0.heap.size j) (As := []) (rest := []) ⟨hx, hb, hml, hown, hts⟩ (ct_X2_isFull hE hR h1 h3) (cwV 0 hts (lw_V q732 q733 q734 q51 q735) rfl rfl rfl (by decide +kernel) ⟨Nat.le_of_ble_eq_true rfl, Nat.le_of_ble_eq_true rfl⟩) (cc_pV hW0 (cc_re hK (hR.bok j h1 h3) (show gcl[2]? = _ from rfl))) rfl rfl hl.1 rfl (lv_room (Nat.le_of_ble_eq_true rfl)) dX1_enter_24 ⟨Nat.le_of_ble_eq_true rfl, Nat.le_of_ble_eq_true rfl⟩) hL (fun H locs hP1 hL => ?_)
  subst hP1
  refine lv_if_ne (tgt := 34) hx hb dX1_enter_27 (by decide) (fun c27 => ?_) (fun c27 => ?_)
  · exact absurd (of_decide_eq_true (bZ_1.mp c27)) (by omega)
  · refine lv_iconst (v := 1) hx hb dX1_enter_30 (by decide) ?_
    refine lv_goto (tgt := 35) hx hb dX1_enter_31 (by decide) ?_
    refine cc_0 (va_runS (As := [.int 1]) (rest := []) ⟨hx, hb, hml, hown, hts⟩ (ct_X1_allow hE (x := 1) (by decide)) (va_cwS 1 hts (lw_S q666 q667 q47 q668) rfl rfl rfl (by decide +kernel) ⟨Nat.le_of_ble_eq_true rfl, Nat.le_of_ble_eq_true rfl⟩) (cc_pS hW0) rfl rfl hl.1 rfl (lv_room (Nat.le_of_ble_eq_true rfl)) dX1_enter_35 ⟨Nat.le_of_ble_eq_true rfl, Nat.le_of_ble_eq_true rfl⟩) hL (fun H locs hP1 hL => ?_)
    subst hP1
    refine lv_aload_n hx hb dX1_enter_38 rfl (lv_at hl 1 rfl) ?_
    refine lv_aload hx hb dX1_enter_39 (lv_at hl 0 rfl) ?_
    refine cc_0 (va_runV (b := s0.heap.size) (As := [.ref (aI s0.heap.size k)]) (rest := []) ⟨hx, hb, hml, hown, hts⟩ (ct_X1_tell hE ⟨_, hR⟩ hk) (cwV 1 hts (lw_V q627 q629 qs13 q47 q630) rfl rfl rfl (by decide +kernel) ⟨Nat.le_of_ble_eq_true rfl, Nat.le_of_ble_eq_true rfl⟩) (cc_pV hW0 (cc_re hK hR.np (show gcl[0]? = _ from rfl))) rfl rfl hl.1 rfl (lv_room (Nat.le_of_ble_eq_true rfl)) dX1_enter_41 ⟨Nat.le_of_ble_eq_true rfl, Nat.le_of_ble_eq_true rfl⟩) hL (fun H locs hP1 hL => ?_)
    obtain ⟨Y, hR⟩ := hP1
    refine lv_aload_n hx hb dX1_enter_44 rfl (lv_at hl 2 rfl) ?_
    refine gx_newV (ci := 12) (C := RX13) (T := TX13) (N := 3) (fs := [.int 0, .int 0, .int 0]) hx hb hts in_X13 tyX13 tyX13_ok hown (hts _ q736) (hts _ q737) (hts _ q75) hK rfl (by decide) (Nat.le_of_ble_eq_true rfl) (Nat.le_of_ble_eq_true rfl) dX1_enter_45 (fun H v hv0 hN hQ => ?_)
    have hfr : yFr s0.heap.size Y (c_tell C k) v := hR.fr (Nat.le_of_eq hv0.symm)
    have hR := hR.ext (by rw [hN.1]; exact Nat.le_succ _) hN.2
    refine lv_dup hx hb dX1_enter_48 rfl ?_
    refine lv_iload_n hx hb dX1_enter_49 rfl (lv_at hl 3 rfl) ?_
    refine lv_iload_n hx hb dX1_enter_50 rfl (lv_at hl 4 rfl) ?_
    refine lv_iload hx hb dX1_enter_51 (lv_at hl 5 rfl) ?_
    refine cc_0 (va_runI (b := v) (As := [.int (nI k), .int (nI wk), .int n]) (rest := [.ref v, .ref (aB s0.heap.size j)]) ⟨hx, hb, hml, hown, hts⟩ (ct_X13_init hE (nI k) (nI wk) n hQ (by have := hfr.1; omega)) (cwI 3 hts (lw_meth q740) rfl rfl rfl (hts _ q75) (hts _ q738) (hts _ q739) rfl (by decide +kernel) ⟨Nat.le_of_ble_eq_true rfl, Nat.le_of_ble_eq_true rfl⟩) (cc_pS hW0) rfl rfl hl.1 rfl (lv_room (Nat.le_of_ble_eq_true rfl)) dX1_enter_53 ⟨Nat.le_of_ble_eq_true rfl, Nat.le_of_ble_eq_true rfl⟩) hL (fun H locs hP1 hL => ?_)
    obtain ⟨hU9, hQ⟩ := hP1
    have hR := hR.fre hfr hU9
    refine cc_v (va_runV (b := aB s0.heap.size j) (As := [.ref v]) (rest := []) ⟨hx, hb, hml, hown, hts⟩ (ct_X2_add hE hR h1 h3 hQ hfr h24) (cwV 1 hts (lw_V q758 q759 q760 q51 q761) rfl rfl rfl (by decide +kernel) ⟨Nat.le_of_ble_eq_true rfl, Nat.le_of_ble_eq_true rfl⟩) (cc_pV hW0 (cc_re hK (hR.bok j h1 h3) (show gcl[2]? = _ from rfl))) rfl rfl hl.1 rfl (lv_room (Nat.le_of_ble_eq_true rfl)) dX1_enter_56 ⟨Nat.le_of_ble_eq_true rfl, Nat.le_of_ble_eq_true rfl⟩) hL (fun H locs hP1 hL => ?_)
    obtain ⟨Y, hR⟩ := hP1
    exact W.iret (v := (nI (kN C j))) hx hb hr (fun t ht hW => ⟨rfl, by rw [ht]; exact ⟨_, hR⟩⟩) hL dX1_enter_59
set_option maxHeartbeats 4000000 in
set_option maxRecDepth 100000 in
theorem ct_X1_enter_I {l : Launch} {s0 : State} {D : va_G} {DA : Nat → ClassId} {z0 : Nat} {C : CS} {M : MS} {o : Int64} {H : Heap} (hE : G0 l s0 D DA z0) (hR : RR s0 D DA z0 C M o H) {j : Nat} (h1 : 1 ≤ j) (h3 : j ≤ 3) (i w n : Int32) (h : (in12 i && in12 w) = false) : MetT l yX1_enter (ws_ yX1_enter cX1_enter 6 (some .int)) ({ frames := 8, cells := 1, slots := 6, locals := 123 }) (cP s0 [.ref s0.heap.size, .ref (aB s0.heap.size j), .int i, .int w, .int n] H) (cQT s0 "java/lang/IndexOutOfBoundsException" (fun H1 => RR s0 D DA z0 C M o H1)) 1 6 (cF s0) := by
  refine MetT.ofW (cc := cX1_enter) (maxL := 6) (ret := (some .int)) (by decide) rfl ?_
  intro p e s m args below meth c s₁ Bd hml hv
  obtain ⟨rfl, rfl, hW0⟩ := hv
  have hx := Bd.exec
  have hb := Bd.bytes
  have hr := Bd.returns
  have hts := atoms_spec (ws := (ws_ yX1_enter cX1_enter 6 (some .int))) Bd.pre
  have hno := BodyLoose.noHandlers Bd (hts _ List.mem_cons_self)
  have hts : ∀ w ∈ lw_all, w.before _ s = true := fun w h => hts w (List.mem_cons_of_mem _ h)
  have hown : s.vm.findClass RX1 = some m.cls := findClass_of_methodNamed Bd.named
  have hlocks := Bd.notSynchronized
  have hK := va_K.moved hW0.alike hE.K
  have hL : gx_L s0.heap.size ([] : List Loc) := gx_L0
  obtain ⟨Y, hR⟩ := hR
  have hl := lv_entry ([.ref s0.heap.size, .ref (aB s0.heap.size j), .int i, .int w, .int n]) (n := 6) (Nat.le_of_ble_eq_true rfl)
  rw [lg_entry_eq]
  generalize (lg_sl ([.ref s0.heap.size, .ref (aB s0.heap.size j), .int i, .int w, .int n]) ++ List.replicate (6 - (lg_sl ([.ref s0.heap.size, .ref (aB s0.heap.size j), .int i, .int w, .int n])).length) Slot.unset).toArray = ls at hl ⊢
  have hl : lv_has ls 6 [(0, .ref s0.heap.size), (1, .ref (aB s0.heap.size j)), (2, .int i), (3, .int w), (4, .int n)] := hl
  cases hcs : in12 i with
  | false =>
    refine lv_aload_n hx hb dX1_enter_0 rfl (lv_at hl 0 rfl) ?_
    refine lv_iload_n hx hb dX1_enter_1 rfl (lv_at hl 2 rfl) ?_
    exact gt_leave (va_runTV (b := s0.heap.size) (As := [.int i]) (rest := []) ⟨hx, hb, hml, hown, hts⟩ (ct_X1_of_T hE ⟨_, hR⟩ (x := i) (hcs)) (cwV 1 hts (lw_V q536 q538 qs11 q47 q539) rfl rfl rfl (by decide +kernel) ⟨Nat.le_of_ble_eq_true rfl, Nat.le_of_ble_eq_true rfl⟩) (cc_pV hW0 (cc_re hK hR.np (show gcl[0]? = _ from rfl))) rfl rfl hl.1 rfl (lv_room (Nat.le_of_ble_eq_true rfl)) dX1_enter_2 ⟨Nat.le_of_ble_eq_true rfl, Nat.le_of_ble_eq_true rfl⟩) hno (fun st t u x hq h1 h2 h3 => ⟨by rw [h1]; exact hq.1, by rw [h1]; exact hq.2⟩) hL (fun q h => h) Bd.notSynchronized
  | true =>
    obtain ⟨k, hk, rfl⟩ := in12_t hcs
    rw [hcs, Bool.true_and] at h
    refine lv_aload_n hx hb dX1_enter_0 rfl (lv_at hl 0 rfl) ?_
    refine lv_iload_n hx hb dX1_enter_1 rfl (lv_at hl 2 rfl) ?_
    refine cc_v (va_runV (b := s0.heap.size) (As := [.int (nI k)]) (rest := []) ⟨hx, hb, hml, hown, hts⟩ (ct_X1_of hE hR hk) (cwV 1 hts (lw_V q536 q538 qs11 q47 q539) rfl rfl rfl (by decide +kernel) ⟨Nat.le_of_ble_eq_true rfl, Nat.le_of_ble_eq_true rfl⟩) (cc_pV hW0 (cc_re hK hR.np (show gcl[0]? = _ from rfl))) rfl rfl hl.1 rfl (lv_room (Nat.le_of_ble_eq_true rfl)) dX1_enter_2 ⟨Nat.le_of_ble_eq_true rfl, Nat.le_of_ble_eq_true rfl⟩) hL (fun H locs hP1 hL => ?_)
    subst hP1
    refine lv_astore (lv' := [(5, .ref (aI s0.heap.size k)), (0, .ref s0.heap.size), (1, .ref (aB s0.heap.size j)), (2, .int (nI k)), (3, .int w), (4, .int n)]) hx hb dX1_enter_5 hl (by decide) rfl (fun ls hl => ?_)
    refine lv_iload_n hx hb dX1_enter_7 rfl (lv_at hl 4 rfl) ?_
    exact gt_leave (va_runTS (As := [.int w]) (rest := []) ⟨hx, hb, hml, hown, hts⟩ (ct_X1_week_T hE ⟨_, hR⟩ (x := w) (h)) (va_cwS 1 hts (lw_S q729 q730 q47 q731) rfl rfl rfl (by decide +kernel) ⟨Nat.le_of_ble_eq_true rfl, Nat.le_of_ble_eq_true rfl⟩) (cc_pS hW0) rfl rfl hl.1 rfl (lv_room (Nat.le_of_ble_eq_true rfl)) dX1_enter_8 ⟨Nat.le_of_ble_eq_true rfl, Nat.le_of_ble_eq_true rfl⟩) hno (fun st t u x hq h1 h2 h3 => ⟨by rw [h1]; exact hq.1, by rw [h1]; exact hq.2⟩) hL (fun q h => h) Bd.notSynchronized
set_option maxHeartbeats 4000000 in
set_option maxRecDepth 100000 in
theorem ct_X1_enter_A {l : Launch} {s0 : State} {D : va_G} {DA : Nat → ClassId} {z0 : Nat} {C : CS} {M : MS} {o : Int64} {H : Heap} (hE : G0 l s0 D DA z0) (hR : RR s0 D DA z0 C M o H) {j : Nat} (h1 : 1 ≤ j) (h3 : j ≤ 3) {k wk : Nat} (hk : k < 12) (hw : wk < 12) (n : Int32) (h : inR n 0 1000 = false) : MetT l yX1_enter (ws_ yX1_enter cX1_enter 6 (some .int)) ({ frames := 7, cells := 1, slots := 6, locals := 102 }) (cP s0 [.ref s0.heap.size, .ref (aB s0.heap.size j), .int (nI k), .int (nI wk), .int n] H) (cQT s0 "java/lang/IllegalArgumentException" (fun H1 => RR s0 D DA z0 C M o H1)) 1 6 (cF s0) := by
  refine MetT.ofW (cc := cX1_enter) (maxL := 6) (ret := (some .int)) (by decide) rfl ?_
  intro p e s m args below meth c s₁ Bd hml hv
  obtain ⟨rfl, rfl, hW0⟩ := hv
  have hx := Bd.exec
  have hb := Bd.bytes
  have hr := Bd.returns
  have hts := atoms_spec (ws := (ws_ yX1_enter cX1_enter 6 (some .int))) Bd.pre
  have hno := BodyLoose.noHandlers Bd (hts _ List.mem_cons_self)
  have hts : ∀ w ∈ lw_all, w.before _ s = true := fun w h => hts w (List.mem_cons_of_mem _ h)
  have hown : s.vm.findClass RX1 = some m.cls := findClass_of_methodNamed Bd.named
  have hlocks := Bd.notSynchronized
  have hK := va_K.moved hW0.alike hE.K
  have hL : gx_L s0.heap.size ([] : List Loc) := gx_L0
  obtain ⟨Y, hR⟩ := hR
  have hl := lv_entry ([.ref s0.heap.size, .ref (aB s0.heap.size j), .int (nI k), .int (nI wk), .int n]) (n := 6) (Nat.le_of_ble_eq_true rfl)
  rw [lg_entry_eq]
  generalize (lg_sl ([.ref s0.heap.size, .ref (aB s0.heap.size j), .int (nI k), .int (nI wk), .int n]) ++ List.replicate (6 - (lg_sl ([.ref s0.heap.size, .ref (aB s0.heap.size j), .int (nI k), .int (nI wk), .int n])).length) Slot.unset).toArray = ls at hl ⊢
  have hl : lv_has ls 6 [(0, .ref s0.heap.size), (1, .ref (aB s0.heap.size j)), (2, .int (nI k)), (3, .int (nI wk)), (4, .int n)] := hl
  refine lv_aload_n hx hb dX1_enter_0 rfl (lv_at hl 0 rfl) ?_
  refine lv_iload_n hx hb dX1_enter_1 rfl (lv_at hl 2 rfl) ?_
  refine cc_v (va_runV (b := s0.heap.size) (As := [.int (nI k)]) (rest := []) ⟨hx, hb, hml, hown, hts⟩ (ct_X1_of hE hR hk) (cwV 1 hts (lw_V q536 q538 qs11 q47 q539) rfl rfl rfl (by decide +kernel) ⟨Nat.le_of_ble_eq_true rfl, Nat.le_of_ble_eq_true rfl⟩) (cc_pV hW0 (cc_re hK hR.np (show gcl[0]? = _ from rfl))) rfl rfl hl.1 rfl (lv_room (Nat.le_of_ble_eq_true rfl)) dX1_enter_2 ⟨Nat.le_of_ble_eq_true rfl, Nat.le_of_ble_eq_true rfl⟩) hL (fun H locs hP1 hL => ?_)
  subst hP1
  refine lv_astore (lv' := [(5, .ref (aI s0.heap.size k)), (0, .ref s0.heap.size), (1, .ref (aB s0.heap.size j)), (2, .int (nI k)), (3, .int (nI wk)), (4, .int n)]) hx hb dX1_enter_5 hl (by decide) rfl (fun ls hl => ?_)
  refine lv_iload_n hx hb dX1_enter_7 rfl (lv_at hl 4 rfl) ?_
  refine cc_0 (va_runS (As := [.int (nI wk)]) (rest := []) ⟨hx, hb, hml, hown, hts⟩ (ct_X1_week hE (x := nI wk) (in12_n hw)) (va_cwS 1 hts (lw_S q729 q730 q47 q731) rfl rfl rfl (by decide +kernel) ⟨Nat.le_of_ble_eq_true rfl, Nat.le_of_ble_eq_true rfl⟩) (cc_pS hW0) rfl rfl hl.1 rfl (lv_room (Nat.le_of_ble_eq_true rfl)) dX1_enter_8 ⟨Nat.le_of_ble_eq_true rfl, Nat.le_of_ble_eq_true rfl⟩) hL (fun H locs hP1 hL => ?_)
  subst hP1
  refine lv_iload hx hb dX1_enter_11 (lv_at hl 5 rfl) ?_
  refine lv_iconst (v := 0) hx hb dX1_enter_13 (by decide) ?_
  refine lv_sipush (v := 1000) hx hb dX1_enter_14 (by decide) ?_
  refine cc_v (va_runS (As := [.int n, .int 0, .int 1000]) (rest := []) ⟨hx, hb, hml, hown, hts⟩ (ct_X1_isIn hE n 0 1000) (va_cwS 3 hts (lw_S q540 q541 q47 q542) rfl rfl rfl (by decide +kernel) ⟨Nat.le_of_ble_eq_true rfl, Nat.le_of_ble_eq_true rfl⟩) (cc_pS hW0) rfl rfl hl.1 rfl (lv_room (Nat.le_of_ble_eq_true rfl)) dX1_enter_17 ⟨Nat.le_of_ble_eq_true rfl, Nat.le_of_ble_eq_true rfl⟩) hL (fun H locs hP1 hL => ?_)
  subst hP1
  exact gt_leave (va_runTS (As := [.int (bZ (inR n 0 1000))]) (rest := []) ⟨hx, hb, hml, hown, hts⟩ (ct_X1_argue_T hE ⟨_, hR⟩ (x := bZ (inR n 0 1000)) (by rw [h]; rfl)) (va_cwS 1 hts (lw_S q609 q610 q47 q611) rfl rfl rfl (by decide +kernel) ⟨Nat.le_of_ble_eq_true rfl, Nat.le_of_ble_eq_true rfl⟩) (cc_pS hW0) rfl rfl hl.1 rfl (lv_room (Nat.le_of_ble_eq_true rfl)) dX1_enter_20 ⟨Nat.le_of_ble_eq_true rfl, Nat.le_of_ble_eq_true rfl⟩) hno (fun st t u x hq h1 h2 h3 => ⟨by rw [h1]; exact hq.1, by rw [h1]; exact hq.2⟩) hL (fun q h => h) Bd.notSynchronized
set_option maxHeartbeats 4000000 in
set_option maxRecDepth 100000 in
theorem ct_X1_enter_S {l : Launch} {s0 : State} {D : va_G} {DA : Nat → ClassId} {z0 : Nat} {C : CS} {M : MS} {o : Int64} {H : Heap} (hE : G0 l s0 D DA z0) (hR : RR s0 D DA z0 C M o H) {j : Nat} (h1 : 1 ≤ j) (h3 : j ≤ 3) {k wk : Nat} (hk : k < 12) (hw : wk < 12) (n : Int32) (hn : inR n 0 1000 = true) (h24 : kN C j = 24) : MetT l yX1_enter (ws_ yX1_enter cX1_enter 6 (some .int)) ({ frames := 7, cells := 1, slots := 6, locals := 102 }) (cP s0 [.ref s0.heap.size, .ref (aB s0.heap.size j), .int (nI k), .int (nI wk), .int n] H) (cQT s0 "java/lang/IllegalStateException" (fun H1 => RR s0 D DA z0 C M o H1)) 1 6 (cF s0) := by
  refine MetT.ofW (cc := cX1_enter) (maxL := 6) (ret := (some .int)) (by decide) rfl ?_
  intro p e s m args below meth c s₁ Bd hml hv
  obtain ⟨rfl, rfl, hW0⟩ := hv
  have hx := Bd.exec
  have hb := Bd.bytes
  have hr := Bd.returns
  have hts := atoms_spec (ws := (ws_ yX1_enter cX1_enter 6 (some .int))) Bd.pre
  have hno := BodyLoose.noHandlers Bd (hts _ List.mem_cons_self)
  have hts : ∀ w ∈ lw_all, w.before _ s = true := fun w h => hts w (List.mem_cons_of_mem _ h)
  have hown : s.vm.findClass RX1 = some m.cls := findClass_of_methodNamed Bd.named
  have hlocks := Bd.notSynchronized
  have hK := va_K.moved hW0.alike hE.K
  have hL : gx_L s0.heap.size ([] : List Loc) := gx_L0
  obtain ⟨Y, hR⟩ := hR
  have hl := lv_entry ([.ref s0.heap.size, .ref (aB s0.heap.size j), .int (nI k), .int (nI wk), .int n]) (n := 6) (Nat.le_of_ble_eq_true rfl)
  rw [lg_entry_eq]
  generalize (lg_sl ([.ref s0.heap.size, .ref (aB s0.heap.size j), .int (nI k), .int (nI wk), .int n]) ++ List.replicate (6 - (lg_sl ([.ref s0.heap.size, .ref (aB s0.heap.size j), .int (nI k), .int (nI wk), .int n])).length) Slot.unset).toArray = ls at hl ⊢
  have hl : lv_has ls 6 [(0, .ref s0.heap.size), (1, .ref (aB s0.heap.size j)), (2, .int (nI k)), (3, .int (nI wk)), (4, .int n)] := hl
  refine lv_aload_n hx hb dX1_enter_0 rfl (lv_at hl 0 rfl) ?_
  refine lv_iload_n hx hb dX1_enter_1 rfl (lv_at hl 2 rfl) ?_
  refine cc_v (va_runV (b := s0.heap.size) (As := [.int (nI k)]) (rest := []) ⟨hx, hb, hml, hown, hts⟩ (ct_X1_of hE hR hk) (cwV 1 hts (lw_V q536 q538 qs11 q47 q539) rfl rfl rfl (by decide +kernel) ⟨Nat.le_of_ble_eq_true rfl, Nat.le_of_ble_eq_true rfl⟩) (cc_pV hW0 (cc_re hK hR.np (show gcl[0]? = _ from rfl))) rfl rfl hl.1 rfl (lv_room (Nat.le_of_ble_eq_true rfl)) dX1_enter_2 ⟨Nat.le_of_ble_eq_true rfl, Nat.le_of_ble_eq_true rfl⟩) hL (fun H locs hP1 hL => ?_)
  subst hP1
  refine lv_astore (lv' := [(5, .ref (aI s0.heap.size k)), (0, .ref s0.heap.size), (1, .ref (aB s0.heap.size j)), (2, .int (nI k)), (3, .int (nI wk)), (4, .int n)]) hx hb dX1_enter_5 hl (by decide) rfl (fun ls hl => ?_)
  refine lv_iload_n hx hb dX1_enter_7 rfl (lv_at hl 4 rfl) ?_
  refine cc_0 (va_runS (As := [.int (nI wk)]) (rest := []) ⟨hx, hb, hml, hown, hts⟩ (ct_X1_week hE (x := nI wk) (in12_n hw)) (va_cwS 1 hts (lw_S q729 q730 q47 q731) rfl rfl rfl (by decide +kernel) ⟨Nat.le_of_ble_eq_true rfl, Nat.le_of_ble_eq_true rfl⟩) (cc_pS hW0) rfl rfl hl.1 rfl (lv_room (Nat.le_of_ble_eq_true rfl)) dX1_enter_8 ⟨Nat.le_of_ble_eq_true rfl, Nat.le_of_ble_eq_true rfl⟩) hL (fun H locs hP1 hL => ?_)
  subst hP1
  refine lv_iload hx hb dX1_enter_11 (lv_at hl 5 rfl) ?_
  refine lv_iconst (v := 0) hx hb dX1_enter_13 (by decide) ?_
  refine lv_sipush (v := 1000) hx hb dX1_enter_14 (by decide) ?_
  refine cc_v (va_runS (As := [.int n, .int 0, .int 1000]) (rest := []) ⟨hx, hb, hml, hown, hts⟩ (ct_X1_isIn hE n 0 1000) (va_cwS 3 hts (lw_S q540 q541 q47 q542) rfl rfl rfl (by decide +kernel) ⟨Nat.le_of_ble_eq_true rfl, Nat.le_of_ble_eq_true rfl⟩) (cc_pS hW0) rfl rfl hl.1 rfl (lv_room (Nat.le_of_ble_eq_true rfl)) dX1_enter_17 ⟨Nat.le_of_ble_eq_true rfl, Nat.le_of_ble_eq_true rfl⟩) hL (fun H locs hP1 hL => ?_)
  subst hP1
  refine cc_0 (va_runS (As := [.int (bZ (inR n 0 1000))]) (rest := []) ⟨hx, hb, hml, hown, hts⟩ (ct_X1_argue hE (x := bZ (inR n 0 1000)) (by rw [hn]; decide)) (va_cwS 1 hts (lw_S q609 q610 q47 q611) rfl rfl rfl (by decide +kernel) ⟨Nat.le_of_ble_eq_true rfl, Nat.le_of_ble_eq_true rfl⟩) (cc_pS hW0) rfl rfl hl.1 rfl (lv_room (Nat.le_of_ble_eq_true rfl)) dX1_enter_20 ⟨Nat.le_of_ble_eq_true rfl, Nat.le_of_ble_eq_true rfl⟩) hL (fun H locs hP1 hL => ?_)
  subst hP1
  refine lv_aload_n hx hb dX1_enter_23 rfl (lv_at hl 2 rfl) ?_
  refine cc_v (va_runV (b := aB s0.heap.size j) (As := []) (rest := []) ⟨hx, hb, hml, hown, hts⟩ (ct_X2_isFull hE hR h1 h3) (cwV 0 hts (lw_V q732 q733 q734 q51 q735) rfl rfl rfl (by decide +kernel) ⟨Nat.le_of_ble_eq_true rfl, Nat.le_of_ble_eq_true rfl⟩) (cc_pV hW0 (cc_re hK (hR.bok j h1 h3) (show gcl[2]? = _ from rfl))) rfl rfl hl.1 rfl (lv_room (Nat.le_of_ble_eq_true rfl)) dX1_enter_24 ⟨Nat.le_of_ble_eq_true rfl, Nat.le_of_ble_eq_true rfl⟩) hL (fun H locs hP1 hL => ?_)
  subst hP1
  refine lv_if_ne (tgt := 34) hx hb dX1_enter_27 (by decide) (fun c27 => ?_) (fun c27 => ?_)
  · refine lv_iconst (v := 0) hx hb dX1_enter_34 (by decide) ?_
    exact gt_leave (va_runTS (As := [.int 0]) (rest := []) ⟨hx, hb, hml, hown, hts⟩ (ct_X1_allow_T hE ⟨_, hR⟩ (x := 0) (rfl)) (va_cwS 1 hts (lw_S q666 q667 q47 q668) rfl rfl rfl (by decide +kernel) ⟨Nat.le_of_ble_eq_true rfl, Nat.le_of_ble_eq_true rfl⟩) (cc_pS hW0) rfl rfl hl.1 rfl (lv_room (Nat.le_of_ble_eq_true rfl)) dX1_enter_35 ⟨Nat.le_of_ble_eq_true rfl, Nat.le_of_ble_eq_true rfl⟩) hno (fun st t u x hq h1 h2 h3 => ⟨by rw [h1]; exact hq.1, by rw [h1]; exact hq.2⟩) hL (fun q h => h) Bd.notSynchronized
  · exact absurd h24 (of_decide_eq_false (bZ_0.mp c27))
set_option maxHeartbeats 4000000 in
set_option maxRecDepth 100000 in
/-- demand -/
theorem ct_X1_demand {l : Launch} {s0 : State} {D : va_G} {DA : Nat → ClassId} {z0 : Nat} {C : CS} {M : MS} {o : Int64} {H : Heap} (hE : G0 l s0 D DA z0) (hR : RR s0 D DA z0 C M o H) {k wk : Nat} (hk : k < 12) (hw : wk < 12) (n : Int32) (hn : inR n 0 1000 = true) (h24 : kN C 1 < 24) : Met l yX1_demand (ws_ yX1_demand cX1_demand 4 (some .int)) ({ frames := 9, cells := 2, slots := 39, locals := 217 }) (cP s0 [.ref s0.heap.size, .int (nI k), .int (nI wk), .int n] H) (cQv (.int (nI (kN C 1))) (fun H1 => RR s0 D DA z0 (cAddE (c_tell C k) 1 (nI k) (nI wk) n) M o H1)) 2 39 (cF s0) := by
  refine Met.ofW (cc := cX1_demand) (maxL := 4) (ret := (some .int)) (by decide) rfl ?_
  intro p e s m args below meth c s₁ Bd hml hv
  obtain ⟨rfl, rfl, hW0⟩ := hv
  have hx := Bd.exec
  have hb := Bd.bytes
  have hr := Bd.returns
  have hts := atoms_spec (ws := (ws_ yX1_demand cX1_demand 4 (some .int))) Bd.pre
  have hts : ∀ w ∈ lw_all, w.before _ s = true := fun w h => hts w (List.mem_cons_of_mem _ h)
  have hown : s.vm.findClass RX1 = some m.cls := findClass_of_methodNamed Bd.named
  have hlocks := Bd.notSynchronized
  have hK := va_K.moved hW0.alike hE.K
  have hL : gx_L s0.heap.size ([] : List Loc) := gx_L0
  obtain ⟨Y, hR⟩ := hR
  have hl := lv_entry ([.ref s0.heap.size, .int (nI k), .int (nI wk), .int n]) (n := 4) (Nat.le_of_ble_eq_true rfl)
  rw [lg_entry_eq]
  generalize (lg_sl ([.ref s0.heap.size, .int (nI k), .int (nI wk), .int n]) ++ List.replicate (4 - (lg_sl ([.ref s0.heap.size, .int (nI k), .int (nI wk), .int n])).length) Slot.unset).toArray = ls at hl ⊢
  have hl : lv_has ls 4 [(0, .ref s0.heap.size), (1, .int (nI k)), (2, .int (nI wk)), (3, .int n)] := hl
  refine lv_aload_n hx hb dX1_demand_0 rfl (lv_at hl 0 rfl) ?_
  refine lv_aload_n hx hb dX1_demand_1 rfl (lv_at hl 0 rfl) ?_
  refine gx_get (D := D) (cl := gcl) (ci := 0) (v := .ref (aB s0.heap.size 1)) (C := RX1) (T := TX1) (N := 10) hx hb hts in_X1 hown hK hR.np rfl 2 (by decide) (hts _ q274) (fun _ h9 => h9) rfl dX1_demand_2 ?_
  refine lv_iload_n hx hb dX1_demand_5 rfl (lv_at hl 1 rfl) ?_
  refine lv_iload_n hx hb dX1_demand_6 rfl (lv_at hl 2 rfl) ?_
  refine lv_iload_n hx hb dX1_demand_7 rfl (lv_at hl 3 rfl) ?_
  refine cc_v (va_runV (b := s0.heap.size) (As := [.ref (aB s0.heap.size 1), .int (nI k), .int (nI wk), .int n]) (rest := []) ⟨hx, hb, hml, hown, hts⟩ (ct_X1_enter (j := 1) hE ⟨_, hR⟩ (by decide) (by decide) hk hw n hn h24) (cwV 4 hts (lw_V q725 q727 qs18 q47 q728) rfl rfl rfl (by decide +kernel) ⟨Nat.le_of_ble_eq_true rfl, Nat.le_of_ble_eq_true rfl⟩) (cc_pV hW0 (cc_re hK hR.np (show gcl[0]? = _ from rfl))) rfl rfl hl.1 rfl (lv_room (Nat.le_of_ble_eq_true rfl)) dX1_demand_8 ⟨Nat.le_of_ble_eq_true rfl, Nat.le_of_ble_eq_true rfl⟩) hL (fun H locs hP1 hL => ?_)
  obtain ⟨Y, hR⟩ := hP1
  exact W.iret (v := (nI (kN C 1))) hx hb hr (fun t ht hW => ⟨rfl, by rw [ht]; exact ⟨_, hR⟩⟩) hL dX1_demand_11
set_option maxHeartbeats 4000000 in
set_option maxRecDepth 100000 in
theorem ct_X1_demand_I {l : Launch} {s0 : State} {D : va_G} {DA : Nat → ClassId} {z0 : Nat} {C : CS} {M : MS} {o : Int64} {H : Heap} (hE : G0 l s0 D DA z0) (hR : RR s0 D DA z0 C M o H) (i w n : Int32) (h : (in12 i && in12 w) = false) : MetT l yX1_demand (ws_ yX1_demand cX1_demand 4 (some .int)) ({ frames := 9, cells := 1, slots := 6, locals := 148 }) (cP s0 [.ref s0.heap.size, .int i, .int w, .int n] H) (cQT s0 "java/lang/IndexOutOfBoundsException" (fun H1 => RR s0 D DA z0 C M o H1)) 1 6 (cF s0) := by
  refine MetT.ofW (cc := cX1_demand) (maxL := 4) (ret := (some .int)) (by decide) rfl ?_
  intro p e s m args below meth c s₁ Bd hml hv
  obtain ⟨rfl, rfl, hW0⟩ := hv
  have hx := Bd.exec
  have hb := Bd.bytes
  have hr := Bd.returns
  have hts := atoms_spec (ws := (ws_ yX1_demand cX1_demand 4 (some .int))) Bd.pre
  have hno := BodyLoose.noHandlers Bd (hts _ List.mem_cons_self)
  have hts : ∀ w ∈ lw_all, w.before _ s = true := fun w h => hts w (List.mem_cons_of_mem _ h)
  have hown : s.vm.findClass RX1 = some m.cls := findClass_of_methodNamed Bd.named
  have hlocks := Bd.notSynchronized
  have hK := va_K.moved hW0.alike hE.K
  have hL : gx_L s0.heap.size ([] : List Loc) := gx_L0
  obtain ⟨Y, hR⟩ := hR
  have hl := lv_entry ([.ref s0.heap.size, .int i, .int w, .int n]) (n := 4) (Nat.le_of_ble_eq_true rfl)
  rw [lg_entry_eq]
  generalize (lg_sl ([.ref s0.heap.size, .int i, .int w, .int n]) ++ List.replicate (4 - (lg_sl ([.ref s0.heap.size, .int i, .int w, .int n])).length) Slot.unset).toArray = ls at hl ⊢
  have hl : lv_has ls 4 [(0, .ref s0.heap.size), (1, .int i), (2, .int w), (3, .int n)] := hl
  refine lv_aload_n hx hb dX1_demand_0 rfl (lv_at hl 0 rfl) ?_
  refine lv_aload_n hx hb dX1_demand_1 rfl (lv_at hl 0 rfl) ?_
  refine gx_get (D := D) (cl := gcl) (ci := 0) (v := .ref (aB s0.heap.size 1)) (C := RX1) (T := TX1) (N := 10) hx hb hts in_X1 hown hK hR.np rfl 2 (by decide) (hts _ q274) (fun _ h9 => h9) rfl dX1_demand_2 ?_
  refine lv_iload_n hx hb dX1_demand_5 rfl (lv_at hl 1 rfl) ?_
  refine lv_iload_n hx hb dX1_demand_6 rfl (lv_at hl 2 rfl) ?_
  refine lv_iload_n hx hb dX1_demand_7 rfl (lv_at hl 3 rfl) ?_
  exact gt_leave (va_runTV (b := s0.heap.size) (As := [.ref (aB s0.heap.size 1), .int i, .int w, .int n]) (rest := []) ⟨hx, hb, hml, hown, hts⟩ (ct_X1_enter_I (j := 1) hE ⟨_, hR⟩ (by decide) (by decide) i w n h) (cwV 4 hts (lw_V q725 q727 qs18 q47 q728) rfl rfl rfl (by decide +kernel) ⟨Nat.le_of_ble_eq_true rfl, Nat.le_of_ble_eq_true rfl⟩) (cc_pV hW0 (cc_re hK hR.np (show gcl[0]? = _ from rfl))) rfl rfl hl.1 rfl (lv_room (Nat.le_of_ble_eq_true rfl)) dX1_demand_8 ⟨Nat.le_of_ble_eq_true rfl, Nat.le_of_ble_eq_true rfl⟩) hno (fun st t u x hq h1 h2 h3 => ⟨by rw [h1]; exact hq.1, by rw [h1]; exact hq.2⟩) hL (fun q h => h) Bd.notSynchronized
set_option maxHeartbeats 4000000 in
set_option maxRecDepth 100000 in
theorem ct_X1_demand_A {l : Launch} {s0 : State} {D : va_G} {DA : Nat → ClassId} {z0 : Nat} {C : CS} {M : MS} {o : Int64} {H : Heap} (hE : G0 l s0 D DA z0) (hR : RR s0 D DA z0 C M o H) {k wk : Nat} (hk : k < 12) (hw : wk < 12) (n : Int32) (h : inR n 0 1000 = false) : MetT l yX1_demand (ws_ yX1_demand cX1_demand 4 (some .int)) ({ frames := 8, cells := 1, slots := 6, locals := 127 }) (cP s0 [.ref s0.heap.size, .int (nI k), .int (nI wk), .int n] H) (cQT s0 "java/lang/IllegalArgumentException" (fun H1 => RR s0 D DA z0 C M o H1)) 1 6 (cF s0) := by
  refine MetT.ofW (cc := cX1_demand) (maxL := 4) (ret := (some .int)) (by decide) rfl ?_
  intro p e s m args below meth c s₁ Bd hml hv
  obtain ⟨rfl, rfl, hW0⟩ := hv
  have hx := Bd.exec
  have hb := Bd.bytes
  have hr := Bd.returns
  have hts := atoms_spec (ws := (ws_ yX1_demand cX1_demand 4 (some .int))) Bd.pre
  have hno := BodyLoose.noHandlers Bd (hts _ List.mem_cons_self)
  have hts : ∀ w ∈ lw_all, w.before _ s = true := fun w h => hts w (List.mem_cons_of_mem _ h)
  have hown : s.vm.findClass RX1 = some m.cls := findClass_of_methodNamed Bd.named
  have hlocks := Bd.notSynchronized
  have hK := va_K.moved hW0.alike hE.K
  have hL : gx_L s0.heap.size ([] : List Loc) := gx_L0
  obtain ⟨Y, hR⟩ := hR
  have hl := lv_entry ([.ref s0.heap.size, .int (nI k), .int (nI wk), .int n]) (n := 4) (Nat.le_of_ble_eq_true rfl)
  rw [lg_entry_eq]
  generalize (lg_sl ([.ref s0.heap.size, .int (nI k), .int (nI wk), .int n]) ++ List.replicate (4 - (lg_sl ([.ref s0.heap.size, .int (nI k), .int (nI wk), .int n])).length) Slot.unset).toArray = ls at hl ⊢
  have hl : lv_has ls 4 [(0, .ref s0.heap.size), (1, .int (nI k)), (2, .int (nI wk)), (3, .int n)] := hl
  refine lv_aload_n hx hb dX1_demand_0 rfl (lv_at hl 0 rfl) ?_
  refine lv_aload_n hx hb dX1_demand_1 rfl (lv_at hl 0 rfl) ?_
  refine gx_get (D := D) (cl := gcl) (ci := 0) (v := .ref (aB s0.heap.size 1)) (C := RX1) (T := TX1) (N := 10) hx hb hts in_X1 hown hK hR.np rfl 2 (by decide) (hts _ q274) (fun _ h9 => h9) rfl dX1_demand_2 ?_
  refine lv_iload_n hx hb dX1_demand_5 rfl (lv_at hl 1 rfl) ?_
  refine lv_iload_n hx hb dX1_demand_6 rfl (lv_at hl 2 rfl) ?_
  refine lv_iload_n hx hb dX1_demand_7 rfl (lv_at hl 3 rfl) ?_
  exact gt_leave (va_runTV (b := s0.heap.size) (As := [.ref (aB s0.heap.size 1), .int (nI k), .int (nI wk), .int n]) (rest := []) ⟨hx, hb, hml, hown, hts⟩ (ct_X1_enter_A (j := 1) hE ⟨_, hR⟩ (by decide) (by decide) hk hw n h) (cwV 4 hts (lw_V q725 q727 qs18 q47 q728) rfl rfl rfl (by decide +kernel) ⟨Nat.le_of_ble_eq_true rfl, Nat.le_of_ble_eq_true rfl⟩) (cc_pV hW0 (cc_re hK hR.np (show gcl[0]? = _ from rfl))) rfl rfl hl.1 rfl (lv_room (Nat.le_of_ble_eq_true rfl)) dX1_demand_8 ⟨Nat.le_of_ble_eq_true rfl, Nat.le_of_ble_eq_true rfl⟩) hno (fun st t u x hq h1 h2 h3 => ⟨by rw [h1]; exact hq.1, by rw [h1]; exact hq.2⟩) hL (fun q h => h) Bd.notSynchronized
set_option maxHeartbeats 4000000 in
set_option maxRecDepth 100000 in
theorem ct_X1_demand_S {l : Launch} {s0 : State} {D : va_G} {DA : Nat → ClassId} {z0 : Nat} {C : CS} {M : MS} {o : Int64} {H : Heap} (hE : G0 l s0 D DA z0) (hR : RR s0 D DA z0 C M o H) {k wk : Nat} (hk : k < 12) (hw : wk < 12) (n : Int32) (hn : inR n 0 1000 = true) (h24 : kN C 1 = 24) : MetT l yX1_demand (ws_ yX1_demand cX1_demand 4 (some .int)) ({ frames := 8, cells := 1, slots := 6, locals := 127 }) (cP s0 [.ref s0.heap.size, .int (nI k), .int (nI wk), .int n] H) (cQT s0 "java/lang/IllegalStateException" (fun H1 => RR s0 D DA z0 C M o H1)) 1 6 (cF s0) := by
  refine MetT.ofW (cc := cX1_demand) (maxL := 4) (ret := (some .int)) (by decide) rfl ?_
  intro p e s m args below meth c s₁ Bd hml hv
  obtain ⟨rfl, rfl, hW0⟩ := hv
  have hx := Bd.exec
  have hb := Bd.bytes
  have hr := Bd.returns
  have hts := atoms_spec (ws := (ws_ yX1_demand cX1_demand 4 (some .int))) Bd.pre
  have hno := BodyLoose.noHandlers Bd (hts _ List.mem_cons_self)
  have hts : ∀ w ∈ lw_all, w.before _ s = true := fun w h => hts w (List.mem_cons_of_mem _ h)
  have hown : s.vm.findClass RX1 = some m.cls := findClass_of_methodNamed Bd.named
  have hlocks := Bd.notSynchronized
  have hK := va_K.moved hW0.alike hE.K
  have hL : gx_L s0.heap.size ([] : List Loc) := gx_L0
  obtain ⟨Y, hR⟩ := hR
  have hl := lv_entry ([.ref s0.heap.size, .int (nI k), .int (nI wk), .int n]) (n := 4) (Nat.le_of_ble_eq_true rfl)
  rw [lg_entry_eq]
  generalize (lg_sl ([.ref s0.heap.size, .int (nI k), .int (nI wk), .int n]) ++ List.replicate (4 - (lg_sl ([.ref s0.heap.size, .int (nI k), .int (nI wk), .int n])).length) Slot.unset).toArray = ls at hl ⊢
  have hl : lv_has ls 4 [(0, .ref s0.heap.size), (1, .int (nI k)), (2, .int (nI wk)), (3, .int n)] := hl
  refine lv_aload_n hx hb dX1_demand_0 rfl (lv_at hl 0 rfl) ?_
  refine lv_aload_n hx hb dX1_demand_1 rfl (lv_at hl 0 rfl) ?_
  refine gx_get (D := D) (cl := gcl) (ci := 0) (v := .ref (aB s0.heap.size 1)) (C := RX1) (T := TX1) (N := 10) hx hb hts in_X1 hown hK hR.np rfl 2 (by decide) (hts _ q274) (fun _ h9 => h9) rfl dX1_demand_2 ?_
  refine lv_iload_n hx hb dX1_demand_5 rfl (lv_at hl 1 rfl) ?_
  refine lv_iload_n hx hb dX1_demand_6 rfl (lv_at hl 2 rfl) ?_
  refine lv_iload_n hx hb dX1_demand_7 rfl (lv_at hl 3 rfl) ?_
  exact gt_leave (va_runTV (b := s0.heap.size) (As := [.ref (aB s0.heap.size 1), .int (nI k), .int (nI wk), .int n]) (rest := []) ⟨hx, hb, hml, hown, hts⟩ (ct_X1_enter_S (j := 1) hE ⟨_, hR⟩ (by decide) (by decide) hk hw n hn h24) (cwV 4 hts (lw_V q725 q727 qs18 q47 q728) rfl rfl rfl (by decide +kernel) ⟨Nat.le_of_ble_eq_true rfl, Nat.le_of_ble_eq_true rfl⟩) (cc_pV hW0 (cc_re hK hR.np (show gcl[0]? = _ from rfl))) rfl rfl hl.1 rfl (lv_room (Nat.le_of_ble_eq_true rfl)) dX1_demand_8 ⟨Nat.le_of_ble_eq_true rfl, Nat.le_of_ble_eq_true rfl⟩) hno (fun st t u x hq h1 h2 h3 => ⟨by rw [h1]; exact hq.1, by rw [h1]; exact hq.2⟩) hL (fun q h => h) Bd.notSynchronized
set_option maxHeartbeats 4000000 in
set_option maxRecDepth 100000 in
/-- order -/
theorem ct_X1_order {l : Launch} {s0 : State} {D : va_G} {DA : Nat → ClassId} {z0 : Nat} {C : CS} {M : MS} {o : Int64} {H : Heap} (hE : G0 l s0 D DA z0) (hR : RR s0 D DA z0 C M o H) {k wk : Nat} (hk : k < 12) (hw : wk < 12) (n : Int32) (hn : inR n 0 1000 = true) (h24 : kN C 2 < 24) : Met l yX1_order (ws_ yX1_order cX1_order 4 (some .int)) ({ frames := 9, cells := 2, slots := 39, locals := 217 }) (cP s0 [.ref s0.heap.size, .int (nI k), .int (nI wk), .int n] H) (cQv (.int (nI (kN C 2))) (fun H1 => RR s0 D DA z0 (cAddE (c_tell C k) 2 (nI k) (nI wk) n) M o H1)) 2 39 (cF s0) := by
  refine Met.ofW (cc := cX1_order) (maxL := 4) (ret := (some .int)) (by decide) rfl ?_
  intro p e s m args below meth c s₁ Bd hml hv
  obtain ⟨rfl, rfl, hW0⟩ := hv
  have hx := Bd.exec
  have hb := Bd.bytes
  have hr := Bd.returns
  have hts := atoms_spec (ws := (ws_ yX1_order cX1_order 4 (some .int))) Bd.pre
  have hts : ∀ w ∈ lw_all, w.before _ s = true := fun w h => hts w (List.mem_cons_of_mem _ h)
  have hown : s.vm.findClass RX1 = some m.cls := findClass_of_methodNamed Bd.named
  have hlocks := Bd.notSynchronized
  have hK := va_K.moved hW0.alike hE.K
  have hL : gx_L s0.heap.size ([] : List Loc) := gx_L0
  obtain ⟨Y, hR⟩ := hR
  have hl := lv_entry ([.ref s0.heap.size, .int (nI k), .int (nI wk), .int n]) (n := 4) (Nat.le_of_ble_eq_true rfl)
  rw [lg_entry_eq]
  generalize (lg_sl ([.ref s0.heap.size, .int (nI k), .int (nI wk), .int n]) ++ List.replicate (4 - (lg_sl ([.ref s0.heap.size, .int (nI k), .int (nI wk), .int n])).length) Slot.unset).toArray = ls at hl ⊢
  have hl : lv_has ls 4 [(0, .ref s0.heap.size), (1, .int (nI k)), (2, .int (nI wk)), (3, .int n)] := hl
  refine lv_aload_n hx hb dX1_order_0 rfl (lv_at hl 0 rfl) ?_
  refine lv_aload_n hx hb dX1_order_1 rfl (lv_at hl 0 rfl) ?_
  refine gx_get (D := D) (cl := gcl) (ci := 0) (v := .ref (aB s0.heap.size 2)) (C := RX1) (T := TX1) (N := 10) hx hb hts in_X1 hown hK hR.np rfl 3 (by decide) (hts _ q275) (fun _ h9 => h9) rfl dX1_order_2 ?_
  refine lv_iload_n hx hb dX1_order_5 rfl (lv_at hl 1 rfl) ?_
  refine lv_iload_n hx hb dX1_order_6 rfl (lv_at hl 2 rfl) ?_
  refine lv_iload_n hx hb dX1_order_7 rfl (lv_at hl 3 rfl) ?_
  refine cc_v (va_runV (b := s0.heap.size) (As := [.ref (aB s0.heap.size 2), .int (nI k), .int (nI wk), .int n]) (rest := []) ⟨hx, hb, hml, hown, hts⟩ (ct_X1_enter (j := 2) hE ⟨_, hR⟩ (by decide) (by decide) hk hw n hn h24) (cwV 4 hts (lw_V q725 q727 qs18 q47 q728) rfl rfl rfl (by decide +kernel) ⟨Nat.le_of_ble_eq_true rfl, Nat.le_of_ble_eq_true rfl⟩) (cc_pV hW0 (cc_re hK hR.np (show gcl[0]? = _ from rfl))) rfl rfl hl.1 rfl (lv_room (Nat.le_of_ble_eq_true rfl)) dX1_order_8 ⟨Nat.le_of_ble_eq_true rfl, Nat.le_of_ble_eq_true rfl⟩) hL (fun H locs hP1 hL => ?_)
  obtain ⟨Y, hR⟩ := hP1
  exact W.iret (v := (nI (kN C 2))) hx hb hr (fun t ht hW => ⟨rfl, by rw [ht]; exact ⟨_, hR⟩⟩) hL dX1_order_11
set_option maxHeartbeats 4000000 in
set_option maxRecDepth 100000 in
theorem ct_X1_order_I {l : Launch} {s0 : State} {D : va_G} {DA : Nat → ClassId} {z0 : Nat} {C : CS} {M : MS} {o : Int64} {H : Heap} (hE : G0 l s0 D DA z0) (hR : RR s0 D DA z0 C M o H) (i w n : Int32) (h : (in12 i && in12 w) = false) : MetT l yX1_order (ws_ yX1_order cX1_order 4 (some .int)) ({ frames := 9, cells := 1, slots := 6, locals := 148 }) (cP s0 [.ref s0.heap.size, .int i, .int w, .int n] H) (cQT s0 "java/lang/IndexOutOfBoundsException" (fun H1 => RR s0 D DA z0 C M o H1)) 1 6 (cF s0) := by
  refine MetT.ofW (cc := cX1_order) (maxL := 4) (ret := (some .int)) (by decide) rfl ?_
  intro p e s m args below meth c s₁ Bd hml hv
  obtain ⟨rfl, rfl, hW0⟩ := hv
  have hx := Bd.exec
  have hb := Bd.bytes
  have hr := Bd.returns
  have hts := atoms_spec (ws := (ws_ yX1_order cX1_order 4 (some .int))) Bd.pre
  have hno := BodyLoose.noHandlers Bd (hts _ List.mem_cons_self)
  have hts : ∀ w ∈ lw_all, w.before _ s = true := fun w h => hts w (List.mem_cons_of_mem _ h)
  have hown : s.vm.findClass RX1 = some m.cls := findClass_of_methodNamed Bd.named
  have hlocks := Bd.notSynchronized
  have hK := va_K.moved hW0.alike hE.K
  have hL : gx_L s0.heap.size ([] : List Loc) := gx_L0
  obtain ⟨Y, hR⟩ := hR
  have hl := lv_entry ([.ref s0.heap.size, .int i, .int w, .int n]) (n := 4) (Nat.le_of_ble_eq_true rfl)
  rw [lg_entry_eq]
  generalize (lg_sl ([.ref s0.heap.size, .int i, .int w, .int n]) ++ List.replicate (4 - (lg_sl ([.ref s0.heap.size, .int i, .int w, .int n])).length) Slot.unset).toArray = ls at hl ⊢
  have hl : lv_has ls 4 [(0, .ref s0.heap.size), (1, .int i), (2, .int w), (3, .int n)] := hl
  refine lv_aload_n hx hb dX1_order_0 rfl (lv_at hl 0 rfl) ?_
  refine lv_aload_n hx hb dX1_order_1 rfl (lv_at hl 0 rfl) ?_
  refine gx_get (D := D) (cl := gcl) (ci := 0) (v := .ref (aB s0.heap.size 2)) (C := RX1) (T := TX1) (N := 10) hx hb hts in_X1 hown hK hR.np rfl 3 (by decide) (hts _ q275) (fun _ h9 => h9) rfl dX1_order_2 ?_
  refine lv_iload_n hx hb dX1_order_5 rfl (lv_at hl 1 rfl) ?_
  refine lv_iload_n hx hb dX1_order_6 rfl (lv_at hl 2 rfl) ?_
  refine lv_iload_n hx hb dX1_order_7 rfl (lv_at hl 3 rfl) ?_
  exact gt_leave (va_runTV (b := s0.heap.size) (As := [.ref (aB s0.heap.size 2), .int i, .int w, .int n]) (rest := []) ⟨hx, hb, hml, hown, hts⟩ (ct_X1_enter_I (j := 2) hE ⟨_, hR⟩ (by decide) (by decide) i w n h) (cwV 4 hts (lw_V q725 q727 qs18 q47 q728) rfl rfl rfl (by decide +kernel) ⟨Nat.le_of_ble_eq_true rfl, Nat.le_of_ble_eq_true rfl⟩) (cc_pV hW0 (cc_re hK hR.np (show gcl[0]? = _ from rfl))) rfl rfl hl.1 rfl (lv_room (Nat.le_of_ble_eq_true rfl)) dX1_order_8 ⟨Nat.le_of_ble_eq_true rfl, Nat.le_of_ble_eq_true rfl⟩) hno (fun st t u x hq h1 h2 h3 => ⟨by rw [h1]; exact hq.1, by rw [h1]; exact hq.2⟩) hL (fun q h => h) Bd.notSynchronized
set_option maxHeartbeats 4000000 in
set_option maxRecDepth 100000 in
theorem ct_X1_order_A {l : Launch} {s0 : State} {D : va_G} {DA : Nat → ClassId} {z0 : Nat} {C : CS} {M : MS} {o : Int64} {H : Heap} (hE : G0 l s0 D DA z0) (hR : RR s0 D DA z0 C M o H) {k wk : Nat} (hk : k < 12) (hw : wk < 12) (n : Int32) (h : inR n 0 1000 = false) : MetT l yX1_order (ws_ yX1_order cX1_order 4 (some .int)) ({ frames := 8, cells := 1, slots := 6, locals := 127 }) (cP s0 [.ref s0.heap.size, .int (nI k), .int (nI wk), .int n] H) (cQT s0 "java/lang/IllegalArgumentException" (fun H1 => RR s0 D DA z0 C M o H1)) 1 6 (cF s0) := by
  refine MetT.ofW (cc := cX1_order) (maxL := 4) (ret := (some .int)) (by decide) rfl ?_
  intro p e s m args below meth c s₁ Bd hml hv
  obtain ⟨rfl, rfl, hW0⟩ := hv
  have hx := Bd.exec
  have hb := Bd.bytes
  have hr := Bd.returns
  have hts := atoms_spec (ws := (ws_ yX1_order cX1_order 4 (some .int))) Bd.pre
  have hno := BodyLoose.noHandlers Bd (hts _ List.mem_cons_self)
  have hts : ∀ w ∈ lw_all, w.before _ s = true := fun w h => hts w (List.mem_cons_of_mem _ h)
  have hown : s.vm.findClass RX1 = some m.cls := findClass_of_methodNamed Bd.named
  have hlocks := Bd.notSynchronized
  have hK := va_K.moved hW0.alike hE.K
  have hL : gx_L s0.heap.size ([] : List Loc) := gx_L0
  obtain ⟨Y, hR⟩ := hR
  have hl := lv_entry ([.ref s0.heap.size, .int (nI k), .int (nI wk), .int n]) (n := 4) (Nat.le_of_ble_eq_true rfl)
  rw [lg_entry_eq]
  generalize (lg_sl ([.ref s0.heap.size, .int (nI k), .int (nI wk), .int n]) ++ List.replicate (4 - (lg_sl ([.ref s0.heap.size, .int (nI k), .int (nI wk), .int n])).length) Slot.unset).toArray = ls at hl ⊢
  have hl : lv_has ls 4 [(0, .ref s0.heap.size), (1, .int (nI k)), (2, .int (nI wk)), (3, .int n)] := hl
  refine lv_aload_n hx hb dX1_order_0 rfl (lv_at hl 0 rfl) ?_
  refine lv_aload_n hx hb dX1_order_1 rfl (lv_at hl 0 rfl) ?_
  refine gx_get (D := D) (cl := gcl) (ci := 0) (v := .ref (aB s0.heap.size 2)) (C := RX1) (T := TX1) (N := 10) hx hb hts in_X1 hown hK hR.np rfl 3 (by decide) (hts _ q275) (fun _ h9 => h9) rfl dX1_order_2 ?_
  refine lv_iload_n hx hb dX1_order_5 rfl (lv_at hl 1 rfl) ?_
  refine lv_iload_n hx hb dX1_order_6 rfl (lv_at hl 2 rfl) ?_
  refine lv_iload_n hx hb dX1_order_7 rfl (lv_at hl 3 rfl) ?_
  exact gt_leave (va_runTV (b := s0.heap.size) (As := [.ref (aB s0.heap.size 2), .int (nI k), .int (nI wk), .int n]) (rest := []) ⟨hx, hb, hml, hown, hts⟩ (ct_X1_enter_A (j := 2) hE ⟨_, hR⟩ (by decide) (by decide) hk hw n h) (cwV 4 hts (lw_V q725 q727 qs18 q47 q728) rfl rfl rfl (by decide +kernel) ⟨Nat.le_of_ble_eq_true rfl, Nat.le_of_ble_eq_true rfl⟩) (cc_pV hW0 (cc_re hK hR.np (show gcl[0]? = _ from rfl))) rfl rfl hl.1 rfl (lv_room (Nat.le_of_ble_eq_true rfl)) dX1_order_8 ⟨Nat.le_of_ble_eq_true rfl, Nat.le_of_ble_eq_true rfl⟩) hno (fun st t u x hq h1 h2 h3 => ⟨by rw [h1]; exact hq.1, by rw [h1]; exact hq.2⟩) hL (fun q h => h) Bd.notSynchronized
set_option maxHeartbeats 4000000 in
set_option maxRecDepth 100000 in
theorem ct_X1_order_S {l : Launch} {s0 : State} {D : va_G} {DA : Nat → ClassId} {z0 : Nat} {C : CS} {M : MS} {o : Int64} {H : Heap} (hE : G0 l s0 D DA z0) (hR : RR s0 D DA z0 C M o H) {k wk : Nat} (hk : k < 12) (hw : wk < 12) (n : Int32) (hn : inR n 0 1000 = true) (h24 : kN C 2 = 24) : MetT l yX1_order (ws_ yX1_order cX1_order 4 (some .int)) ({ frames := 8, cells := 1, slots := 6, locals := 127 }) (cP s0 [.ref s0.heap.size, .int (nI k), .int (nI wk), .int n] H) (cQT s0 "java/lang/IllegalStateException" (fun H1 => RR s0 D DA z0 C M o H1)) 1 6 (cF s0) := by
  refine MetT.ofW (cc := cX1_order) (maxL := 4) (ret := (some .int)) (by decide) rfl ?_
  intro p e s m args below meth c s₁ Bd hml hv
  obtain ⟨rfl, rfl, hW0⟩ := hv
  have hx := Bd.exec
  have hb := Bd.bytes
  have hr := Bd.returns
  have hts := atoms_spec (ws := (ws_ yX1_order cX1_order 4 (some .int))) Bd.pre
  have hno := BodyLoose.noHandlers Bd (hts _ List.mem_cons_self)
  have hts : ∀ w ∈ lw_all, w.before _ s = true := fun w h => hts w (List.mem_cons_of_mem _ h)
  have hown : s.vm.findClass RX1 = some m.cls := findClass_of_methodNamed Bd.named
  have hlocks := Bd.notSynchronized
  have hK := va_K.moved hW0.alike hE.K
  have hL : gx_L s0.heap.size ([] : List Loc) := gx_L0
  obtain ⟨Y, hR⟩ := hR
  have hl := lv_entry ([.ref s0.heap.size, .int (nI k), .int (nI wk), .int n]) (n := 4) (Nat.le_of_ble_eq_true rfl)
  rw [lg_entry_eq]
  generalize (lg_sl ([.ref s0.heap.size, .int (nI k), .int (nI wk), .int n]) ++ List.replicate (4 - (lg_sl ([.ref s0.heap.size, .int (nI k), .int (nI wk), .int n])).length) Slot.unset).toArray = ls at hl ⊢
  have hl : lv_has ls 4 [(0, .ref s0.heap.size), (1, .int (nI k)), (2, .int (nI wk)), (3, .int n)] := hl
  refine lv_aload_n hx hb dX1_order_0 rfl (lv_at hl 0 rfl) ?_
  refine lv_aload_n hx hb dX1_order_1 rfl (lv_at hl 0 rfl) ?_
  refine gx_get (D := D) (cl := gcl) (ci := 0) (v := .ref (aB s0.heap.size 2)) (C := RX1) (T := TX1) (N := 10) hx hb hts in_X1 hown hK hR.np rfl 3 (by decide) (hts _ q275) (fun _ h9 => h9) rfl dX1_order_2 ?_
  refine lv_iload_n hx hb dX1_order_5 rfl (lv_at hl 1 rfl) ?_
  refine lv_iload_n hx hb dX1_order_6 rfl (lv_at hl 2 rfl) ?_
  refine lv_iload_n hx hb dX1_order_7 rfl (lv_at hl 3 rfl) ?_
  exact gt_leave (va_runTV (b := s0.heap.size) (As := [.ref (aB s0.heap.size 2), .int (nI k), .int (nI wk), .int n]) (rest := []) ⟨hx, hb, hml, hown, hts⟩ (ct_X1_enter_S (j := 2) hE ⟨_, hR⟩ (by decide) (by decide) hk hw n hn h24) (cwV 4 hts (lw_V q725 q727 qs18 q47 q728) rfl rfl rfl (by decide +kernel) ⟨Nat.le_of_ble_eq_true rfl, Nat.le_of_ble_eq_true rfl⟩) (cc_pV hW0 (cc_re hK hR.np (show gcl[0]? = _ from rfl))) rfl rfl hl.1 rfl (lv_room (Nat.le_of_ble_eq_true rfl)) dX1_order_8 ⟨Nat.le_of_ble_eq_true rfl, Nat.le_of_ble_eq_true rfl⟩) hno (fun st t u x hq h1 h2 h3 => ⟨by rw [h1]; exact hq.1, by rw [h1]; exact hq.2⟩) hL (fun q h => h) Bd.notSynchronized
set_option maxHeartbeats 4000000 in
set_option maxRecDepth 100000 in
/-- entry -/
theorem ct_X1_entry {l : Launch} {s0 : State} {D : va_G} {DA : Nat → ClassId} {z0 : Nat} {Y : YS} {C : CS} {M : MS} {o : Int64} {H : Heap} (hE : G0 l s0 D DA z0) (hR : GRb s0.heap.size s0.heap D DA z0 Y C M o H) {j : Nat} (h1 : 1 ≤ j) (h3 : j ≤ 3) {u : Nat} (hu : u < kN C j) : Met l yX1_entry (ws_ yX1_entry cX1_entry 2 (some (.object "NettedPlans$Entry"))) ({ frames := 3, cells := 0, slots := 0, locals := 64 }) (cP s0 [.ref (aB s0.heap.size j), .int (nI u)] H) (cQv (.ref (yE Y j u)) (fun H1 => H1 = H)) 0 0 (cF s0) := by
  refine Met.ofW (cc := cX1_entry) (maxL := 2) (ret := (some (.object "NettedPlans$Entry"))) (by decide) rfl ?_
  intro p e s m args below meth c s₁ Bd hml hv
  obtain ⟨rfl, rfl, hW0⟩ := hv
  have hx := Bd.exec
  have hb := Bd.bytes
  have hr := Bd.returns
  have hts := atoms_spec (ws := (ws_ yX1_entry cX1_entry 2 (some (.object "NettedPlans$Entry")))) Bd.pre
  have hts : ∀ w ∈ lw_all, w.before _ s = true := fun w h => hts w (List.mem_cons_of_mem _ h)
  have hown : s.vm.findClass RX1 = some m.cls := findClass_of_methodNamed Bd.named
  have hlocks := Bd.notSynchronized
  have hK := va_K.moved hW0.alike hE.K
  have hL : gx_L s0.heap.size ([] : List Loc) := gx_L0
  have hl := lv_entry ([.ref (aB s0.heap.size j), .int (nI u)]) (n := 2) (Nat.le_of_ble_eq_true rfl)
  rw [lg_entry_eq]
  generalize (lg_sl ([.ref (aB s0.heap.size j), .int (nI u)]) ++ List.replicate (2 - (lg_sl ([.ref (aB s0.heap.size j), .int (nI u)])).length) Slot.unset).toArray = ls at hl ⊢
  have hl : lv_has ls 2 [(0, .ref (aB s0.heap.size j)), (1, .int (nI u))] := hl
  refine lv_iload_n hx hb dX1_entry_0 rfl (lv_at hl 1 rfl) ?_
  refine lv_iconst (v := 0) hx hb dX1_entry_1 (by decide) ?_
  refine lv_aload_n hx hb dX1_entry_2 rfl (lv_at hl 0 rfl) ?_
  refine gx_getN (D := D) (cl := gcl) (ci := 2) (v := .ref (aL s0.heap.size j)) (C := RX2) (T := TX2) (N := 1) hx hb hts in_X2 hown hK (hR.bok j h1 h3) rfl 0 (by decide) (hE.nF hW0 q121) (fun _ h9 => h9) rfl dX1_entry_3 ?_
  refine cc_v (va_runV (b := aL s0.heap.size j) (As := []) (rest := [.int 0, .int (nI u)]) ⟨hx, hb, hml, hown, hts⟩ (ct_J2_size hE (hR.lob j (by omega))) (cwV 0 hts (lw_V q459 q379 q380 q50 q381) rfl rfl rfl (by decide +kernel) ⟨Nat.le_of_ble_eq_true rfl, Nat.le_of_ble_eq_true rfl⟩) (cc_pV hW0 (cc_re hK (hR.lob j (by omega)) (show gcl[1]? = _ from rfl))) rfl rfl hl.1 rfl (lv_room (Nat.le_of_ble_eq_true rfl)) dX1_entry_6 ⟨Nat.le_of_ble_eq_true rfl, Nat.le_of_ble_eq_true rfl⟩) hL (fun H locs hP1 hL => ?_)
  subst hP1
  refine lv_iconst (v := 1) hx hb dX1_entry_9 (by decide) ?_
  refine lv_isub hx hb dX1_entry_10 ?_
  refine cc_v (va_runS (As := [.int (nI u), .int 0, .int ((nI (kN C j)) - 1)]) (rest := []) ⟨hx, hb, hml, hown, hts⟩ (ct_X1_isIn hE (nI u) 0 ((nI (kN C j)) - 1)) (va_cwS 3 hts (lw_S q540 q541 q47 q542) rfl rfl rfl (by decide +kernel) ⟨Nat.le_of_ble_eq_true rfl, Nat.le_of_ble_eq_true rfl⟩) (cc_pS hW0) rfl rfl hl.1 rfl (lv_room (Nat.le_of_ble_eq_true rfl)) dX1_entry_11 ⟨Nat.le_of_ble_eq_true rfl, Nat.le_of_ble_eq_true rfl⟩) hL (fun H locs hP1 hL => ?_)
  subst hP1
  refine cc_0 (va_runS (As := [.int (bZ (inR (nI u) 0 ((nI (kN C j)) - 1)))]) (rest := []) ⟨hx, hb, hml, hown, hts⟩ (ct_X1_there hE (x := bZ (inR (nI u) 0 ((nI (kN C j)) - 1))) (by rw [inR_n hu (by have := hR.lay.1 j (by omega); omega)]; decide)) (va_cwS 1 hts (lw_S q543 q544 q47 q545) rfl rfl rfl (by decide +kernel) ⟨Nat.le_of_ble_eq_true rfl, Nat.le_of_ble_eq_true rfl⟩) (cc_pS hW0) rfl rfl hl.1 rfl (lv_room (Nat.le_of_ble_eq_true rfl)) dX1_entry_14 ⟨Nat.le_of_ble_eq_true rfl, Nat.le_of_ble_eq_true rfl⟩) hL (fun H locs hP1 hL => ?_)
  subst hP1
  refine lv_aload_n hx hb dX1_entry_17 rfl (lv_at hl 0 rfl) ?_
  refine gx_getN (D := D) (cl := gcl) (ci := 2) (v := .ref (aL s0.heap.size j)) (C := RX2) (T := TX2) (N := 1) hx hb hts in_X2 hown hK (hR.bok j h1 h3) rfl 0 (by decide) (hE.nF hW0 q121) (fun _ h9 => h9) rfl dX1_entry_18 ?_
  refine lv_iload_n hx hb dX1_entry_21 rfl (lv_at hl 1 rfl) ?_
  refine cc_v (va_runV (b := aL s0.heap.size j) (As := [.int (nI u)]) (rest := []) ⟨hx, hb, hml, hown, hts⟩ (ct_J2_get (i := u) hE (hR.lob j (by omega)) (hR.lda j (by omega) (Nat.lt_of_lt_of_le (Nat.lt_of_le_of_lt (Nat.zero_le _) hu) (hR.lay.1 j (by omega)).1)) (by have := (hR.lay.1 j (by omega)).2; omega) hu (hR.lay.1 j (by omega)).1 (hR.lay.2.1 j (by omega) u hu)) (cwV 1 hts (lw_V q460 q383 q384 q50 q385) rfl rfl rfl (by decide +kernel) ⟨Nat.le_of_ble_eq_true rfl, Nat.le_of_ble_eq_true rfl⟩) (cc_pV hW0 (cc_re hK (hR.lob j (by omega)) (show gcl[1]? = _ from rfl))) rfl rfl hl.1 rfl (lv_room (Nat.le_of_ble_eq_true rfl)) dX1_entry_22 ⟨Nat.le_of_ble_eq_true rfl, Nat.le_of_ble_eq_true rfl⟩) hL (fun H locs hP1 hL => ?_)
  subst hP1
  refine gx_castS (ci := 12) hx hb hown (hts _ q736) hK (hR.ent j u h1 h3 hu) (show gcl[12]? = _ from rfl) dX1_entry_25 ?_
  exact W.aret hx hb hr (Or.inl ⟨_, rfl⟩) (Or.inr ⟨_, rfl⟩) (fun t ht hW => ⟨rfl, ht⟩) hL dX1_entry_28
set_option maxHeartbeats 4000000 in
set_option maxRecDepth 100000 in
theorem ct_X1_entry_T {l : Launch} {s0 : State} {D : va_G} {DA : Nat → ClassId} {z0 : Nat} {C : CS} {M : MS} {o : Int64} {H : Heap} (hE : G0 l s0 D DA z0) (hR : RR s0 D DA z0 C M o H) {j : Nat} (h1 : 1 ≤ j) (h3 : j ≤ 3) (x : Int32) (h : inR x 0 (nI (kN C j) - 1) = false) : MetT l yX1_entry (ws_ yX1_entry cX1_entry 2 (some (.object "NettedPlans$Entry"))) ({ frames := 7, cells := 1, slots := 6, locals := 102 }) (cP s0 [.ref (aB s0.heap.size j), .int x] H) (cQT s0 "java/lang/IndexOutOfBoundsException" (fun H1 => RR s0 D DA z0 C M o H1)) 1 6 (cF s0) := by
  refine MetT.ofW (cc := cX1_entry) (maxL := 2) (ret := (some (.object "NettedPlans$Entry"))) (by decide) rfl ?_
  intro p e s m args below meth c s₁ Bd hml hv
  obtain ⟨rfl, rfl, hW0⟩ := hv
  have hx := Bd.exec
  have hb := Bd.bytes
  have hr := Bd.returns
  have hts := atoms_spec (ws := (ws_ yX1_entry cX1_entry 2 (some (.object "NettedPlans$Entry")))) Bd.pre
  have hno := BodyLoose.noHandlers Bd (hts _ List.mem_cons_self)
  have hts : ∀ w ∈ lw_all, w.before _ s = true := fun w h => hts w (List.mem_cons_of_mem _ h)
  have hown : s.vm.findClass RX1 = some m.cls := findClass_of_methodNamed Bd.named
  have hlocks := Bd.notSynchronized
  have hK := va_K.moved hW0.alike hE.K
  have hL : gx_L s0.heap.size ([] : List Loc) := gx_L0
  obtain ⟨Y, hR⟩ := hR
  have hl := lv_entry ([.ref (aB s0.heap.size j), .int x]) (n := 2) (Nat.le_of_ble_eq_true rfl)
  rw [lg_entry_eq]
  generalize (lg_sl ([.ref (aB s0.heap.size j), .int x]) ++ List.replicate (2 - (lg_sl ([.ref (aB s0.heap.size j), .int x])).length) Slot.unset).toArray = ls at hl ⊢
  have hl : lv_has ls 2 [(0, .ref (aB s0.heap.size j)), (1, .int x)] := hl
  refine lv_iload_n hx hb dX1_entry_0 rfl (lv_at hl 1 rfl) ?_
  refine lv_iconst (v := 0) hx hb dX1_entry_1 (by decide) ?_
  refine lv_aload_n hx hb dX1_entry_2 rfl (lv_at hl 0 rfl) ?_
  refine gx_getN (D := D) (cl := gcl) (ci := 2) (v := .ref (aL s0.heap.size j)) (C := RX2) (T := TX2) (N := 1) hx hb hts in_X2 hown hK (hR.bok j h1 h3) rfl 0 (by decide) (hE.nF hW0 q121) (fun _ h9 => h9) rfl dX1_entry_3 ?_
  refine cc_v (va_runV (b := aL s0.heap.size j) (As := []) (rest := [.int 0, .int x]) ⟨hx, hb, hml, hown, hts⟩ (ct_J2_size hE (hR.lob j (by omega))) (cwV 0 hts (lw_V q459 q379 q380 q50 q381) rfl rfl rfl (by decide +kernel) ⟨Nat.le_of_ble_eq_true rfl, Nat.le_of_ble_eq_true rfl⟩) (cc_pV hW0 (cc_re hK (hR.lob j (by omega)) (show gcl[1]? = _ from rfl))) rfl rfl hl.1 rfl (lv_room (Nat.le_of_ble_eq_true rfl)) dX1_entry_6 ⟨Nat.le_of_ble_eq_true rfl, Nat.le_of_ble_eq_true rfl⟩) hL (fun H locs hP1 hL => ?_)
  subst hP1
  refine lv_iconst (v := 1) hx hb dX1_entry_9 (by decide) ?_
  refine lv_isub hx hb dX1_entry_10 ?_
  refine cc_v (va_runS (As := [.int x, .int 0, .int ((nI (kN C j)) - 1)]) (rest := []) ⟨hx, hb, hml, hown, hts⟩ (ct_X1_isIn hE x 0 ((nI (kN C j)) - 1)) (va_cwS 3 hts (lw_S q540 q541 q47 q542) rfl rfl rfl (by decide +kernel) ⟨Nat.le_of_ble_eq_true rfl, Nat.le_of_ble_eq_true rfl⟩) (cc_pS hW0) rfl rfl hl.1 rfl (lv_room (Nat.le_of_ble_eq_true rfl)) dX1_entry_11 ⟨Nat.le_of_ble_eq_true rfl, Nat.le_of_ble_eq_true rfl⟩) hL (fun H locs hP1 hL => ?_)
  subst hP1
  exact gt_leave (va_runTS (As := [.int (bZ (inR x 0 ((nI (kN C j)) - 1)))]) (rest := []) ⟨hx, hb, hml, hown, hts⟩ (ct_X1_there_T hE ⟨_, hR⟩ (x := bZ (inR x 0 ((nI (kN C j)) - 1))) (by rw [h]; rfl)) (va_cwS 1 hts (lw_S q543 q544 q47 q545) rfl rfl rfl (by decide +kernel) ⟨Nat.le_of_ble_eq_true rfl, Nat.le_of_ble_eq_true rfl⟩) (cc_pS hW0) rfl rfl hl.1 rfl (lv_room (Nat.le_of_ble_eq_true rfl)) dX1_entry_14 ⟨Nat.le_of_ble_eq_true rfl, Nat.le_of_ble_eq_true rfl⟩) hno (fun st t u x hq h1 h2 h3 => ⟨by rw [h1]; exact hq.1, by rw [h1]; exact hq.2⟩) hL (fun q h => h) Bd.notSynchronized
set_option maxHeartbeats 4000000 in
set_option maxRecDepth 100000 in
/-- change -/
theorem ct_X1_change {l : Launch} {s0 : State} {D : va_G} {DA : Nat → ClassId} {z0 : Nat} {C : CS} {M : MS} {o : Int64} {H : Heap} (hE : G0 l s0 D DA z0) (hR : RR s0 D DA z0 C M o H) {kd u a : Nat} (hkd : kd = 0 ∨ kd = 1) (hu : u < kN C (kd + 1)) (n : Int32) (hn : inR n 0 1000 = true) (ha : a < 12) (hea : kE C (kd + 1) u 0 = nI a) : Met l yX1_change (ws_ yX1_change cX1_change 6 (some .int)) ({ frames := 4, cells := 0, slots := 0, locals := 85 }) (cP s0 [.ref s0.heap.size, .int (nI kd), .int (nI u), .int n] H) (cQv (.int (kE C (kd + 1) u 2)) (fun H1 => RR s0 D DA z0 (c_tell (rE C (up3 (kE C) (kd + 1) u 2 n)) a) M o H1)) 0 0 (cF s0) := by
  refine Met.ofW (cc := cX1_change) (maxL := 6) (ret := (some .int)) (by decide) rfl ?_
  intro p e s m args below meth c s₁ Bd hml hv
  obtain ⟨rfl, rfl, hW0⟩ := hv
  have hx := Bd.exec
  have hb := Bd.bytes
  have hr := Bd.returns
  have hts := atoms_spec (ws := (ws_ yX1_change cX1_change 6 (some .int))) Bd.pre
  have hts : ∀ w ∈ lw_all, w.before _ s = true := fun w h => hts w (List.mem_cons_of_mem _ h)
  have hown : s.vm.findClass RX1 = some m.cls := findClass_of_methodNamed Bd.named
  have hlocks := Bd.notSynchronized
  have hK := va_K.moved hW0.alike hE.K
  have hL : gx_L s0.heap.size ([] : List Loc) := gx_L0
  obtain ⟨Y, hR⟩ := hR
  have hl := lv_entry ([.ref s0.heap.size, .int (nI kd), .int (nI u), .int n]) (n := 6) (Nat.le_of_ble_eq_true rfl)
  rw [lg_entry_eq]
  generalize (lg_sl ([.ref s0.heap.size, .int (nI kd), .int (nI u), .int n]) ++ List.replicate (6 - (lg_sl ([.ref s0.heap.size, .int (nI kd), .int (nI u), .int n])).length) Slot.unset).toArray = ls at hl ⊢
  have hl : lv_has ls 6 [(0, .ref s0.heap.size), (1, .int (nI kd)), (2, .int (nI u)), (3, .int n)] := hl
  rcases hkd with rfl | rfl
  · refine lv_iload_n hx hb dX1_change_0 rfl (lv_at hl 1 rfl) ?_
    refine lv_iconst (v := 0) hx hb dX1_change_1 (by decide) ?_
    refine lv_iconst (v := 1) hx hb dX1_change_2 (by decide) ?_
    refine cc_v (va_runS (As := [.int (nI 0), .int 0, .int 1]) (rest := []) ⟨hx, hb, hml, hown, hts⟩ (ct_X1_isIn hE (nI 0) 0 1) (va_cwS 3 hts (lw_S q540 q541 q47 q542) rfl rfl rfl (by decide +kernel) ⟨Nat.le_of_ble_eq_true rfl, Nat.le_of_ble_eq_true rfl⟩) (cc_pS hW0) rfl rfl hl.1 rfl (lv_room (Nat.le_of_ble_eq_true rfl)) dX1_change_3 ⟨Nat.le_of_ble_eq_true rfl, Nat.le_of_ble_eq_true rfl⟩) hL (fun H locs hP1 hL => ?_)
    subst hP1
    refine cc_0 (va_runS (As := [.int (bZ (inR (nI 0) 0 1))]) (rest := []) ⟨hx, hb, hml, hown, hts⟩ (ct_X1_argue hE (x := bZ (inR (nI 0) 0 1)) (by decide)) (va_cwS 1 hts (lw_S q609 q610 q47 q611) rfl rfl rfl (by decide +kernel) ⟨Nat.le_of_ble_eq_true rfl, Nat.le_of_ble_eq_true rfl⟩) (cc_pS hW0) rfl rfl hl.1 rfl (lv_room (Nat.le_of_ble_eq_true rfl)) dX1_change_6 ⟨Nat.le_of_ble_eq_true rfl, Nat.le_of_ble_eq_true rfl⟩) hL (fun H locs hP1 hL => ?_)
    subst hP1
    refine lv_iload_n hx hb dX1_change_9 rfl (lv_at hl 1 rfl) ?_
    refine lv_if_ne (tgt := 20) hx hb dX1_change_10 (by decide) (fun c10 => ?_) (fun c10 => ?_)
    · exact absurd rfl c10
    · refine lv_aload_n hx hb dX1_change_13 rfl (lv_at hl 0 rfl) ?_
      refine gx_get (D := D) (cl := gcl) (ci := 0) (v := .ref (aB s0.heap.size 1)) (C := RX1) (T := TX1) (N := 10) hx hb hts in_X1 hown hK hR.np rfl 2 (by decide) (hts _ q274) (fun _ h9 => h9) rfl dX1_change_14 ?_
      refine lv_goto (tgt := 24) hx hb dX1_change_17 (by decide) ?_
      refine lv_iload_n hx hb dX1_change_24 rfl (lv_at hl 2 rfl) ?_
      refine cc_v (va_runS (As := [.ref (aB s0.heap.size 1), .int (nI u)]) (rest := []) ⟨hx, hb, hml, hown, hts⟩ (ct_X1_entry (j := 1) (u := u) hE hR (by decide) (by decide) hu) (va_cwS 2 hts (lw_S q770 q771 q47 q772) rfl rfl rfl (by decide +kernel) ⟨Nat.le_of_ble_eq_true rfl, Nat.le_of_ble_eq_true rfl⟩) (cc_pS hW0) rfl rfl hl.1 rfl (lv_room (Nat.le_of_ble_eq_true rfl)) dX1_change_25 ⟨Nat.le_of_ble_eq_true rfl, Nat.le_of_ble_eq_true rfl⟩) hL (fun H locs hP1 hL => ?_)
      subst hP1
      refine lv_astore (lv' := [(4, .ref (yE Y 1 u)), (0, .ref s0.heap.size), (1, .int (nI 0)), (2, .int (nI u)), (3, .int n)]) hx hb dX1_change_28 hl (by decide) rfl (fun ls hl => ?_)
      refine lv_iload_n hx hb dX1_change_30 rfl (lv_at hl 4 rfl) ?_
      refine lv_iconst (v := 0) hx hb dX1_change_31 (by decide) ?_
      refine lv_sipush (v := 1000) hx hb dX1_change_32 (by decide) ?_
      refine cc_v (va_runS (As := [.int n, .int 0, .int 1000]) (rest := []) ⟨hx, hb, hml, hown, hts⟩ (ct_X1_isIn hE n 0 1000) (va_cwS 3 hts (lw_S q540 q541 q47 q542) rfl rfl rfl (by decide +kernel) ⟨Nat.le_of_ble_eq_true rfl, Nat.le_of_ble_eq_true rfl⟩) (cc_pS hW0) rfl rfl hl.1 rfl (lv_room (Nat.le_of_ble_eq_true rfl)) dX1_change_35 ⟨Nat.le_of_ble_eq_true rfl, Nat.le_of_ble_eq_true rfl⟩) hL (fun H locs hP1 hL => ?_)
      subst hP1
      refine cc_0 (va_runS (As := [.int (bZ (inR n 0 1000))]) (rest := []) ⟨hx, hb, hml, hown, hts⟩ (ct_X1_argue hE (x := bZ (inR n 0 1000)) (by rw [hn]; decide)) (va_cwS 1 hts (lw_S q609 q610 q47 q611) rfl rfl rfl (by decide +kernel) ⟨Nat.le_of_ble_eq_true rfl, Nat.le_of_ble_eq_true rfl⟩) (cc_pS hW0) rfl rfl hl.1 rfl (lv_room (Nat.le_of_ble_eq_true rfl)) dX1_change_38 ⟨Nat.le_of_ble_eq_true rfl, Nat.le_of_ble_eq_true rfl⟩) hL (fun H locs hP1 hL => ?_)
      subst hP1
      refine lv_aload hx hb dX1_change_41 (lv_at hl 0 rfl) ?_
      refine gx_getN (D := D) (cl := gcl) (ci := 12) (v := .int (kE C 1 u 2)) (C := RX13) (T := TX13) (N := 3) hx hb hts in_X13 hown hK (hR.ent 1 u (by decide) (by decide) hu) rfl 2 (by decide) (hE.nF hW0 q750) (fun _ h9 => h9) rfl dX1_change_43 ?_
      refine lv_istore (lv' := [(5, .int (kE C 1 u 2)), (4, .ref (yE Y 1 u)), (0, .ref s0.heap.size), (1, .int (nI 0)), (2, .int (nI u)), (3, .int n)]) hx hb dX1_change_46 hl (by decide) rfl (fun ls hl => ?_)
      refine lv_aload hx hb dX1_change_48 (lv_at hl 1 rfl) ?_
      refine lv_iload_n hx hb dX1_change_50 rfl (lv_at hl 5 rfl) ?_
      refine gx_putN (D := D) (cl := gcl) (ci := 12) (v := .int n) (ty := .int) (C := RX13) (T := TX13) (N := 3) hx hb hts in_X13 tyX13 tyX13_ok nmX13 hown hK (hR.ent 1 u (by decide) (by decide) hu) rfl 2 (by decide) (hE.nF hW0 q750) (fun _ h9 => h9) rfl (by decide +kernel) (rfl) rfl (Nat.le_of_ble_eq_true rfl) hL (by have := (hR.lay.2.2.2.2.1 1 (by decide) (by decide) u hu).1; omega) dX1_change_51 (fun H locs hU hA hL => ?_)
      have hR := GRb.pE (j := 1) (i := u) (by decide) (by decide) hu hR hU hA
      refine lv_aload_n hx hb dX1_change_54 rfl (lv_at hl 2 rfl) ?_
      refine lv_aload_n hx hb dX1_change_55 rfl (lv_at hl 2 rfl) ?_
      refine gx_get (D := D) (cl := gcl) (ci := 0) (v := .ref (s0.heap.size + 1)) (C := RX1) (T := TX1) (N := 10) hx hb hts in_X1 hown hK hR.np rfl 0 (by decide) (hts _ q272) (fun _ h9 => h9) rfl dX1_change_56 ?_
      refine lv_aload hx hb dX1_change_59 (lv_at hl 1 rfl) ?_
      refine gx_getN (D := D) (cl := gcl) (ci := 12) (v := .int (kE (rE C (up3 (kE C) 1 u 2 n)) 1 u 0)) (C := RX13) (T := TX13) (N := 3) hx hb hts in_X13 hown hK (hR.ent 1 u (by decide) (by decide) hu) rfl 0 (by decide) (hE.nF hW0 q744) (fun _ h9 => h9) rfl dX1_change_61 ?_
      refine gx_aald (x := aI s0.heap.size a) hx hb hK 3 hR.its rfl a (by show up3 (kE C) 1 u 2 n 1 u 0 = _; rw [up3_w, va_up_ne _ _ (by decide)]; exact hea) (ha) (by decide) rfl dX1_change_64 ?_
      refine cc_0 (va_runV (b := s0.heap.size) (As := [.ref (aI s0.heap.size a)]) (rest := []) ⟨hx, hb, hml, hown, hts⟩ (ct_X1_tell hE ⟨_, hR⟩ ha) (cwV 1 hts (lw_V q627 q629 qs13 q47 q630) rfl rfl rfl (by decide +kernel) ⟨Nat.le_of_ble_eq_true rfl, Nat.le_of_ble_eq_true rfl⟩) (cc_pV hW0 (cc_re hK hR.np (show gcl[0]? = _ from rfl))) rfl rfl hl.1 rfl (lv_room (Nat.le_of_ble_eq_true rfl)) dX1_change_65 ⟨Nat.le_of_ble_eq_true rfl, Nat.le_of_ble_eq_true rfl⟩) hL (fun H locs hP1 hL => ?_)
      obtain ⟨Y, hR⟩ := hP1
      refine lv_iload hx hb dX1_change_68 (lv_at hl 0 rfl) ?_
      exact W.iret (v := (kE C 1 u 2)) hx hb hr (fun t ht hW => ⟨rfl, by rw [ht]; exact ⟨_, hR⟩⟩) hL dX1_change_70
  · refine lv_iload_n hx hb dX1_change_0 rfl (lv_at hl 1 rfl) ?_
    refine lv_iconst (v := 0) hx hb dX1_change_1 (by decide) ?_
    refine lv_iconst (v := 1) hx hb dX1_change_2 (by decide) ?_
    refine cc_v (va_runS (As := [.int (nI 1), .int 0, .int 1]) (rest := []) ⟨hx, hb, hml, hown, hts⟩ (ct_X1_isIn hE (nI 1) 0 1) (va_cwS 3 hts (lw_S q540 q541 q47 q542) rfl rfl rfl (by decide +kernel) ⟨Nat.le_of_ble_eq_true rfl, Nat.le_of_ble_eq_true rfl⟩) (cc_pS hW0) rfl rfl hl.1 rfl (lv_room (Nat.le_of_ble_eq_true rfl)) dX1_change_3 ⟨Nat.le_of_ble_eq_true rfl, Nat.le_of_ble_eq_true rfl⟩) hL (fun H locs hP1 hL => ?_)
    subst hP1
    refine cc_0 (va_runS (As := [.int (bZ (inR (nI 1) 0 1))]) (rest := []) ⟨hx, hb, hml, hown, hts⟩ (ct_X1_argue hE (x := bZ (inR (nI 1) 0 1)) (by decide)) (va_cwS 1 hts (lw_S q609 q610 q47 q611) rfl rfl rfl (by decide +kernel) ⟨Nat.le_of_ble_eq_true rfl, Nat.le_of_ble_eq_true rfl⟩) (cc_pS hW0) rfl rfl hl.1 rfl (lv_room (Nat.le_of_ble_eq_true rfl)) dX1_change_6 ⟨Nat.le_of_ble_eq_true rfl, Nat.le_of_ble_eq_true rfl⟩) hL (fun H locs hP1 hL => ?_)
    subst hP1
    refine lv_iload_n hx hb dX1_change_9 rfl (lv_at hl 1 rfl) ?_
    refine lv_if_ne (tgt := 20) hx hb dX1_change_10 (by decide) (fun c10 => ?_) (fun c10 => ?_)
    · refine lv_aload_n hx hb dX1_change_20 rfl (lv_at hl 0 rfl) ?_
      refine gx_get (D := D) (cl := gcl) (ci := 0) (v := .ref (aB s0.heap.size 2)) (C := RX1) (T := TX1) (N := 10) hx hb hts in_X1 hown hK hR.np rfl 3 (by decide) (hts _ q275) (fun _ h9 => h9) rfl dX1_change_21 ?_
      refine lv_iload_n hx hb dX1_change_24 rfl (lv_at hl 2 rfl) ?_
      refine cc_v (va_runS (As := [.ref (aB s0.heap.size 2), .int (nI u)]) (rest := []) ⟨hx, hb, hml, hown, hts⟩ (ct_X1_entry (j := 2) (u := u) hE hR (by decide) (by decide) hu) (va_cwS 2 hts (lw_S q770 q771 q47 q772) rfl rfl rfl (by decide +kernel) ⟨Nat.le_of_ble_eq_true rfl, Nat.le_of_ble_eq_true rfl⟩) (cc_pS hW0) rfl rfl hl.1 rfl (lv_room (Nat.le_of_ble_eq_true rfl)) dX1_change_25 ⟨Nat.le_of_ble_eq_true rfl, Nat.le_of_ble_eq_true rfl⟩) hL (fun H locs hP1 hL => ?_)
      subst hP1
      refine lv_astore (lv' := [(4, .ref (yE Y 2 u)), (0, .ref s0.heap.size), (1, .int (nI 1)), (2, .int (nI u)), (3, .int n)]) hx hb dX1_change_28 hl (by decide) rfl (fun ls hl => ?_)
      refine lv_iload_n hx hb dX1_change_30 rfl (lv_at hl 4 rfl) ?_
      refine lv_iconst (v := 0) hx hb dX1_change_31 (by decide) ?_
      refine lv_sipush (v := 1000) hx hb dX1_change_32 (by decide) ?_
      refine cc_v (va_runS (As := [.int n, .int 0, .int 1000]) (rest := []) ⟨hx, hb, hml, hown, hts⟩ (ct_X1_isIn hE n 0 1000) (va_cwS 3 hts (lw_S q540 q541 q47 q542) rfl rfl rfl (by decide +kernel) ⟨Nat.le_of_ble_eq_true rfl, Nat.le_of_ble_eq_true rfl⟩) (cc_pS hW0) rfl rfl hl.1 rfl (lv_room (Nat.le_of_ble_eq_true rfl)) dX1_change_35 ⟨Nat.le_of_ble_eq_true rfl, Nat.le_of_ble_eq_true rfl⟩) hL (fun H locs hP1 hL => ?_)
      subst hP1
      refine cc_0 (va_runS (As := [.int (bZ (inR n 0 1000))]) (rest := []) ⟨hx, hb, hml, hown, hts⟩ (ct_X1_argue hE (x := bZ (inR n 0 1000)) (by rw [hn]; decide)) (va_cwS 1 hts (lw_S q609 q610 q47 q611) rfl rfl rfl (by decide +kernel) ⟨Nat.le_of_ble_eq_true rfl, Nat.le_of_ble_eq_true rfl⟩) (cc_pS hW0) rfl rfl hl.1 rfl (lv_room (Nat.le_of_ble_eq_true rfl)) dX1_change_38 ⟨Nat.le_of_ble_eq_true rfl, Nat.le_of_ble_eq_true rfl⟩) hL (fun H locs hP1 hL => ?_)
      subst hP1
      refine lv_aload hx hb dX1_change_41 (lv_at hl 0 rfl) ?_
      refine gx_getN (D := D) (cl := gcl) (ci := 12) (v := .int (kE C 2 u 2)) (C := RX13) (T := TX13) (N := 3) hx hb hts in_X13 hown hK (hR.ent 2 u (by decide) (by decide) hu) rfl 2 (by decide) (hE.nF hW0 q750) (fun _ h9 => h9) rfl dX1_change_43 ?_
      refine lv_istore (lv' := [(5, .int (kE C 2 u 2)), (4, .ref (yE Y 2 u)), (0, .ref s0.heap.size), (1, .int (nI 1)), (2, .int (nI u)), (3, .int n)]) hx hb dX1_change_46 hl (by decide) rfl (fun ls hl => ?_)
      refine lv_aload hx hb dX1_change_48 (lv_at hl 1 rfl) ?_
      refine lv_iload_n hx hb dX1_change_50 rfl (lv_at hl 5 rfl) ?_
      refine gx_putN (D := D) (cl := gcl) (ci := 12) (v := .int n) (ty := .int) (C := RX13) (T := TX13) (N := 3) hx hb hts in_X13 tyX13 tyX13_ok nmX13 hown hK (hR.ent 2 u (by decide) (by decide) hu) rfl 2 (by decide) (hE.nF hW0 q750) (fun _ h9 => h9) rfl (by decide +kernel) (rfl) rfl (Nat.le_of_ble_eq_true rfl) hL (by have := (hR.lay.2.2.2.2.1 2 (by decide) (by decide) u hu).1; omega) dX1_change_51 (fun H locs hU hA hL => ?_)
      have hR := GRb.pE (j := 2) (i := u) (by decide) (by decide) hu hR hU hA
      refine lv_aload_n hx hb dX1_change_54 rfl (lv_at hl 2 rfl) ?_
      refine lv_aload_n hx hb dX1_change_55 rfl (lv_at hl 2 rfl) ?_
      refine gx_get (D := D) (cl := gcl) (ci := 0) (v := .ref (s0.heap.size + 1)) (C := RX1) (T := TX1) (N := 10) hx hb hts in_X1 hown hK hR.np rfl 0 (by decide) (hts _ q272) (fun _ h9 => h9) rfl dX1_change_56 ?_
      refine lv_aload hx hb dX1_change_59 (lv_at hl 1 rfl) ?_
      refine gx_getN (D := D) (cl := gcl) (ci := 12) (v := .int (kE (rE C (up3 (kE C) 2 u 2 n)) 2 u 0)) (C := RX13) (T := TX13) (N := 3) hx hb hts in_X13 hown hK (hR.ent 2 u (by decide) (by decide) hu) rfl 0 (by decide) (hE.nF hW0 q744) (fun _ h9 => h9) rfl dX1_change_61 ?_
      refine gx_aald (x := aI s0.heap.size a) hx hb hK 3 hR.its rfl a (by show up3 (kE C) 2 u 2 n 2 u 0 = _; rw [up3_w, va_up_ne _ _ (by decide)]; exact hea) (ha) (by decide) rfl dX1_change_64 ?_
      refine cc_0 (va_runV (b := s0.heap.size) (As := [.ref (aI s0.heap.size a)]) (rest := []) ⟨hx, hb, hml, hown, hts⟩ (ct_X1_tell hE ⟨_, hR⟩ ha) (cwV 1 hts (lw_V q627 q629 qs13 q47 q630) rfl rfl rfl (by decide +kernel) ⟨Nat.le_of_ble_eq_true rfl, Nat.le_of_ble_eq_true rfl⟩) (cc_pV hW0 (cc_re hK hR.np (show gcl[0]? = _ from rfl))) rfl rfl hl.1 rfl (lv_room (Nat.le_of_ble_eq_true rfl)) dX1_change_65 ⟨Nat.le_of_ble_eq_true rfl, Nat.le_of_ble_eq_true rfl⟩) hL (fun H locs hP1 hL => ?_)
      obtain ⟨Y, hR⟩ := hP1
      refine lv_iload hx hb dX1_change_68 (lv_at hl 0 rfl) ?_
      exact W.iret (v := (kE C 2 u 2)) hx hb hr (fun t ht hW => ⟨rfl, by rw [ht]; exact ⟨_, hR⟩⟩) hL dX1_change_70
    · exact absurd c10 (by decide)
set_option maxHeartbeats 4000000 in
set_option maxRecDepth 100000 in
theorem ct_X1_change_A {l : Launch} {s0 : State} {D : va_G} {DA : Nat → ClassId} {z0 : Nat} {C : CS} {M : MS} {o : Int64} {H : Heap} (hE : G0 l s0 D DA z0) (hR : RR s0 D DA z0 C M o H) (kd x n : Int32) (h : inR kd 0 1 = false) : MetT l yX1_change (ws_ yX1_change cX1_change 6 (some .int)) ({ frames := 7, cells := 1, slots := 6, locals := 102 }) (cP s0 [.ref s0.heap.size, .int kd, .int x, .int n] H) (cQT s0 "java/lang/IllegalArgumentException" (fun H1 => RR s0 D DA z0 C M o H1)) 1 6 (cF s0) := by
  refine MetT.ofW (cc := cX1_change) (maxL := 6) (ret := (some .int)) (by decide) rfl ?_
  intro p e s m args below meth c s₁ Bd hml hv
  obtain ⟨rfl, rfl, hW0⟩ := hv
  have hx := Bd.exec
  have hb := Bd.bytes
  have hr := Bd.returns
  have hts := atoms_spec (ws := (ws_ yX1_change cX1_change 6 (some .int))) Bd.pre
  have hno := BodyLoose.noHandlers Bd (hts _ List.mem_cons_self)
  have hts : ∀ w ∈ lw_all, w.before _ s = true := fun w h => hts w (List.mem_cons_of_mem _ h)
  have hown : s.vm.findClass RX1 = some m.cls := findClass_of_methodNamed Bd.named
  have hlocks := Bd.notSynchronized
  have hK := va_K.moved hW0.alike hE.K
  have hL : gx_L s0.heap.size ([] : List Loc) := gx_L0
  obtain ⟨Y, hR⟩ := hR
  have hl := lv_entry ([.ref s0.heap.size, .int kd, .int x, .int n]) (n := 6) (Nat.le_of_ble_eq_true rfl)
  rw [lg_entry_eq]
  generalize (lg_sl ([.ref s0.heap.size, .int kd, .int x, .int n]) ++ List.replicate (6 - (lg_sl ([.ref s0.heap.size, .int kd, .int x, .int n])).length) Slot.unset).toArray = ls at hl ⊢
  have hl : lv_has ls 6 [(0, .ref s0.heap.size), (1, .int kd), (2, .int x), (3, .int n)] := hl
  refine lv_iload_n hx hb dX1_change_0 rfl (lv_at hl 1 rfl) ?_
  refine lv_iconst (v := 0) hx hb dX1_change_1 (by decide) ?_
  refine lv_iconst (v := 1) hx hb dX1_change_2 (by decide) ?_
  refine cc_v (va_runS (As := [.int kd, .int 0, .int 1]) (rest := []) ⟨hx, hb, hml, hown, hts⟩ (ct_X1_isIn hE kd 0 1) (va_cwS 3 hts (lw_S q540 q541 q47 q542) rfl rfl rfl (by decide +kernel) ⟨Nat.le_of_ble_eq_true rfl, Nat.le_of_ble_eq_true rfl⟩) (cc_pS hW0) rfl rfl hl.1 rfl (lv_room (Nat.le_of_ble_eq_true rfl)) dX1_change_3 ⟨Nat.le_of_ble_eq_true rfl, Nat.le_of_ble_eq_true rfl⟩) hL (fun H locs hP1 hL => ?_)
  subst hP1
  exact gt_leave (va_runTS (As := [.int (bZ (inR kd 0 1))]) (rest := []) ⟨hx, hb, hml, hown, hts⟩ (ct_X1_argue_T hE ⟨_, hR⟩ (x := bZ (inR kd 0 1)) (by rw [h]; rfl)) (va_cwS 1 hts (lw_S q609 q610 q47 q611) rfl rfl rfl (by decide +kernel) ⟨Nat.le_of_ble_eq_true rfl, Nat.le_of_ble_eq_true rfl⟩) (cc_pS hW0) rfl rfl hl.1 rfl (lv_room (Nat.le_of_ble_eq_true rfl)) dX1_change_6 ⟨Nat.le_of_ble_eq_true rfl, Nat.le_of_ble_eq_true rfl⟩) hno (fun st t u x hq h1 h2 h3 => ⟨by rw [h1]; exact hq.1, by rw [h1]; exact hq.2⟩) hL (fun q h => h) Bd.notSynchronized
set_option maxHeartbeats 4000000 in
set_option maxRecDepth 100000 in
theorem ct_X1_change_I {l : Launch} {s0 : State} {D : va_G} {DA : Nat → ClassId} {z0 : Nat} {C : CS} {M : MS} {o : Int64} {H : Heap} (hE : G0 l s0 D DA z0) (hR : RR s0 D DA z0 C M o H) {kd : Nat} (hkd : kd = 0 ∨ kd = 1) (x n : Int32) (h : inR x 0 (nI (kN C (kd + 1)) - 1) = false) : MetT l yX1_change (ws_ yX1_change cX1_change 6 (some .int)) ({ frames := 8, cells := 1, slots := 6, locals := 123 }) (cP s0 [.ref s0.heap.size, .int (nI kd), .int x, .int n] H) (cQT s0 "java/lang/IndexOutOfBoundsException" (fun H1 => RR s0 D DA z0 C M o H1)) 1 6 (cF s0) := by
  refine MetT.ofW (cc := cX1_change) (maxL := 6) (ret := (some .int)) (by decide) rfl ?_
  intro p e s m args below meth c s₁ Bd hml hv
  obtain ⟨rfl, rfl, hW0⟩ := hv
  have hx := Bd.exec
  have hb := Bd.bytes
  have hr := Bd.returns
  have hts := atoms_spec (ws := (ws_ yX1_change cX1_change 6 (some .int))) Bd.pre
  have hno := BodyLoose.noHandlers Bd (hts _ List.mem_cons_self)
  have hts : ∀ w ∈ lw_all, w.before _ s = true := fun w h => hts w (List.mem_cons_of_mem _ h)
  have hown : s.vm.findClass RX1 = some m.cls := findClass_of_methodNamed Bd.named
  have hlocks := Bd.notSynchronized
  have hK := va_K.moved hW0.alike hE.K
  have hL : gx_L s0.heap.size ([] : List Loc) := gx_L0
  obtain ⟨Y, hR⟩ := hR
  have hl := lv_entry ([.ref s0.heap.size, .int (nI kd), .int x, .int n]) (n := 6) (Nat.le_of_ble_eq_true rfl)
  rw [lg_entry_eq]
  generalize (lg_sl ([.ref s0.heap.size, .int (nI kd), .int x, .int n]) ++ List.replicate (6 - (lg_sl ([.ref s0.heap.size, .int (nI kd), .int x, .int n])).length) Slot.unset).toArray = ls at hl ⊢
  have hl : lv_has ls 6 [(0, .ref s0.heap.size), (1, .int (nI kd)), (2, .int x), (3, .int n)] := hl
  rcases hkd with rfl | rfl
  · refine lv_iload_n hx hb dX1_change_0 rfl (lv_at hl 1 rfl) ?_
    refine lv_iconst (v := 0) hx hb dX1_change_1 (by decide) ?_
    refine lv_iconst (v := 1) hx hb dX1_change_2 (by decide) ?_
    refine cc_v (va_runS (As := [.int (nI 0), .int 0, .int 1]) (rest := []) ⟨hx, hb, hml, hown, hts⟩ (ct_X1_isIn hE (nI 0) 0 1) (va_cwS 3 hts (lw_S q540 q541 q47 q542) rfl rfl rfl (by decide +kernel) ⟨Nat.le_of_ble_eq_true rfl, Nat.le_of_ble_eq_true rfl⟩) (cc_pS hW0) rfl rfl hl.1 rfl (lv_room (Nat.le_of_ble_eq_true rfl)) dX1_change_3 ⟨Nat.le_of_ble_eq_true rfl, Nat.le_of_ble_eq_true rfl⟩) hL (fun H locs hP1 hL => ?_)
    subst hP1
    refine cc_0 (va_runS (As := [.int (bZ (inR (nI 0) 0 1))]) (rest := []) ⟨hx, hb, hml, hown, hts⟩ (ct_X1_argue hE (x := bZ (inR (nI 0) 0 1)) (by decide)) (va_cwS 1 hts (lw_S q609 q610 q47 q611) rfl rfl rfl (by decide +kernel) ⟨Nat.le_of_ble_eq_true rfl, Nat.le_of_ble_eq_true rfl⟩) (cc_pS hW0) rfl rfl hl.1 rfl (lv_room (Nat.le_of_ble_eq_true rfl)) dX1_change_6 ⟨Nat.le_of_ble_eq_true rfl, Nat.le_of_ble_eq_true rfl⟩) hL (fun H locs hP1 hL => ?_)
    subst hP1
    refine lv_iload_n hx hb dX1_change_9 rfl (lv_at hl 1 rfl) ?_
    refine lv_if_ne (tgt := 20) hx hb dX1_change_10 (by decide) (fun c10 => ?_) (fun c10 => ?_)
    · exact absurd rfl c10
    · refine lv_aload_n hx hb dX1_change_13 rfl (lv_at hl 0 rfl) ?_
      refine gx_get (D := D) (cl := gcl) (ci := 0) (v := .ref (aB s0.heap.size 1)) (C := RX1) (T := TX1) (N := 10) hx hb hts in_X1 hown hK hR.np rfl 2 (by decide) (hts _ q274) (fun _ h9 => h9) rfl dX1_change_14 ?_
      refine lv_goto (tgt := 24) hx hb dX1_change_17 (by decide) ?_
      refine lv_iload_n hx hb dX1_change_24 rfl (lv_at hl 2 rfl) ?_
      exact gt_leave (va_runTS (As := [.ref (aB s0.heap.size 1), .int x]) (rest := []) ⟨hx, hb, hml, hown, hts⟩ (ct_X1_entry_T (j := 1) hE ⟨_, hR⟩ (by decide) (by decide) x h) (va_cwS 2 hts (lw_S q770 q771 q47 q772) rfl rfl rfl (by decide +kernel) ⟨Nat.le_of_ble_eq_true rfl, Nat.le_of_ble_eq_true rfl⟩) (cc_pS hW0) rfl rfl hl.1 rfl (lv_room (Nat.le_of_ble_eq_true rfl)) dX1_change_25 ⟨Nat.le_of_ble_eq_true rfl, Nat.le_of_ble_eq_true rfl⟩) hno (fun st t u x hq h1 h2 h3 => ⟨by rw [h1]; exact hq.1, by rw [h1]; exact hq.2⟩) hL (fun q h => h) Bd.notSynchronized
  · refine lv_iload_n hx hb dX1_change_0 rfl (lv_at hl 1 rfl) ?_
    refine lv_iconst (v := 0) hx hb dX1_change_1 (by decide) ?_
    refine lv_iconst (v := 1) hx hb dX1_change_2 (by decide) ?_
    refine cc_v (va_runS (As := [.int (nI 1), .int 0, .int 1]) (rest := []) ⟨hx, hb, hml, hown, hts⟩ (ct_X1_isIn hE (nI 1) 0 1) (va_cwS 3 hts (lw_S q540 q541 q47 q542) rfl rfl rfl (by decide +kernel) ⟨Nat.le_of_ble_eq_true rfl, Nat.le_of_ble_eq_true rfl⟩) (cc_pS hW0) rfl rfl hl.1 rfl (lv_room (Nat.le_of_ble_eq_true rfl)) dX1_change_3 ⟨Nat.le_of_ble_eq_true rfl, Nat.le_of_ble_eq_true rfl⟩) hL (fun H locs hP1 hL => ?_)
    subst hP1
    refine cc_0 (va_runS (As := [.int (bZ (inR (nI 1) 0 1))]) (rest := []) ⟨hx, hb, hml, hown, hts⟩ (ct_X1_argue hE (x := bZ (inR (nI 1) 0 1)) (by decide)) (va_cwS 1 hts (lw_S q609 q610 q47 q611) rfl rfl rfl (by decide +kernel) ⟨Nat.le_of_ble_eq_true rfl, Nat.le_of_ble_eq_true rfl⟩) (cc_pS hW0) rfl rfl hl.1 rfl (lv_room (Nat.le_of_ble_eq_true rfl)) dX1_change_6 ⟨Nat.le_of_ble_eq_true rfl, Nat.le_of_ble_eq_true rfl⟩) hL (fun H locs hP1 hL => ?_)
    subst hP1
    refine lv_iload_n hx hb dX1_change_9 rfl (lv_at hl 1 rfl) ?_
    refine lv_if_ne (tgt := 20) hx hb dX1_change_10 (by decide) (fun c10 => ?_) (fun c10 => ?_)
    · refine lv_aload_n hx hb dX1_change_20 rfl (lv_at hl 0 rfl) ?_
      refine gx_get (D := D) (cl := gcl) (ci := 0) (v := .ref (aB s0.heap.size 2)) (C := RX1) (T := TX1) (N := 10) hx hb hts in_X1 hown hK hR.np rfl 3 (by decide) (hts _ q275) (fun _ h9 => h9) rfl dX1_change_21 ?_
      refine lv_iload_n hx hb dX1_change_24 rfl (lv_at hl 2 rfl) ?_
      exact gt_leave (va_runTS (As := [.ref (aB s0.heap.size 2), .int x]) (rest := []) ⟨hx, hb, hml, hown, hts⟩ (ct_X1_entry_T (j := 2) hE ⟨_, hR⟩ (by decide) (by decide) x h) (va_cwS 2 hts (lw_S q770 q771 q47 q772) rfl rfl rfl (by decide +kernel) ⟨Nat.le_of_ble_eq_true rfl, Nat.le_of_ble_eq_true rfl⟩) (cc_pS hW0) rfl rfl hl.1 rfl (lv_room (Nat.le_of_ble_eq_true rfl)) dX1_change_25 ⟨Nat.le_of_ble_eq_true rfl, Nat.le_of_ble_eq_true rfl⟩) hno (fun st t u x hq h1 h2 h3 => ⟨by rw [h1]; exact hq.1, by rw [h1]; exact hq.2⟩) hL (fun q h => h) Bd.notSynchronized
    · exact absurd c10 (by decide)
set_option maxHeartbeats 4000000 in
set_option maxRecDepth 100000 in
theorem ct_X1_change_B {l : Launch} {s0 : State} {D : va_G} {DA : Nat → ClassId} {z0 : Nat} {C : CS} {M : MS} {o : Int64} {H : Heap} (hE : G0 l s0 D DA z0) (hR : RR s0 D DA z0 C M o H) {kd u : Nat} (hkd : kd = 0 ∨ kd = 1) (hu : u < kN C (kd + 1)) (n : Int32) (hn : inR n 0 1000 = false) : MetT l yX1_change (ws_ yX1_change cX1_change 6 (some .int)) ({ frames := 7, cells := 1, slots := 6, locals := 102 }) (cP s0 [.ref s0.heap.size, .int (nI kd), .int (nI u), .int n] H) (cQT s0 "java/lang/IllegalArgumentException" (fun H1 => RR s0 D DA z0 C M o H1)) 1 6 (cF s0) := by
  refine MetT.ofW (cc := cX1_change) (maxL := 6) (ret := (some .int)) (by decide) rfl ?_
  intro p e s m args below meth c s₁ Bd hml hv
  obtain ⟨rfl, rfl, hW0⟩ := hv
  have hx := Bd.exec
  have hb := Bd.bytes
  have hr := Bd.returns
  have hts := atoms_spec (ws := (ws_ yX1_change cX1_change 6 (some .int))) Bd.pre
  have hno := BodyLoose.noHandlers Bd (hts _ List.mem_cons_self)
  have hts : ∀ w ∈ lw_all, w.before _ s = true := fun w h => hts w (List.mem_cons_of_mem _ h)
  have hown : s.vm.findClass RX1 = some m.cls := findClass_of_methodNamed Bd.named
  have hlocks := Bd.notSynchronized
  have hK := va_K.moved hW0.alike hE.K
  have hL : gx_L s0.heap.size ([] : List Loc) := gx_L0
  obtain ⟨Y, hR⟩ := hR
  have hl := lv_entry ([.ref s0.heap.size, .int (nI kd), .int (nI u), .int n]) (n := 6) (Nat.le_of_ble_eq_true rfl)
  rw [lg_entry_eq]
  generalize (lg_sl ([.ref s0.heap.size, .int (nI kd), .int (nI u), .int n]) ++ List.replicate (6 - (lg_sl ([.ref s0.heap.size, .int (nI kd), .int (nI u), .int n])).length) Slot.unset).toArray = ls at hl ⊢
  have hl : lv_has ls 6 [(0, .ref s0.heap.size), (1, .int (nI kd)), (2, .int (nI u)), (3, .int n)] := hl
  rcases hkd with rfl | rfl
  · refine lv_iload_n hx hb dX1_change_0 rfl (lv_at hl 1 rfl) ?_
    refine lv_iconst (v := 0) hx hb dX1_change_1 (by decide) ?_
    refine lv_iconst (v := 1) hx hb dX1_change_2 (by decide) ?_
    refine cc_v (va_runS (As := [.int (nI 0), .int 0, .int 1]) (rest := []) ⟨hx, hb, hml, hown, hts⟩ (ct_X1_isIn hE (nI 0) 0 1) (va_cwS 3 hts (lw_S q540 q541 q47 q542) rfl rfl rfl (by decide +kernel) ⟨Nat.le_of_ble_eq_true rfl, Nat.le_of_ble_eq_true rfl⟩) (cc_pS hW0) rfl rfl hl.1 rfl (lv_room (Nat.le_of_ble_eq_true rfl)) dX1_change_3 ⟨Nat.le_of_ble_eq_true rfl, Nat.le_of_ble_eq_true rfl⟩) hL (fun H locs hP1 hL => ?_)
    subst hP1
    refine cc_0 (va_runS (As := [.int (bZ (inR (nI 0) 0 1))]) (rest := []) ⟨hx, hb, hml, hown, hts⟩ (ct_X1_argue hE (x := bZ (inR (nI 0) 0 1)) (by decide)) (va_cwS 1 hts (lw_S q609 q610 q47 q611) rfl rfl rfl (by decide +kernel) ⟨Nat.le_of_ble_eq_true rfl, Nat.le_of_ble_eq_true rfl⟩) (cc_pS hW0) rfl rfl hl.1 rfl (lv_room (Nat.le_of_ble_eq_true rfl)) dX1_change_6 ⟨Nat.le_of_ble_eq_true rfl, Nat.le_of_ble_eq_true rfl⟩) hL (fun H locs hP1 hL => ?_)
    subst hP1
    refine lv_iload_n hx hb dX1_change_9 rfl (lv_at hl 1 rfl) ?_
    refine lv_if_ne (tgt := 20) hx hb dX1_change_10 (by decide) (fun c10 => ?_) (fun c10 => ?_)
    · exact absurd rfl c10
    · refine lv_aload_n hx hb dX1_change_13 rfl (lv_at hl 0 rfl) ?_
      refine gx_get (D := D) (cl := gcl) (ci := 0) (v := .ref (aB s0.heap.size 1)) (C := RX1) (T := TX1) (N := 10) hx hb hts in_X1 hown hK hR.np rfl 2 (by decide) (hts _ q274) (fun _ h9 => h9) rfl dX1_change_14 ?_
      refine lv_goto (tgt := 24) hx hb dX1_change_17 (by decide) ?_
      refine lv_iload_n hx hb dX1_change_24 rfl (lv_at hl 2 rfl) ?_
      refine cc_v (va_runS (As := [.ref (aB s0.heap.size 1), .int (nI u)]) (rest := []) ⟨hx, hb, hml, hown, hts⟩ (ct_X1_entry (j := 1) (u := u) hE hR (by decide) (by decide) hu) (va_cwS 2 hts (lw_S q770 q771 q47 q772) rfl rfl rfl (by decide +kernel) ⟨Nat.le_of_ble_eq_true rfl, Nat.le_of_ble_eq_true rfl⟩) (cc_pS hW0) rfl rfl hl.1 rfl (lv_room (Nat.le_of_ble_eq_true rfl)) dX1_change_25 ⟨Nat.le_of_ble_eq_true rfl, Nat.le_of_ble_eq_true rfl⟩) hL (fun H locs hP1 hL => ?_)
      subst hP1
      refine lv_astore (lv' := [(4, .ref (yE Y 1 u)), (0, .ref s0.heap.size), (1, .int (nI 0)), (2, .int (nI u)), (3, .int n)]) hx hb dX1_change_28 hl (by decide) rfl (fun ls hl => ?_)
      refine lv_iload_n hx hb dX1_change_30 rfl (lv_at hl 4 rfl) ?_
      refine lv_iconst (v := 0) hx hb dX1_change_31 (by decide) ?_
      refine lv_sipush (v := 1000) hx hb dX1_change_32 (by decide) ?_
      refine cc_v (va_runS (As := [.int n, .int 0, .int 1000]) (rest := []) ⟨hx, hb, hml, hown, hts⟩ (ct_X1_isIn hE n 0 1000) (va_cwS 3 hts (lw_S q540 q541 q47 q542) rfl rfl rfl (by decide +kernel) ⟨Nat.le_of_ble_eq_true rfl, Nat.le_of_ble_eq_true rfl⟩) (cc_pS hW0) rfl rfl hl.1 rfl (lv_room (Nat.le_of_ble_eq_true rfl)) dX1_change_35 ⟨Nat.le_of_ble_eq_true rfl, Nat.le_of_ble_eq_true rfl⟩) hL (fun H locs hP1 hL => ?_)
      subst hP1
      exact gt_leave (va_runTS (As := [.int (bZ (inR n 0 1000))]) (rest := []) ⟨hx, hb, hml, hown, hts⟩ (ct_X1_argue_T hE ⟨_, hR⟩ (x := bZ (inR n 0 1000)) (by rw [hn]; rfl)) (va_cwS 1 hts (lw_S q609 q610 q47 q611) rfl rfl rfl (by decide +kernel) ⟨Nat.le_of_ble_eq_true rfl, Nat.le_of_ble_eq_true rfl⟩) (cc_pS hW0) rfl rfl hl.1 rfl (lv_room (Nat.le_of_ble_eq_true rfl)) dX1_change_38 ⟨Nat.le_of_ble_eq_true rfl, Nat.le_of_ble_eq_true rfl⟩) hno (fun st t u x hq h1 h2 h3 => ⟨by rw [h1]; exact hq.1, by rw [h1]; exact hq.2⟩) hL (fun q h => h) Bd.notSynchronized
  · refine lv_iload_n hx hb dX1_change_0 rfl (lv_at hl 1 rfl) ?_
    refine lv_iconst (v := 0) hx hb dX1_change_1 (by decide) ?_
    refine lv_iconst (v := 1) hx hb dX1_change_2 (by decide) ?_
    refine cc_v (va_runS (As := [.int (nI 1), .int 0, .int 1]) (rest := []) ⟨hx, hb, hml, hown, hts⟩ (ct_X1_isIn hE (nI 1) 0 1) (va_cwS 3 hts (lw_S q540 q541 q47 q542) rfl rfl rfl (by decide +kernel) ⟨Nat.le_of_ble_eq_true rfl, Nat.le_of_ble_eq_true rfl⟩) (cc_pS hW0) rfl rfl hl.1 rfl (lv_room (Nat.le_of_ble_eq_true rfl)) dX1_change_3 ⟨Nat.le_of_ble_eq_true rfl, Nat.le_of_ble_eq_true rfl⟩) hL (fun H locs hP1 hL => ?_)
    subst hP1
    refine cc_0 (va_runS (As := [.int (bZ (inR (nI 1) 0 1))]) (rest := []) ⟨hx, hb, hml, hown, hts⟩ (ct_X1_argue hE (x := bZ (inR (nI 1) 0 1)) (by decide)) (va_cwS 1 hts (lw_S q609 q610 q47 q611) rfl rfl rfl (by decide +kernel) ⟨Nat.le_of_ble_eq_true rfl, Nat.le_of_ble_eq_true rfl⟩) (cc_pS hW0) rfl rfl hl.1 rfl (lv_room (Nat.le_of_ble_eq_true rfl)) dX1_change_6 ⟨Nat.le_of_ble_eq_true rfl, Nat.le_of_ble_eq_true rfl⟩) hL (fun H locs hP1 hL => ?_)
    subst hP1
    refine lv_iload_n hx hb dX1_change_9 rfl (lv_at hl 1 rfl) ?_
    refine lv_if_ne (tgt := 20) hx hb dX1_change_10 (by decide) (fun c10 => ?_) (fun c10 => ?_)
    · refine lv_aload_n hx hb dX1_change_20 rfl (lv_at hl 0 rfl) ?_
      refine gx_get (D := D) (cl := gcl) (ci := 0) (v := .ref (aB s0.heap.size 2)) (C := RX1) (T := TX1) (N := 10) hx hb hts in_X1 hown hK hR.np rfl 3 (by decide) (hts _ q275) (fun _ h9 => h9) rfl dX1_change_21 ?_
      refine lv_iload_n hx hb dX1_change_24 rfl (lv_at hl 2 rfl) ?_
      refine cc_v (va_runS (As := [.ref (aB s0.heap.size 2), .int (nI u)]) (rest := []) ⟨hx, hb, hml, hown, hts⟩ (ct_X1_entry (j := 2) (u := u) hE hR (by decide) (by decide) hu) (va_cwS 2 hts (lw_S q770 q771 q47 q772) rfl rfl rfl (by decide +kernel) ⟨Nat.le_of_ble_eq_true rfl, Nat.le_of_ble_eq_true rfl⟩) (cc_pS hW0) rfl rfl hl.1 rfl (lv_room (Nat.le_of_ble_eq_true rfl)) dX1_change_25 ⟨Nat.le_of_ble_eq_true rfl, Nat.le_of_ble_eq_true rfl⟩) hL (fun H locs hP1 hL => ?_)
      subst hP1
      refine lv_astore (lv' := [(4, .ref (yE Y 2 u)), (0, .ref s0.heap.size), (1, .int (nI 1)), (2, .int (nI u)), (3, .int n)]) hx hb dX1_change_28 hl (by decide) rfl (fun ls hl => ?_)
      refine lv_iload_n hx hb dX1_change_30 rfl (lv_at hl 4 rfl) ?_
      refine lv_iconst (v := 0) hx hb dX1_change_31 (by decide) ?_
      refine lv_sipush (v := 1000) hx hb dX1_change_32 (by decide) ?_
      refine cc_v (va_runS (As := [.int n, .int 0, .int 1000]) (rest := []) ⟨hx, hb, hml, hown, hts⟩ (ct_X1_isIn hE n 0 1000) (va_cwS 3 hts (lw_S q540 q541 q47 q542) rfl rfl rfl (by decide +kernel) ⟨Nat.le_of_ble_eq_true rfl, Nat.le_of_ble_eq_true rfl⟩) (cc_pS hW0) rfl rfl hl.1 rfl (lv_room (Nat.le_of_ble_eq_true rfl)) dX1_change_35 ⟨Nat.le_of_ble_eq_true rfl, Nat.le_of_ble_eq_true rfl⟩) hL (fun H locs hP1 hL => ?_)
      subst hP1
      exact gt_leave (va_runTS (As := [.int (bZ (inR n 0 1000))]) (rest := []) ⟨hx, hb, hml, hown, hts⟩ (ct_X1_argue_T hE ⟨_, hR⟩ (x := bZ (inR n 0 1000)) (by rw [hn]; rfl)) (va_cwS 1 hts (lw_S q609 q610 q47 q611) rfl rfl rfl (by decide +kernel) ⟨Nat.le_of_ble_eq_true rfl, Nat.le_of_ble_eq_true rfl⟩) (cc_pS hW0) rfl rfl hl.1 rfl (lv_room (Nat.le_of_ble_eq_true rfl)) dX1_change_38 ⟨Nat.le_of_ble_eq_true rfl, Nat.le_of_ble_eq_true rfl⟩) hno (fun st t u x hq h1 h2 h3 => ⟨by rw [h1]; exact hq.1, by rw [h1]; exact hq.2⟩) hL (fun q h => h) Bd.notSynchronized
    · exact absurd c10 (by decide)
set_option maxHeartbeats 4000000 in
set_option maxRecDepth 100000 in
/-- giveBack -/
theorem ct_X1_giveBack {l : Launch} {s0 : State} {D : va_G} {DA : Nat → ClassId} {z0 : Nat} {C : CS} {M : MS} {o : Int64} {H : Heap} (hE : G0 l s0 D DA z0) (hR : RR s0 D DA z0 C M o H) {u : Nat} (hu : u < kN C 3) : Met l yX1_giveBack (ws_ yX1_giveBack cX1_giveBack 4 (some .int)) ({ frames := 4, cells := 0, slots := 0, locals := 85 }) (cP s0 [.ref s0.heap.size, .int (nI u)] H) (cQv (.int (kE C 3 u 2)) (fun H1 => RR s0 D DA z0 (rE C (up3 (kE C) 3 u 2 0)) M o H1)) 0 0 (cF s0) := by
  refine Met.ofW (cc := cX1_giveBack) (maxL := 4) (ret := (some .int)) (by decide) rfl ?_
  intro p e s m args below meth c s₁ Bd hml hv
  obtain ⟨rfl, rfl, hW0⟩ := hv
  have hx := Bd.exec
  have hb := Bd.bytes
  have hr := Bd.returns
  have hts := atoms_spec (ws := (ws_ yX1_giveBack cX1_giveBack 4 (some .int))) Bd.pre
  have hts : ∀ w ∈ lw_all, w.before _ s = true := fun w h => hts w (List.mem_cons_of_mem _ h)
  have hown : s.vm.findClass RX1 = some m.cls := findClass_of_methodNamed Bd.named
  have hlocks := Bd.notSynchronized
  have hK := va_K.moved hW0.alike hE.K
  have hL : gx_L s0.heap.size ([] : List Loc) := gx_L0
  obtain ⟨Y, hR⟩ := hR
  have hl := lv_entry ([.ref s0.heap.size, .int (nI u)]) (n := 4) (Nat.le_of_ble_eq_true rfl)
  rw [lg_entry_eq]
  generalize (lg_sl ([.ref s0.heap.size, .int (nI u)]) ++ List.replicate (4 - (lg_sl ([.ref s0.heap.size, .int (nI u)])).length) Slot.unset).toArray = ls at hl ⊢
  have hl : lv_has ls 4 [(0, .ref s0.heap.size), (1, .int (nI u))] := hl
  refine lv_aload_n hx hb dX1_giveBack_0 rfl (lv_at hl 0 rfl) ?_
  refine gx_get (D := D) (cl := gcl) (ci := 0) (v := .ref (aB s0.heap.size 3)) (C := RX1) (T := TX1) (N := 10) hx hb hts in_X1 hown hK hR.np rfl 4 (by decide) (hts _ q276) (fun _ h9 => h9) rfl dX1_giveBack_1 ?_
  refine lv_iload_n hx hb dX1_giveBack_4 rfl (lv_at hl 1 rfl) ?_
  refine cc_v (va_runS (As := [.ref (aB s0.heap.size 3), .int (nI u)]) (rest := []) ⟨hx, hb, hml, hown, hts⟩ (ct_X1_entry (j := 3) (u := u) hE hR (by decide) (by decide) hu) (va_cwS 2 hts (lw_S q770 q771 q47 q772) rfl rfl rfl (by decide +kernel) ⟨Nat.le_of_ble_eq_true rfl, Nat.le_of_ble_eq_true rfl⟩) (cc_pS hW0) rfl rfl hl.1 rfl (lv_room (Nat.le_of_ble_eq_true rfl)) dX1_giveBack_5 ⟨Nat.le_of_ble_eq_true rfl, Nat.le_of_ble_eq_true rfl⟩) hL (fun H locs hP1 hL => ?_)
  subst hP1
  refine lv_astore_n (lv' := [(2, .ref (yE Y 3 u)), (0, .ref s0.heap.size), (1, .int (nI u))]) hx hb dX1_giveBack_8 rfl hl (by decide) rfl (fun ls hl => ?_)
  refine lv_aload_n hx hb dX1_giveBack_9 rfl (lv_at hl 0 rfl) ?_
  refine gx_getN (D := D) (cl := gcl) (ci := 12) (v := .int (kE C 3 u 2)) (C := RX13) (T := TX13) (N := 3) hx hb hts in_X13 hown hK (hR.ent 3 u (by decide) (by decide) hu) rfl 2 (by decide) (hE.nF hW0 q750) (fun _ h9 => h9) rfl dX1_giveBack_10 ?_
  refine lv_istore_n (lv' := [(3, .int (kE C 3 u 2)), (2, .ref (yE Y 3 u)), (0, .ref s0.heap.size), (1, .int (nI u))]) hx hb dX1_giveBack_13 rfl hl (by decide) rfl (fun ls hl => ?_)
  refine lv_aload_n hx hb dX1_giveBack_14 rfl (lv_at hl 1 rfl) ?_
  refine lv_iconst (v := 0) hx hb dX1_giveBack_15 (by decide) ?_
  refine gx_putN (D := D) (cl := gcl) (ci := 12) (v := .int 0) (ty := .int) (C := RX13) (T := TX13) (N := 3) hx hb hts in_X13 tyX13 tyX13_ok nmX13 hown hK (hR.ent 3 u (by decide) (by decide) hu) rfl 2 (by decide) (hE.nF hW0 q750) (fun _ h9 => h9) rfl (by decide +kernel) (rfl) rfl (Nat.le_of_ble_eq_true rfl) hL (by have := (hR.lay.2.2.2.2.1 3 (by decide) (by decide) u hu).1; omega) dX1_giveBack_16 (fun H locs hU hA hL => ?_)
  have hR := GRb.pE (j := 3) (i := u) (by decide) (by decide) hu hR hU hA
  refine lv_iload_n hx hb dX1_giveBack_19 rfl (lv_at hl 0 rfl) ?_
  exact W.iret (v := (kE C 3 u 2)) hx hb hr (fun t ht hW => ⟨rfl, by rw [ht]; exact ⟨_, hR⟩⟩) hL dX1_giveBack_20
set_option maxHeartbeats 4000000 in
set_option maxRecDepth 100000 in
theorem ct_X1_giveBack_I {l : Launch} {s0 : State} {D : va_G} {DA : Nat → ClassId} {z0 : Nat} {C : CS} {M : MS} {o : Int64} {H : Heap} (hE : G0 l s0 D DA z0) (hR : RR s0 D DA z0 C M o H) (x : Int32) (h : inR x 0 (nI (kN C 3) - 1) = false) : MetT l yX1_giveBack (ws_ yX1_giveBack cX1_giveBack 4 (some .int)) ({ frames := 8, cells := 1, slots := 6, locals := 123 }) (cP s0 [.ref s0.heap.size, .int x] H) (cQT s0 "java/lang/IndexOutOfBoundsException" (fun H1 => RR s0 D DA z0 C M o H1)) 1 6 (cF s0) := by
  refine MetT.ofW (cc := cX1_giveBack) (maxL := 4) (ret := (some .int)) (by decide) rfl ?_
  intro p e s m args below meth c s₁ Bd hml hv
  obtain ⟨rfl, rfl, hW0⟩ := hv
  have hx := Bd.exec
  have hb := Bd.bytes
  have hr := Bd.returns
  have hts := atoms_spec (ws := (ws_ yX1_giveBack cX1_giveBack 4 (some .int))) Bd.pre
  have hno := BodyLoose.noHandlers Bd (hts _ List.mem_cons_self)
  have hts : ∀ w ∈ lw_all, w.before _ s = true := fun w h => hts w (List.mem_cons_of_mem _ h)
  have hown : s.vm.findClass RX1 = some m.cls := findClass_of_methodNamed Bd.named
  have hlocks := Bd.notSynchronized
  have hK := va_K.moved hW0.alike hE.K
  have hL : gx_L s0.heap.size ([] : List Loc) := gx_L0
  obtain ⟨Y, hR⟩ := hR
  have hl := lv_entry ([.ref s0.heap.size, .int x]) (n := 4) (Nat.le_of_ble_eq_true rfl)
  rw [lg_entry_eq]
  generalize (lg_sl ([.ref s0.heap.size, .int x]) ++ List.replicate (4 - (lg_sl ([.ref s0.heap.size, .int x])).length) Slot.unset).toArray = ls at hl ⊢
  have hl : lv_has ls 4 [(0, .ref s0.heap.size), (1, .int x)] := hl
  refine lv_aload_n hx hb dX1_giveBack_0 rfl (lv_at hl 0 rfl) ?_
  refine gx_get (D := D) (cl := gcl) (ci := 0) (v := .ref (aB s0.heap.size 3)) (C := RX1) (T := TX1) (N := 10) hx hb hts in_X1 hown hK hR.np rfl 4 (by decide) (hts _ q276) (fun _ h9 => h9) rfl dX1_giveBack_1 ?_
  refine lv_iload_n hx hb dX1_giveBack_4 rfl (lv_at hl 1 rfl) ?_
  exact gt_leave (va_runTS (As := [.ref (aB s0.heap.size 3), .int x]) (rest := []) ⟨hx, hb, hml, hown, hts⟩ (ct_X1_entry_T (j := 3) hE ⟨_, hR⟩ (by decide) (by decide) x h) (va_cwS 2 hts (lw_S q770 q771 q47 q772) rfl rfl rfl (by decide +kernel) ⟨Nat.le_of_ble_eq_true rfl, Nat.le_of_ble_eq_true rfl⟩) (cc_pS hW0) rfl rfl hl.1 rfl (lv_room (Nat.le_of_ble_eq_true rfl)) dX1_giveBack_5 ⟨Nat.le_of_ble_eq_true rfl, Nat.le_of_ble_eq_true rfl⟩) hno (fun st t u x hq h1 h2 h3 => ⟨by rw [h1]; exact hq.1, by rw [h1]; exact hq.2⟩) hL (fun q h => h) Bd.notSynchronized
