set_option maxHeartbeats 4000000 in
set_option maxRecDepth 100000 in
/-- isWrong -/
theorem ct_X11_isWrong {l : Launch} {s0 : State} {D : va_G} {DA : Nat → ClassId} {z0 : Nat} {C : CS} {M : MS} {o : Int64} {H : Heap} (hE : G0 l s0 D DA z0) (hR : RR s0 D DA z0 C M o H) (i w : Int32) : Met l yX11_isWrong (ws_ yX11_isWrong cX11_isWrong 3 (some .boolean)) ({ frames := 2, cells := 0, slots := 0, locals := 42 }) (cP s0 [.ref (s0.heap.size + 104), .int i, .int w] H) (cQv (.int (bZ (decide (0 < x_wrong M i w)))) (fun H1 => RR s0 D DA z0 C (mz M 0 (x_wrong M i w)) o H1)) 0 0 (cF s0) := by
  refine Met.ofW (cc := cX11_isWrong) (maxL := 3) (ret := (some .boolean)) (by decide) rfl ?_
  intro p e s m args below meth c s₁ Bd hml hv
  obtain ⟨rfl, rfl, hW0⟩ := hv
  have hx := Bd.exec
  have hb := Bd.bytes
  have hr := Bd.returns
  have hts := atoms_spec (ws := (ws_ yX11_isWrong cX11_isWrong 3 (some .boolean))) Bd.pre
  have hts : ∀ w ∈ lw_all, w.before _ s = true := fun w h => hts w (List.mem_cons_of_mem _ h)
  have hown : s.vm.findClass RX11 = some m.cls := findClass_of_methodNamed Bd.named
  have hlocks := Bd.notSynchronized
  have hK := va_K.moved hW0.alike hE.K
  have hL : gx_L s0.heap.size ([] : List Loc) := gx_L0
  obtain ⟨Y, hR⟩ := hR
  have hl := lv_entry ([.ref (s0.heap.size + 104), .int i, .int w]) (n := 3) (Nat.le_of_ble_eq_true rfl)
  rw [lg_entry_eq]
  generalize (lg_sl ([.ref (s0.heap.size + 104), .int i, .int w]) ++ List.replicate (3 - (lg_sl ([.ref (s0.heap.size + 104), .int i, .int w])).length) Slot.unset).toArray = ls at hl ⊢
  have hl : lv_has ls 3 [(0, .ref (s0.heap.size + 104)), (1, .int i), (2, .int w)] := hl
  refine lv_aload_n hx hb dX11_isWrong_0 rfl (lv_at hl 0 rfl) ?_
  refine lv_iload_n hx hb dX11_isWrong_1 rfl (lv_at hl 1 rfl) ?_
  refine cc_v (va_runS (As := [.int i]) (rest := [.ref (s0.heap.size + 104)]) ⟨hx, hb, hml, hown, hts⟩ (ct_X11_isTwelve hE i) (va_cwS 1 hts (lw_S q980 q981 q61 q982) rfl rfl rfl (by decide +kernel) ⟨Nat.le_of_ble_eq_true rfl, Nat.le_of_ble_eq_true rfl⟩) (cc_pS hW0) rfl rfl hl.1 rfl (lv_room (Nat.le_of_ble_eq_true rfl)) dX11_isWrong_2 ⟨Nat.le_of_ble_eq_true rfl, Nat.le_of_ble_eq_true rfl⟩) hL (fun H locs hP1 hL => ?_)
  subst hP1
  refine lv_if_eq (tgt := 15) hx hb dX11_isWrong_5 (by decide) (fun c5 => ?_) (fun c5 => ?_)
  · refine lv_iconst (v := 1) hx hb dX11_isWrong_15 (by decide) ?_
    refine lv_goto (tgt := 31) hx hb dX11_isWrong_16 (by decide) ?_
    refine cc_v (va_runV (b := s0.heap.size + 104) (As := [.int 1]) (rest := []) ⟨hx, hb, hml, hown, hts⟩ (ct_X11_refused hE ⟨_, hR⟩ 1) (cwV 1 hts (lw_V q983 q985 qs23 q61 q986) rfl rfl rfl (by decide +kernel) ⟨Nat.le_of_ble_eq_true rfl, Nat.le_of_ble_eq_true rfl⟩) (cc_pV hW0 (cc_re hK hR.mo (show gcl[10]? = _ from rfl))) rfl rfl hl.1 rfl (lv_room (Nat.le_of_ble_eq_true rfl)) dX11_isWrong_31 ⟨Nat.le_of_ble_eq_true rfl, Nat.le_of_ble_eq_true rfl⟩) hL (fun H locs hP1 hL => ?_)
    obtain ⟨Y, hR⟩ := hP1
    exact W.zret (v := (bZ (decide (0 < 1)))) hx hb hr (bZ_n _) (fun t ht hW => ⟨ovI (by rw [xw_1 (by rw [bZ_0.mp c5]; rfl)]), by rw [ht]; exact (by rw [xw_1 (by rw [bZ_0.mp c5]; rfl)]; exact ⟨_, hR⟩)⟩) hL dX11_isWrong_34
  · refine lv_iload_n hx hb dX11_isWrong_8 rfl (lv_at hl 2 rfl) ?_
    refine cc_v (va_runS (As := [.int w]) (rest := [.ref (s0.heap.size + 104)]) ⟨hx, hb, hml, hown, hts⟩ (ct_X11_isTwelve hE w) (va_cwS 1 hts (lw_S q980 q981 q61 q982) rfl rfl rfl (by decide +kernel) ⟨Nat.le_of_ble_eq_true rfl, Nat.le_of_ble_eq_true rfl⟩) (cc_pS hW0) rfl rfl hl.1 rfl (lv_room (Nat.le_of_ble_eq_true rfl)) dX11_isWrong_9 ⟨Nat.le_of_ble_eq_true rfl, Nat.le_of_ble_eq_true rfl⟩) hL (fun H locs hP1 hL => ?_)
    subst hP1
    refine lv_if_ne (tgt := 19) hx hb dX11_isWrong_12 (by decide) (fun c12 => ?_) (fun c12 => ?_)
    · refine lv_aload_n hx hb dX11_isWrong_19 rfl (lv_at hl 0 rfl) ?_
      refine gx_get (D := D) (cl := gcl) (ci := 10) (v := .int (mS M 20)) (C := RX11) (T := TX11) (N := 27) hx hb hts in_X11 hown hK hR.mo rfl 20 (by decide) (hts _ q906) (fun _ h9 => h9) rfl dX11_isWrong_20 ?_
      refine lv_if_eq (tgt := 30) hx hb dX11_isWrong_23 (by decide) (fun c23 => ?_) (fun c23 => ?_)
      · refine lv_iconst (v := 0) hx hb dX11_isWrong_30 (by decide) ?_
        refine cc_v (va_runV (b := s0.heap.size + 104) (As := [.int 0]) (rest := []) ⟨hx, hb, hml, hown, hts⟩ (ct_X11_refused hE ⟨_, hR⟩ 0) (cwV 1 hts (lw_V q983 q985 qs23 q61 q986) rfl rfl rfl (by decide +kernel) ⟨Nat.le_of_ble_eq_true rfl, Nat.le_of_ble_eq_true rfl⟩) (cc_pV hW0 (cc_re hK hR.mo (show gcl[10]? = _ from rfl))) rfl rfl hl.1 rfl (lv_room (Nat.le_of_ble_eq_true rfl)) dX11_isWrong_31 ⟨Nat.le_of_ble_eq_true rfl, Nat.le_of_ble_eq_true rfl⟩) hL (fun H locs hP1 hL => ?_)
        obtain ⟨Y, hR⟩ := hP1
        exact W.zret (v := (bZ (decide (0 < 0)))) hx hb hr (bZ_n _) (fun t ht hW => ⟨ovI (by rw [xw_0 (by rw [bZ_1.mp c5, bZ_1.mp c12]; rfl) c23]), by rw [ht]; exact (by rw [xw_0 (by rw [bZ_1.mp c5, bZ_1.mp c12]; rfl) c23]; exact ⟨_, hR⟩)⟩) hL dX11_isWrong_34
      · refine lv_iconst (v := 2) hx hb dX11_isWrong_26 (by decide) ?_
        refine lv_goto (tgt := 31) hx hb dX11_isWrong_27 (by decide) ?_
        refine cc_v (va_runV (b := s0.heap.size + 104) (As := [.int 2]) (rest := []) ⟨hx, hb, hml, hown, hts⟩ (ct_X11_refused hE ⟨_, hR⟩ 2) (cwV 1 hts (lw_V q983 q985 qs23 q61 q986) rfl rfl rfl (by decide +kernel) ⟨Nat.le_of_ble_eq_true rfl, Nat.le_of_ble_eq_true rfl⟩) (cc_pV hW0 (cc_re hK hR.mo (show gcl[10]? = _ from rfl))) rfl rfl hl.1 rfl (lv_room (Nat.le_of_ble_eq_true rfl)) dX11_isWrong_31 ⟨Nat.le_of_ble_eq_true rfl, Nat.le_of_ble_eq_true rfl⟩) hL (fun H locs hP1 hL => ?_)
        obtain ⟨Y, hR⟩ := hP1
        exact W.zret (v := (bZ (decide (0 < 2)))) hx hb hr (bZ_n _) (fun t ht hW => ⟨ovI (by rw [xw_2 (by rw [bZ_1.mp c5, bZ_1.mp c12]; rfl) c23]), by rw [ht]; exact (by rw [xw_2 (by rw [bZ_1.mp c5, bZ_1.mp c12]; rfl) c23]; exact ⟨_, hR⟩)⟩) hL dX11_isWrong_34
    · refine lv_iconst (v := 1) hx hb dX11_isWrong_15 (by decide) ?_
      refine lv_goto (tgt := 31) hx hb dX11_isWrong_16 (by decide) ?_
      refine cc_v (va_runV (b := s0.heap.size + 104) (As := [.int 1]) (rest := []) ⟨hx, hb, hml, hown, hts⟩ (ct_X11_refused hE ⟨_, hR⟩ 1) (cwV 1 hts (lw_V q983 q985 qs23 q61 q986) rfl rfl rfl (by decide +kernel) ⟨Nat.le_of_ble_eq_true rfl, Nat.le_of_ble_eq_true rfl⟩) (cc_pV hW0 (cc_re hK hR.mo (show gcl[10]? = _ from rfl))) rfl rfl hl.1 rfl (lv_room (Nat.le_of_ble_eq_true rfl)) dX11_isWrong_31 ⟨Nat.le_of_ble_eq_true rfl, Nat.le_of_ble_eq_true rfl⟩) hL (fun H locs hP1 hL => ?_)
      obtain ⟨Y, hR⟩ := hP1
      exact W.zret (v := (bZ (decide (0 < 1)))) hx hb hr (bZ_n _) (fun t ht hW => ⟨ovI (by rw [xw_1 (by rw [bZ_0.mp c12, Bool.and_false])]), by rw [ht]; exact (by rw [xw_1 (by rw [bZ_0.mp c12, Bool.and_false])]; exact ⟨_, hR⟩)⟩) hL dX11_isWrong_34
set_option maxHeartbeats 4000000 in
set_option maxRecDepth 100000 in
/-- gross -/
theorem ct_X11_gross {l : Launch} {s0 : State} {D : va_G} {DA : Nat → ClassId} {z0 : Nat} {C : CS} {M : MS} {o : Int64} {H : Heap} (hE : G0 l s0 D DA z0) (hR : RR s0 D DA z0 C M o H) (i w : Int32) : Met l yX11_gross (ws_ yX11_gross cX11_gross 3 (some .long)) ({ frames := 3, cells := 0, slots := 0, locals := 64 }) (cP s0 [.ref (s0.heap.size + 104), .int i, .int w] H) (cQv (.long (m_rd M 18 i w)) (fun H1 => RR s0 D DA z0 C (mz M 0 (x_wrong M i w)) o H1)) 0 0 (cF s0) := by
  refine Met.ofW (cc := cX11_gross) (maxL := 3) (ret := (some .long)) (by decide) rfl ?_
  intro p e s m args below meth c s₁ Bd hml hv
  obtain ⟨rfl, rfl, hW0⟩ := hv
  have hx := Bd.exec
  have hb := Bd.bytes
  have hr := Bd.returns
  have hts := atoms_spec (ws := (ws_ yX11_gross cX11_gross 3 (some .long))) Bd.pre
  have hts : ∀ w ∈ lw_all, w.before _ s = true := fun w h => hts w (List.mem_cons_of_mem _ h)
  have hown : s.vm.findClass RX11 = some m.cls := findClass_of_methodNamed Bd.named
  have hlocks := Bd.notSynchronized
  have hK := va_K.moved hW0.alike hE.K
  have hL : gx_L s0.heap.size ([] : List Loc) := gx_L0
  obtain ⟨Y, hR⟩ := hR
  have hl := lv_entry ([.ref (s0.heap.size + 104), .int i, .int w]) (n := 3) (Nat.le_of_ble_eq_true rfl)
  rw [lg_entry_eq]
  generalize (lg_sl ([.ref (s0.heap.size + 104), .int i, .int w]) ++ List.replicate (3 - (lg_sl ([.ref (s0.heap.size + 104), .int i, .int w])).length) Slot.unset).toArray = ls at hl ⊢
  have hl : lv_has ls 3 [(0, .ref (s0.heap.size + 104)), (1, .int i), (2, .int w)] := hl
  refine lv_aload_n hx hb dX11_gross_0 rfl (lv_at hl 0 rfl) ?_
  refine lv_iload_n hx hb dX11_gross_1 rfl (lv_at hl 1 rfl) ?_
  refine lv_iload_n hx hb dX11_gross_2 rfl (lv_at hl 2 rfl) ?_
  refine cc_v (va_runV (b := s0.heap.size + 104) (As := [.int i, .int w]) (rest := []) ⟨hx, hb, hml, hown, hts⟩ (ct_X11_isWrong hE ⟨_, hR⟩ i w) (cwV 2 hts (lw_V q1105 q1107 qs42 q61 q1108) rfl rfl rfl (by decide +kernel) ⟨Nat.le_of_ble_eq_true rfl, Nat.le_of_ble_eq_true rfl⟩) (cc_pV hW0 (cc_re hK hR.mo (show gcl[10]? = _ from rfl))) rfl rfl hl.1 rfl (lv_room (Nat.le_of_ble_eq_true rfl)) dX11_gross_3 ⟨Nat.le_of_ble_eq_true rfl, Nat.le_of_ble_eq_true rfl⟩) hL (fun H locs hP1 hL => ?_)
  obtain ⟨Y, hR⟩ := hP1
  refine lv_if_eq (tgt := 13) hx hb dX11_gross_6 (by decide) (fun c6 => ?_) (fun c6 => ?_)
  · obtain ⟨⟨a, ha, rfl⟩, ⟨b, hb2, rfl⟩, hx0⟩ := xw_ok c6
    refine lv_aload_n hx hb dX11_gross_13 rfl (lv_at hl 0 rfl) ?_
    refine gx_get (D := D) (cl := gcl) (ci := 10) (v := .ref (mad s0.heap.size 18)) (C := RX11) (T := TX11) (N := 27) hx hb hts in_X11 hown hK hR.mo rfl 22 (by decide) (hts _ q908) (fun _ h9 => h9) rfl dX11_gross_14 ?_
    refine lv_bipush (v := 12) hx hb dX11_gross_17 (by decide) ?_
    refine lv_iload_n hx hb dX11_gross_19 rfl (lv_at hl 1 rfl) ?_
    refine lv_imul hx hb dX11_gross_20 ?_
    refine gx_ti (nI (12 * a)) (pk_mul 12 a) ?_
    refine lv_iload_n hx hb dX11_gross_21 rfl (lv_at hl 2 rfl) ?_
    refine lv_iadd hx hb dX11_gross_22 ?_
    refine gx_ti (nI (12 * a + b)) (nI_add (12 * a) b) ?_
    refine gx_lald (n := 144) hx hb hK 0 (hR.mla 18 (by decide) (by decide)) rfl (12 * a + b) (rfl) (by omega) (by decide) dX11_gross_23 ?_
    exact W.lret (v := (mL (mz M 0 (x_wrong M (nI a) (nI b))) 18 (12 * a + b))) hx hb hr (fun t ht hW => ⟨ovJ (by unfold m_rd; rw [if_pos hx0, nI_cl ha, nI_cl hb2]; rfl), by rw [ht]; exact ⟨_, hR⟩⟩) hL dX11_gross_24
  · refine lv_lconst (v := 0) hx hb dX11_gross_9 (by decide) ?_
    refine lv_goto (tgt := 24) hx hb dX11_gross_10 (by decide) ?_
    exact W.lret (v := 0) hx hb hr (fun t ht hW => ⟨ovJ (by rw [m_rd, if_neg (xw_bad c6)]), by rw [ht]; exact ⟨_, hR⟩⟩) hL dX11_gross_24
set_option maxHeartbeats 4000000 in
set_option maxRecDepth 100000 in
/-- planned -/
theorem ct_X11_planned {l : Launch} {s0 : State} {D : va_G} {DA : Nat → ClassId} {z0 : Nat} {C : CS} {M : MS} {o : Int64} {H : Heap} (hE : G0 l s0 D DA z0) (hR : RR s0 D DA z0 C M o H) (i w : Int32) : Met l yX11_planned (ws_ yX11_planned cX11_planned 3 (some .long)) ({ frames := 3, cells := 0, slots := 0, locals := 64 }) (cP s0 [.ref (s0.heap.size + 104), .int i, .int w] H) (cQv (.long (m_rd M 19 i w)) (fun H1 => RR s0 D DA z0 C (mz M 0 (x_wrong M i w)) o H1)) 0 0 (cF s0) := by
  refine Met.ofW (cc := cX11_planned) (maxL := 3) (ret := (some .long)) (by decide) rfl ?_
  intro p e s m args below meth c s₁ Bd hml hv
  obtain ⟨rfl, rfl, hW0⟩ := hv
  have hx := Bd.exec
  have hb := Bd.bytes
  have hr := Bd.returns
  have hts := atoms_spec (ws := (ws_ yX11_planned cX11_planned 3 (some .long))) Bd.pre
  have hts : ∀ w ∈ lw_all, w.before _ s = true := fun w h => hts w (List.mem_cons_of_mem _ h)
  have hown : s.vm.findClass RX11 = some m.cls := findClass_of_methodNamed Bd.named
  have hlocks := Bd.notSynchronized
  have hK := va_K.moved hW0.alike hE.K
  have hL : gx_L s0.heap.size ([] : List Loc) := gx_L0
  obtain ⟨Y, hR⟩ := hR
  have hl := lv_entry ([.ref (s0.heap.size + 104), .int i, .int w]) (n := 3) (Nat.le_of_ble_eq_true rfl)
  rw [lg_entry_eq]
  generalize (lg_sl ([.ref (s0.heap.size + 104), .int i, .int w]) ++ List.replicate (3 - (lg_sl ([.ref (s0.heap.size + 104), .int i, .int w])).length) Slot.unset).toArray = ls at hl ⊢
  have hl : lv_has ls 3 [(0, .ref (s0.heap.size + 104)), (1, .int i), (2, .int w)] := hl
  refine lv_aload_n hx hb dX11_planned_0 rfl (lv_at hl 0 rfl) ?_
  refine lv_iload_n hx hb dX11_planned_1 rfl (lv_at hl 1 rfl) ?_
  refine lv_iload_n hx hb dX11_planned_2 rfl (lv_at hl 2 rfl) ?_
  refine cc_v (va_runV (b := s0.heap.size + 104) (As := [.int i, .int w]) (rest := []) ⟨hx, hb, hml, hown, hts⟩ (ct_X11_isWrong hE ⟨_, hR⟩ i w) (cwV 2 hts (lw_V q1105 q1107 qs42 q61 q1108) rfl rfl rfl (by decide +kernel) ⟨Nat.le_of_ble_eq_true rfl, Nat.le_of_ble_eq_true rfl⟩) (cc_pV hW0 (cc_re hK hR.mo (show gcl[10]? = _ from rfl))) rfl rfl hl.1 rfl (lv_room (Nat.le_of_ble_eq_true rfl)) dX11_planned_3 ⟨Nat.le_of_ble_eq_true rfl, Nat.le_of_ble_eq_true rfl⟩) hL (fun H locs hP1 hL => ?_)
  obtain ⟨Y, hR⟩ := hP1
  refine lv_if_eq (tgt := 13) hx hb dX11_planned_6 (by decide) (fun c6 => ?_) (fun c6 => ?_)
  · obtain ⟨⟨a, ha, rfl⟩, ⟨b, hb2, rfl⟩, hx0⟩ := xw_ok c6
    refine lv_aload_n hx hb dX11_planned_13 rfl (lv_at hl 0 rfl) ?_
    refine gx_get (D := D) (cl := gcl) (ci := 10) (v := .ref (mad s0.heap.size 19)) (C := RX11) (T := TX11) (N := 27) hx hb hts in_X11 hown hK hR.mo rfl 23 (by decide) (hts _ q909) (fun _ h9 => h9) rfl dX11_planned_14 ?_
    refine lv_bipush (v := 12) hx hb dX11_planned_17 (by decide) ?_
    refine lv_iload_n hx hb dX11_planned_19 rfl (lv_at hl 1 rfl) ?_
    refine lv_imul hx hb dX11_planned_20 ?_
    refine gx_ti (nI (12 * a)) (pk_mul 12 a) ?_
    refine lv_iload_n hx hb dX11_planned_21 rfl (lv_at hl 2 rfl) ?_
    refine lv_iadd hx hb dX11_planned_22 ?_
    refine gx_ti (nI (12 * a + b)) (nI_add (12 * a) b) ?_
    refine gx_lald (n := 144) hx hb hK 0 (hR.mla 19 (by decide) (by decide)) rfl (12 * a + b) (rfl) (by omega) (by decide) dX11_planned_23 ?_
    exact W.lret (v := (mL (mz M 0 (x_wrong M (nI a) (nI b))) 19 (12 * a + b))) hx hb hr (fun t ht hW => ⟨ovJ (by unfold m_rd; rw [if_pos hx0, nI_cl ha, nI_cl hb2]; rfl), by rw [ht]; exact ⟨_, hR⟩⟩) hL dX11_planned_24
  · refine lv_lconst (v := 0) hx hb dX11_planned_9 (by decide) ?_
    refine lv_goto (tgt := 24) hx hb dX11_planned_10 (by decide) ?_
    exact W.lret (v := 0) hx hb hr (fun t ht hW => ⟨ovJ (by rw [m_rd, if_neg (xw_bad c6)]), by rw [ht]; exact ⟨_, hR⟩⟩) hL dX11_planned_24
set_option maxHeartbeats 4000000 in
set_option maxRecDepth 100000 in
/-- balance -/
theorem ct_X11_balance {l : Launch} {s0 : State} {D : va_G} {DA : Nat → ClassId} {z0 : Nat} {C : CS} {M : MS} {o : Int64} {H : Heap} (hE : G0 l s0 D DA z0) (hR : RR s0 D DA z0 C M o H) (i w : Int32) (hC : MC M) : Met l yX11_balance (ws_ yX11_balance cX11_balance 3 (some .long)) ({ frames := 3, cells := 0, slots := 0, locals := 64 }) (cP s0 [.ref (s0.heap.size + 104), .int i, .int w] H) (cQv (.long (m_balr M i w)) (fun H1 => RR s0 D DA z0 C (mz M 0 (x_wrong M i w)) o H1)) 0 0 (cF s0) := by
  refine Met.ofW (cc := cX11_balance) (maxL := 3) (ret := (some .long)) (by decide) rfl ?_
  intro p e s m args below meth c s₁ Bd hml hv
  obtain ⟨rfl, rfl, hW0⟩ := hv
  have hx := Bd.exec
  have hb := Bd.bytes
  have hr := Bd.returns
  have hts := atoms_spec (ws := (ws_ yX11_balance cX11_balance 3 (some .long))) Bd.pre
  have hts : ∀ w ∈ lw_all, w.before _ s = true := fun w h => hts w (List.mem_cons_of_mem _ h)
  have hown : s.vm.findClass RX11 = some m.cls := findClass_of_methodNamed Bd.named
  have hlocks := Bd.notSynchronized
  have hK := va_K.moved hW0.alike hE.K
  have hL : gx_L s0.heap.size ([] : List Loc) := gx_L0
  obtain ⟨Y, hR⟩ := hR
  have hl := lv_entry ([.ref (s0.heap.size + 104), .int i, .int w]) (n := 3) (Nat.le_of_ble_eq_true rfl)
  rw [lg_entry_eq]
  generalize (lg_sl ([.ref (s0.heap.size + 104), .int i, .int w]) ++ List.replicate (3 - (lg_sl ([.ref (s0.heap.size + 104), .int i, .int w])).length) Slot.unset).toArray = ls at hl ⊢
  have hl : lv_has ls 3 [(0, .ref (s0.heap.size + 104)), (1, .int i), (2, .int w)] := hl
  refine lv_aload_n hx hb dX11_balance_0 rfl (lv_at hl 0 rfl) ?_
  refine lv_iload_n hx hb dX11_balance_1 rfl (lv_at hl 1 rfl) ?_
  refine lv_iload_n hx hb dX11_balance_2 rfl (lv_at hl 2 rfl) ?_
  refine cc_v (va_runV (b := s0.heap.size + 104) (As := [.int i, .int w]) (rest := []) ⟨hx, hb, hml, hown, hts⟩ (ct_X11_isWrong hE ⟨_, hR⟩ i w) (cwV 2 hts (lw_V q1105 q1107 qs42 q61 q1108) rfl rfl rfl (by decide +kernel) ⟨Nat.le_of_ble_eq_true rfl, Nat.le_of_ble_eq_true rfl⟩) (cc_pV hW0 (cc_re hK hR.mo (show gcl[10]? = _ from rfl))) rfl rfl hl.1 rfl (lv_room (Nat.le_of_ble_eq_true rfl)) dX11_balance_3 ⟨Nat.le_of_ble_eq_true rfl, Nat.le_of_ble_eq_true rfl⟩) hL (fun H locs hP1 hL => ?_)
  obtain ⟨Y, hR⟩ := hP1
  refine lv_if_eq (tgt := 13) hx hb dX11_balance_6 (by decide) (fun c6 => ?_) (fun c6 => ?_)
  · obtain ⟨⟨a, ha, rfl⟩, ⟨b, hb2, rfl⟩, hx0⟩ := xw_ok c6
    refine lv_aload_n hx hb dX11_balance_13 rfl (lv_at hl 0 rfl) ?_
    refine lv_iload_n hx hb dX11_balance_14 rfl (lv_at hl 1 rfl) ?_
    refine lv_iload_n hx hb dX11_balance_15 rfl (lv_at hl 2 rfl) ?_
    refine cc_v (va_runV (b := s0.heap.size + 104) (As := [.int (nI a), .int (nI b)]) (rest := []) ⟨hx, hb, hml, hown, hts⟩ (ct_X11_bare (i := a) (wk := b) hE ⟨_, hR⟩ (by omega) (by omega) (hC.of rfl)) (cwV 2 hts (lw_V q1070 q1072 qs36 q61 q1073) rfl rfl rfl (by decide +kernel) ⟨Nat.le_of_ble_eq_true rfl, Nat.le_of_ble_eq_true rfl⟩) (cc_pV hW0 (cc_re hK hR.mo (show gcl[10]? = _ from rfl))) rfl rfl hl.1 rfl (lv_room (Nat.le_of_ble_eq_true rfl)) dX11_balance_16 ⟨Nat.le_of_ble_eq_true rfl, Nat.le_of_ble_eq_true rfl⟩) hL (fun H locs hP1 hL => ?_)
    subst hP1
    refine gx_tl (m_bare M a b) (m_bare_c (M := M) (M' := (mz M 0 (x_wrong M (nI a) (nI b)))) rfl rfl a b) ?_
    refine lv_aload_n hx hb dX11_balance_19 rfl (lv_at hl 0 rfl) ?_
    refine gx_get (D := D) (cl := gcl) (ci := 10) (v := .ref (mad s0.heap.size 19)) (C := RX11) (T := TX11) (N := 27) hx hb hts in_X11 hown hK hR.mo rfl 23 (by decide) (hts _ q909) (fun _ h9 => h9) rfl dX11_balance_20 ?_
    refine lv_iload_n hx hb dX11_balance_23 rfl (lv_at hl 1 rfl) ?_
    refine lv_iload_n hx hb dX11_balance_24 rfl (lv_at hl 2 rfl) ?_
    refine cc_v (va_runS (As := [.ref (mad s0.heap.size 19), .int (nI a), .int (nI b)]) (rest := [.long (m_bare M a b)]) ⟨hx, hb, hml, hown, hts⟩ (ct_X11_upTo (f := mL (mz M 0 (x_wrong M (nI a) (nI b))) 19) (a := mad s0.heap.size 19) (n1 := 144) (n0 := b + 1) (i := a) (wk := nI b) hE (hR.mla 19 (by decide) (by decide)) (by decide) (by omega) (fun k h1 h2 => by have := n_gt h2 (by omega) (by omega); omega) (fun k h1 h2 => by have := n_le h2 (by omega) (by omega); omega) (fun k h1 => by omega)) (va_cwS 3 hts (lw_S q1074 q1075 q61 q1076) rfl rfl rfl (by decide +kernel) ⟨Nat.le_of_ble_eq_true rfl, Nat.le_of_ble_eq_true rfl⟩) (cc_pS hW0) rfl rfl hl.1 rfl (lv_room (Nat.le_of_ble_eq_true rfl)) dX11_balance_25 ⟨Nat.le_of_ble_eq_true rfl, Nat.le_of_ble_eq_true rfl⟩) hL (fun H locs hP1 hL => ?_)
    subst hP1
    refine lv_ladd hx hb dX11_balance_28 ?_
    exact W.lret (v := ((m_bare M a b) + (m_up (mL (mz M 0 (x_wrong M (nI a) (nI b))) 19) a (b + 1)))) hx hb hr (fun t ht hW => ⟨ovJ (by unfold m_balr; rw [if_pos hx0, nI_cl ha, nI_cl hb2]; rfl), by rw [ht]; exact ⟨_, hR⟩⟩) hL dX11_balance_29
  · refine lv_lconst (v := 0) hx hb dX11_balance_9 (by decide) ?_
    refine lv_goto (tgt := 29) hx hb dX11_balance_10 (by decide) ?_
    exact W.lret (v := 0) hx hb hr (fun t ht hW => ⟨ovJ (by rw [m_balr, if_neg (xw_bad c6)]), by rw [ht]; exact ⟨_, hR⟩⟩) hL dX11_balance_29
set_option maxHeartbeats 4000000 in
set_option maxRecDepth 100000 in
/-- giveBack -/
theorem ct_X11_giveBack {l : Launch} {s0 : State} {D : va_G} {DA : Nat → ClassId} {z0 : Nat} {C : CS} {M : MS} {o : Int64} {H : Heap} (hE : G0 l s0 D DA z0) (hR : RR s0 D DA z0 C M o H) (r : Int32) (hC : MC M) : Met l yX11_giveBack (ws_ yX11_giveBack cX11_giveBack 3 (some .int)) ({ frames := 1, cells := 0, slots := 0, locals := 22 }) (cP s0 [.ref (s0.heap.size + 104), .int r] H) (cQv (.int (m_gbr M r)) (fun H1 => RR s0 D DA z0 C (m_gb M r) o H1)) 0 0 (cF s0) := by
  refine Met.ofW (cc := cX11_giveBack) (maxL := 3) (ret := (some .int)) (by decide) rfl ?_
  intro p e s m args below meth c s₁ Bd hml hv
  obtain ⟨rfl, rfl, hW0⟩ := hv
  have hx := Bd.exec
  have hb := Bd.bytes
  have hr := Bd.returns
  have hts := atoms_spec (ws := (ws_ yX11_giveBack cX11_giveBack 3 (some .int))) Bd.pre
  have hts : ∀ w ∈ lw_all, w.before _ s = true := fun w h => hts w (List.mem_cons_of_mem _ h)
  have hown : s.vm.findClass RX11 = some m.cls := findClass_of_methodNamed Bd.named
  have hlocks := Bd.notSynchronized
  have hK := va_K.moved hW0.alike hE.K
  have hL : gx_L s0.heap.size ([] : List Loc) := gx_L0
  obtain ⟨Y, hR⟩ := hR
  have hl := lv_entry ([.ref (s0.heap.size + 104), .int r]) (n := 3) (Nat.le_of_ble_eq_true rfl)
  rw [lg_entry_eq]
  generalize (lg_sl ([.ref (s0.heap.size + 104), .int r]) ++ List.replicate (3 - (lg_sl ([.ref (s0.heap.size + 104), .int r])).length) Slot.unset).toArray = ls at hl ⊢
  have hl : lv_has ls 3 [(0, .ref (s0.heap.size + 104)), (1, .int r)] := hl
  refine lv_aload_n hx hb dX11_giveBack_0 rfl (lv_at hl 0 rfl) ?_
  refine lv_iload_n hx hb dX11_giveBack_1 rfl (lv_at hl 1 rfl) ?_
  refine lv_iconst (v := 0) hx hb dX11_giveBack_2 (by decide) ?_
  refine lv_aload_n hx hb dX11_giveBack_3 rfl (lv_at hl 0 rfl) ?_
  refine gx_get (D := D) (cl := gcl) (ci := 10) (v := .ref (mad s0.heap.size 13)) (C := RX11) (T := TX11) (N := 27) hx hb hts in_X11 hown hK hR.mo rfl 15 (by decide) (hts _ q901) (fun _ h9 => h9) rfl dX11_giveBack_4 ?_
  refine lv_iconst (v := 2) hx hb dX11_giveBack_7 (by decide) ?_
  refine gx_iald (n := 3) hx hb hK 1 (hR.mia 13 (by decide)) rfl 2 ((by decide)) (by omega) (by decide) dX11_giveBack_8 ?_
  refine lv_iconst (v := 1) hx hb dX11_giveBack_9 (by decide) ?_
  refine lv_isub hx hb dX11_giveBack_10 ?_
  refine cc_v (va_runS (As := [.int r, .int 0, .int ((mI M 13 2) - 1)]) (rest := [.ref (s0.heap.size + 104)]) ⟨hx, hb, hml, hown, hts⟩ (ct_X11_isIn hE r 0 ((mI M 13 2) - 1)) (va_cwS 3 hts (lw_S q977 q978 q61 q979) rfl rfl rfl (by decide +kernel) ⟨Nat.le_of_ble_eq_true rfl, Nat.le_of_ble_eq_true rfl⟩) (cc_pS hW0) rfl rfl hl.1 rfl (lv_room (Nat.le_of_ble_eq_true rfl)) dX11_giveBack_11 ⟨Nat.le_of_ble_eq_true rfl, Nat.le_of_ble_eq_true rfl⟩) hL (fun H locs hP1 hL => ?_)
  subst hP1
  refine lv_if_eq (tgt := 21) hx hb dX11_giveBack_14 (by decide) (fun c14 => ?_) (fun c14 => ?_)
  · refine lv_iconst (v := 1) hx hb dX11_giveBack_21 (by decide) ?_
    refine cc_v (va_runV (b := s0.heap.size + 104) (As := [.int 1]) (rest := []) ⟨hx, hb, hml, hown, hts⟩ (ct_X11_refused hE ⟨_, hR⟩ 1) (cwV 1 hts (lw_V q983 q985 qs23 q61 q986) rfl rfl rfl (by decide +kernel) ⟨Nat.le_of_ble_eq_true rfl, Nat.le_of_ble_eq_true rfl⟩) (cc_pV hW0 (cc_re hK hR.mo (show gcl[10]? = _ from rfl))) rfl rfl hl.1 rfl (lv_room (Nat.le_of_ble_eq_true rfl)) dX11_giveBack_22 ⟨Nat.le_of_ble_eq_true rfl, Nat.le_of_ble_eq_true rfl⟩) hL (fun H locs hP1 hL => ?_)
    obtain ⟨Y, hR⟩ := hP1
    refine lv_if_eq (tgt := 30) hx hb dX11_giveBack_25 (by decide) (fun c25 => ?_) (fun c25 => ?_)
    · exact absurd c25 (by decide)
    · refine lv_iconst (v := 0) hx hb dX11_giveBack_28 (by decide) ?_
      exact W.iret (v := 0) hx hb hr (fun t ht hW => ⟨ovI (m_gb_1 (bZ_0.mp c14)).2.symm, by rw [ht]; exact (RR_M ((m_gb_1 (bZ_0.mp c14)).1) ⟨_, hR⟩)⟩) hL dX11_giveBack_29
  · have h9 := bZ_1.mp c14
    rw [hC.ct (K := 2) (by decide)] at h9
    have c24 := hC.c24 (K := 2) (by decide)
    obtain ⟨u, hu, rfl⟩ := inR_in (by omega) h9
    refine lv_iconst (v := 0) hx hb dX11_giveBack_17 (by decide) ?_
    refine lv_goto (tgt := 22) hx hb dX11_giveBack_18 (by decide) ?_
    refine cc_v (va_runV (b := s0.heap.size + 104) (As := [.int 0]) (rest := []) ⟨hx, hb, hml, hown, hts⟩ (ct_X11_refused hE ⟨_, hR⟩ 0) (cwV 1 hts (lw_V q983 q985 qs23 q61 q986) rfl rfl rfl (by decide +kernel) ⟨Nat.le_of_ble_eq_true rfl, Nat.le_of_ble_eq_true rfl⟩) (cc_pV hW0 (cc_re hK hR.mo (show gcl[10]? = _ from rfl))) rfl rfl hl.1 rfl (lv_room (Nat.le_of_ble_eq_true rfl)) dX11_giveBack_22 ⟨Nat.le_of_ble_eq_true rfl, Nat.le_of_ble_eq_true rfl⟩) hL (fun H locs hP1 hL => ?_)
    obtain ⟨Y, hR⟩ := hP1
    refine lv_if_eq (tgt := 30) hx hb dX11_giveBack_25 (by decide) (fun c25 => ?_) (fun c25 => ?_)
    · refine lv_aload_n hx hb dX11_giveBack_30 rfl (lv_at hl 0 rfl) ?_
      refine gx_get (D := D) (cl := gcl) (ci := 10) (v := .ref (mad s0.heap.size 16)) (C := RX11) (T := TX11) (N := 27) hx hb hts in_X11 hown hK hR.mo rfl 18 (by decide) (hts _ q904) (fun _ h9 => h9) rfl dX11_giveBack_31 ?_
      refine lv_bipush (v := 48) hx hb dX11_giveBack_34 (by decide) ?_
      refine lv_iload_n hx hb dX11_giveBack_36 rfl (lv_at hl 1 rfl) ?_
      refine lv_iadd hx hb dX11_giveBack_37 ?_
      refine gx_ti (nI (48 + u)) (nI_add 48 u) ?_
      refine gx_iald (n := 72) hx hb hK 1 (hR.mia 16 (by decide)) rfl (48 + u) (rfl) (by omega) (by decide) dX11_giveBack_38 ?_
      refine lv_istore_n (lv' := [(2, .int (mI (mz M 0 0) 16 (48 + u))), (0, .ref (s0.heap.size + 104)), (1, .int (nI u))]) hx hb dX11_giveBack_39 rfl hl (by decide) rfl (fun ls hl => ?_)
      refine lv_aload_n hx hb dX11_giveBack_40 rfl (lv_at hl 1 rfl) ?_
      refine gx_get (D := D) (cl := gcl) (ci := 10) (v := .ref (mad s0.heap.size 16)) (C := RX11) (T := TX11) (N := 27) hx hb hts in_X11 hown hK hR.mo rfl 18 (by decide) (hts _ q904) (fun _ h9 => h9) rfl dX11_giveBack_41 ?_
      refine lv_bipush (v := 48) hx hb dX11_giveBack_44 (by decide) ?_
      refine lv_iload_n hx hb dX11_giveBack_46 rfl (lv_at hl 2 rfl) ?_
      refine lv_iadd hx hb dX11_giveBack_47 ?_
      refine gx_ti (nI (48 + u)) (nI_add 48 u) ?_
      refine lv_iconst (v := 0) hx hb dX11_giveBack_48 (by decide) ?_
      refine gx_iast (n := 72) hx hb hK 1 (hR.mia 16 (by decide)) rfl (48 + u) (rfl) (by omega) (by decide) hL (by (try simp only [aI, aA, aT, aB, aL, mad]); omega) dX11_giveBack_49 (fun H locs hU hA hL => ?_)
      have hR := GRb.pMI (j := 16) (by decide) hR hU hA
      refine lv_iload_n hx hb dX11_giveBack_50 rfl (lv_at hl 0 rfl) ?_
      exact W.iret (v := (mI (mz M 0 0) 16 (48 + u))) hx hb hr (fun t ht hW => ⟨ovI (m_gb_0 hC hu).2.symm, by rw [ht]; exact (RR_M ((m_gb_0 hC hu).1) ⟨_, hR⟩)⟩) hL dX11_giveBack_51
    · exact absurd c25 (by decide)
set_option maxHeartbeats 4000000 in
set_option maxRecDepth 100000 in
/-- isTrue -/
theorem ct_X11_isTrue {l : Launch} {s0 : State} {D : va_G} {DA : Nat → ClassId} {z0 : Nat} {C : CS} {M : MS} {o : Int64} {H : Heap} (hE : G0 l s0 D DA z0) (hR : RR s0 D DA z0 C M o H) {i wk : Nat} {nn : Int32} (hi : i < 12) (hw : wk ≤ 12) (hC : MC M) : Met l yX11_isTrue (ws_ yX11_isTrue cX11_isTrue 6 (some .boolean)) ({ frames := 2, cells := 0, slots := 0, locals := 48 }) (cP s0 [.ref (s0.heap.size + 104), .int (nI i), .int nn, .int (nI wk)] H) (cQv (.int (bZ (m_tr M i nn wk (12 - wk)))) (fun H1 => H1 = H)) 0 0 (cF s0) := by
  refine Met.ofW (cc := cX11_isTrue) (maxL := 6) (ret := (some .boolean)) (by decide) rfl ?_
  intro p e s m args below meth c s₁ Bd hml hv
  obtain ⟨rfl, rfl, hW0⟩ := hv
  have hx := Bd.exec
  have hb := Bd.bytes
  have hr := Bd.returns
  have hts := atoms_spec (ws := (ws_ yX11_isTrue cX11_isTrue 6 (some .boolean))) Bd.pre
  have hts : ∀ w ∈ lw_all, w.before _ s = true := fun w h => hts w (List.mem_cons_of_mem _ h)
  have hown : s.vm.findClass RX11 = some m.cls := findClass_of_methodNamed Bd.named
  have hlocks := Bd.notSynchronized
  have hK := va_K.moved hW0.alike hE.K
  have hL : gx_L s0.heap.size ([] : List Loc) := gx_L0
  obtain ⟨Y, hR⟩ := hR
  have hl := lv_entry ([.ref (s0.heap.size + 104), .int (nI i), .int nn, .int (nI wk)]) (n := 6) (Nat.le_of_ble_eq_true rfl)
  rw [lg_entry_eq]
  generalize (lg_sl ([.ref (s0.heap.size + 104), .int (nI i), .int nn, .int (nI wk)]) ++ List.replicate (6 - (lg_sl ([.ref (s0.heap.size + 104), .int (nI i), .int nn, .int (nI wk)])).length) Slot.unset).toArray = ls at hl ⊢
  have hl : lv_has ls 6 [(0, .ref (s0.heap.size + 104)), (1, .int (nI i)), (2, .int nn), (3, .int (nI wk))] := hl
  have key : ∀ (n : Nat) (k : Nat) (locs : List Loc) (ls : Array Slot), k ≤ 12 - wk → 12 - wk < k + n → lv_has ls 6 [(4, .int (bZ (m_tr M i nn wk k))), (5, .int (nI (wk + k))), (0, .ref (s0.heap.size + 104)), (1, .int (nI i)), (2, .int nn)] → gx_L s0.heap.size locs → W p l e (headSpec (ws_ yX11_isTrue cX11_isTrue 6 (some .boolean)) ({ frames := 2, cells := 0, slots := 0, locals := 48 })).room s m ([.ref (s0.heap.size + 104), .int (nI i), .int nn, .int (nI wk)] : List Value).toArray below meth c s.heap locs 0 0 (MQ below (cQv (.int (bZ (m_tr M i nn wk (12 - wk)))) (fun H1 => H1 = s.heap)) ([.ref (s0.heap.size + 104), .int (nI i), .int nn, .int (nI wk)] : List Value).toArray s 0 0 (cF s0)) (F0 m 6 ls []) := by
    intro n
    induction n with
    | zero =>
      intro k locs ls hk hn hl hL
      omega
    | succ n ih =>
      intro k locs ls hk hn hl hL
      refine lv_iload hx hb dX11_isTrue_6 (lv_at hl 1 rfl) ?_
      refine lv_bipush (v := 12) hx hb dX11_isTrue_8 (by decide) ?_
      refine lv_icmp_ge (tgt := 64) hx hb dX11_isTrue_10 (by decide) (fun c10 => ?_) (fun c10 => ?_)
      · have hkc : k = 12 - wk := by have := n_ge (b := 12) c10 (by omega) (by omega); omega
        refine lv_iload hx hb dX11_isTrue_64 (lv_at hl 0 rfl) ?_
        exact W.zret (v := (bZ (m_tr M i nn wk k))) hx hb hr (bZ_n _) (fun t ht hW => ⟨ovI (by rw [hkc]), ht⟩) hL dX11_isTrue_66
      · have hkc : wk + k < 12 := n_lt (b := 12) c10 (by omega) (by omega)
        refine lv_iload hx hb dX11_isTrue_13 (lv_at hl 0 rfl) ?_
        refine lv_if_eq (tgt := 55) hx hb dX11_isTrue_15 (by decide) (fun c15 => ?_) (fun c15 => ?_)
        · refine lv_iconst (v := 0) hx hb dX11_isTrue_55 (by decide) ?_
          refine gx_ti (bZ (m_tr M i nn wk (k + 1))) ((bZ_f (by rw [m_tr, bZ_0.mp c15]; rfl)).symm) ?_
          refine lv_istore (lv' := [(4, .int (bZ (m_tr M i nn wk (k + 1)))), (5, .int (nI (wk + k))), (0, .ref (s0.heap.size + 104)), (1, .int (nI i)), (2, .int nn)]) hx hb dX11_isTrue_56 hl (by decide) rfl (fun ls hl => ?_)
          refine lv_iinc (v := nI (wk + (k + 1))) (lv' := [(5, .int (nI (wk + (k + 1)))), (4, .int (bZ (m_tr M i nn wk (k + 1)))), (0, .ref (s0.heap.size + 104)), (1, .int (nI i)), (2, .int nn)]) hx hb dX11_isTrue_58 hl (k := 1) rfl (nI_1 (wk + k)) (by decide) rfl (fun ls hl => ?_)
          refine lv_goto (tgt := 6) hx hb dX11_isTrue_61 (by decide) ?_
          exact ih (k + 1) _ _ (by omega) (by omega) (lv_sub hl [1, 0, 2, 3, 4] rfl) hL
        · refine lv_aload_n hx hb dX11_isTrue_18 rfl (lv_at hl 2 rfl) ?_
          refine lv_iload_n hx hb dX11_isTrue_19 rfl (lv_at hl 3 rfl) ?_
          refine lv_iload hx hb dX11_isTrue_20 (lv_at hl 1 rfl) ?_
          refine cc_v (va_runV (b := s0.heap.size + 104) (As := [.int (nI i), .int (nI (wk + k))]) (rest := []) ⟨hx, hb, hml, hown, hts⟩ (ct_X11_bare (i := i) (wk := wk + k) hE ⟨_, hR⟩ (by omega) (by omega) (hC.of rfl)) (cwV 2 hts (lw_V q1070 q1072 qs36 q61 q1073) rfl rfl rfl (by decide +kernel) ⟨Nat.le_of_ble_eq_true rfl, Nat.le_of_ble_eq_true rfl⟩) (cc_pV hW0 (cc_re hK hR.mo (show gcl[10]? = _ from rfl))) rfl rfl hl.1 rfl (lv_room (Nat.le_of_ble_eq_true rfl)) dX11_isTrue_22 ⟨Nat.le_of_ble_eq_true rfl, Nat.le_of_ble_eq_true rfl⟩) hL (fun H locs hP1 hL => ?_)
          subst hP1
          refine lv_aload_n hx hb dX11_isTrue_25 rfl (lv_at hl 2 rfl) ?_
          refine gx_get (D := D) (cl := gcl) (ci := 10) (v := .ref (mad s0.heap.size 19)) (C := RX11) (T := TX11) (N := 27) hx hb hts in_X11 hown hK hR.mo rfl 23 (by decide) (hts _ q909) (fun _ h9 => h9) rfl dX11_isTrue_26 ?_
          refine lv_iload_n hx hb dX11_isTrue_29 rfl (lv_at hl 3 rfl) ?_
          refine lv_iload hx hb dX11_isTrue_30 (lv_at hl 1 rfl) ?_
          refine cc_v (va_runS (As := [.ref (mad s0.heap.size 19), .int (nI i), .int (nI (wk + k))]) (rest := [.long (m_bare M i (wk + k))]) ⟨hx, hb, hml, hown, hts⟩ (ct_X11_upTo (f := mL M 19) (a := mad s0.heap.size 19) (n1 := 144) (n0 := wk + k + 1) (i := i) (wk := nI (wk + k)) hE (hR.mla 19 (by decide) (by decide)) (by decide) (by omega) (fun k h1 h2 => by have := n_gt h2 (by omega) (by omega); omega) (fun k h1 h2 => by have := n_le h2 (by omega) (by omega); omega) (fun k h1 => by omega)) (va_cwS 3 hts (lw_S q1074 q1075 q61 q1076) rfl rfl rfl (by decide +kernel) ⟨Nat.le_of_ble_eq_true rfl, Nat.le_of_ble_eq_true rfl⟩) (cc_pS hW0) rfl rfl hl.1 rfl (lv_room (Nat.le_of_ble_eq_true rfl)) dX11_isTrue_32 ⟨Nat.le_of_ble_eq_true rfl, Nat.le_of_ble_eq_true rfl⟩) hL (fun H locs hP1 hL => ?_)
          subst hP1
          refine lv_ladd hx hb dX11_isTrue_35 ?_
          refine lv_aload_n hx hb dX11_isTrue_36 rfl (lv_at hl 2 rfl) ?_
          refine lv_iconst (v := 2) hx hb dX11_isTrue_37 (by decide) ?_
          refine lv_iload_n hx hb dX11_isTrue_38 rfl (lv_at hl 3 rfl) ?_
          refine lv_iload hx hb dX11_isTrue_39 (lv_at hl 1 rfl) ?_
          refine cc_v (va_runV (b := s0.heap.size + 104) (As := [.int 2, .int (nI i), .int (nI (wk + k))]) (rest := [.long ((m_bare M i (wk + k)) + (m_up (mL M 19) i (wk + k + 1)))]) ⟨hx, hb, hml, hown, hts⟩ (ct_X11_sumOf (K := 2) hE ⟨_, hR⟩ (by decide) (nI i) (nI (wk + k)) (hC.c24 (by decide)) (hC.ct (by decide))) (cwV 3 hts (lw_V q1052 q1054 qs32 q61 q1055) rfl rfl rfl (by decide +kernel) ⟨Nat.le_of_ble_eq_true rfl, Nat.le_of_ble_eq_true rfl⟩) (cc_pV hW0 (cc_re hK hR.mo (show gcl[10]? = _ from rfl))) rfl rfl hl.1 rfl (lv_room (Nat.le_of_ble_eq_true rfl)) dX11_isTrue_41 ⟨Nat.le_of_ble_eq_true rfl, Nat.le_of_ble_eq_true rfl⟩) hL (fun H locs hP1 hL => ?_)
          subst hP1
          refine lv_lsub hx hb dX11_isTrue_44 ?_
          refine gx_tl (m_free M i (wk + k)) (rfl) ?_
          refine lv_iload_n hx hb dX11_isTrue_45 rfl (lv_at hl 4 rfl) ?_
          refine lv_i2l (v := nn.toInt64) hx hb dX11_isTrue_46 rfl ?_
          refine gx_lc_lt (tgt := 55) (pc1 := 48) hx hb rfl dX11_isTrue_47 dX11_isTrue_48 (by decide) (fun c48 => ?_) (fun c48 => ?_)
          · refine lv_iconst (v := 0) hx hb dX11_isTrue_55 (by decide) ?_
            refine gx_ti (bZ (m_tr M i nn wk (k + 1))) ((bZ_f (by rw [m_tr, decide_eq_false (Int64.not_le.mpr c48), Bool.and_false])).symm) ?_
            refine lv_istore (lv' := [(4, .int (bZ (m_tr M i nn wk (k + 1)))), (5, .int (nI (wk + k))), (0, .ref (s0.heap.size + 104)), (1, .int (nI i)), (2, .int nn)]) hx hb dX11_isTrue_56 hl (by decide) rfl (fun ls hl => ?_)
            refine lv_iinc (v := nI (wk + (k + 1))) (lv' := [(5, .int (nI (wk + (k + 1)))), (4, .int (bZ (m_tr M i nn wk (k + 1)))), (0, .ref (s0.heap.size + 104)), (1, .int (nI i)), (2, .int nn)]) hx hb dX11_isTrue_58 hl (k := 1) rfl (nI_1 (wk + k)) (by decide) rfl (fun ls hl => ?_)
            refine lv_goto (tgt := 6) hx hb dX11_isTrue_61 (by decide) ?_
            exact ih (k + 1) _ _ (by omega) (by omega) (lv_sub hl [1, 0, 2, 3, 4] rfl) hL
          · refine lv_iconst (v := 1) hx hb dX11_isTrue_51 (by decide) ?_
            refine lv_goto (tgt := 56) hx hb dX11_isTrue_52 (by decide) ?_
            refine gx_ti (bZ (m_tr M i nn wk (k + 1))) ((bZ_t (by rw [m_tr, bZ_1.mp c15, decide_eq_true (l_nlt c48)]; rfl)).symm) ?_
            refine lv_istore (lv' := [(4, .int (bZ (m_tr M i nn wk (k + 1)))), (5, .int (nI (wk + k))), (0, .ref (s0.heap.size + 104)), (1, .int (nI i)), (2, .int nn)]) hx hb dX11_isTrue_56 hl (by decide) rfl (fun ls hl => ?_)
            refine lv_iinc (v := nI (wk + (k + 1))) (lv' := [(5, .int (nI (wk + (k + 1)))), (4, .int (bZ (m_tr M i nn wk (k + 1)))), (0, .ref (s0.heap.size + 104)), (1, .int (nI i)), (2, .int nn)]) hx hb dX11_isTrue_58 hl (k := 1) rfl (nI_1 (wk + k)) (by decide) rfl (fun ls hl => ?_)
            refine lv_goto (tgt := 6) hx hb dX11_isTrue_61 (by decide) ?_
            exact ih (k + 1) _ _ (by omega) (by omega) (lv_sub hl [1, 0, 2, 3, 4] rfl) hL
  refine lv_iconst (v := 1) hx hb dX11_isTrue_0 (by decide) ?_
  refine gx_ti (bZ (m_tr M i nn wk 0)) (rfl) ?_
  refine lv_istore (lv' := [(4, .int (bZ (m_tr M i nn wk 0))), (0, .ref (s0.heap.size + 104)), (1, .int (nI i)), (2, .int nn), (3, .int (nI wk))]) hx hb dX11_isTrue_1 hl (by decide) rfl (fun ls hl => ?_)
  refine lv_iload_n hx hb dX11_isTrue_3 rfl (lv_at hl 4 rfl) ?_
  refine lv_istore (lv' := [(5, .int (nI wk)), (4, .int (bZ (m_tr M i nn wk 0))), (0, .ref (s0.heap.size + 104)), (1, .int (nI i)), (2, .int nn), (3, .int (nI wk))]) hx hb dX11_isTrue_4 hl (by decide) rfl (fun ls hl => ?_)
  exact key (12 - wk + 1) 0 _ _ (by omega) (by omega) (lv_sub hl [1, 0, 2, 3, 4] rfl) hL
set_option maxHeartbeats 4000000 in
set_option maxRecDepth 100000 in
/-- shortItems -/
theorem ct_X11_shortItems {l : Launch} {s0 : State} {D : va_G} {DA : Nat → ClassId} {z0 : Nat} {C : CS} {M : MS} {o : Int64} {H : Heap} (hE : G0 l s0 D DA z0) (hR : RR s0 D DA z0 C M o H) (hC : MC M) : Met l yX11_shortItems (ws_ yX11_shortItems cX11_shortItems 5 (some .int)) ({ frames := 2, cells := 0, slots := 0, locals := 48 }) (cP s0 [.ref (s0.heap.size + 104)] H) (cQv (.int (nI (m_shn M 12))) (fun H1 => H1 = H)) 0 0 (cF s0) := by
  refine Met.ofW (cc := cX11_shortItems) (maxL := 5) (ret := (some .int)) (by decide) rfl ?_
  intro p e s m args below meth c s₁ Bd hml hv
  obtain ⟨rfl, rfl, hW0⟩ := hv
  have hx := Bd.exec
  have hb := Bd.bytes
  have hr := Bd.returns
  have hts := atoms_spec (ws := (ws_ yX11_shortItems cX11_shortItems 5 (some .int))) Bd.pre
  have hts : ∀ w ∈ lw_all, w.before _ s = true := fun w h => hts w (List.mem_cons_of_mem _ h)
  have hown : s.vm.findClass RX11 = some m.cls := findClass_of_methodNamed Bd.named
  have hlocks := Bd.notSynchronized
  have hK := va_K.moved hW0.alike hE.K
  have hL : gx_L s0.heap.size ([] : List Loc) := gx_L0
  obtain ⟨Y, hR⟩ := hR
  have hl := lv_entry ([.ref (s0.heap.size + 104)]) (n := 5) (Nat.le_of_ble_eq_true rfl)
  rw [lg_entry_eq]
  generalize (lg_sl ([.ref (s0.heap.size + 104)]) ++ List.replicate (5 - (lg_sl ([.ref (s0.heap.size + 104)])).length) Slot.unset).toArray = ls at hl ⊢
  have hl : lv_has ls 5 [(0, .ref (s0.heap.size + 104))] := hl
  have key : ∀ (n : Nat) (k : Nat) (locs : List Loc) (ls : Array Slot), k ≤ 12 → 12 < k + n → lv_has ls 5 [(1, .int (nI (m_shn M k))), (2, .int (nI k)), (0, .ref (s0.heap.size + 104))] → gx_L s0.heap.size locs → W p l e (headSpec (ws_ yX11_shortItems cX11_shortItems 5 (some .int)) ({ frames := 2, cells := 0, slots := 0, locals := 48 })).room s m ([.ref (s0.heap.size + 104)] : List Value).toArray below meth c s.heap locs 0 0 (MQ below (cQv (.int (nI (m_shn M 12))) (fun H1 => H1 = s.heap)) ([.ref (s0.heap.size + 104)] : List Value).toArray s 0 0 (cF s0)) (F0 m 4 ls []) := by
    intro n
    induction n with
    | zero =>
      intro k locs ls hk hn hl hL
      omega
    | succ n ih =>
      intro k locs ls hk hn hl hL
      refine lv_iload_n hx hb dX11_shortItems_4 rfl (lv_at hl 1 rfl) ?_
      refine lv_bipush (v := 12) hx hb dX11_shortItems_5 (by decide) ?_
      refine lv_icmp_ge (tgt := 79) hx hb dX11_shortItems_7 (by decide) (fun c7 => ?_) (fun c7 => ?_)
      · have hkc : k = 12 := by have := n_ge (b := 12) c7 (by omega) (by omega); omega
        refine lv_iload_n hx hb dX11_shortItems_79 rfl (lv_at hl 0 rfl) ?_
        exact W.iret (v := (nI (m_shn M k))) hx hb hr (fun t ht hW => ⟨ovI (by rw [hkc]), ht⟩) hL dX11_shortItems_80
      · have hkc : k < 12 := by have := n_lt (b := 12) c7 (by omega) (by omega); omega
        have key2 : ∀ (n : Nat) (v : Nat) (locs : List Loc) (ls : Array Slot), v ≤ 12 → 12 < v + n → lv_has ls 5 [(3, .int (bZ (m_sh M k v))), (4, .int (nI v)), (1, .int (nI (m_shn M k))), (2, .int (nI k)), (0, .ref (s0.heap.size + 104))] → gx_L s0.heap.size locs → W p l e (headSpec (ws_ yX11_shortItems cX11_shortItems 5 (some .int)) ({ frames := 2, cells := 0, slots := 0, locals := 48 })).room s m ([.ref (s0.heap.size + 104)] : List Value).toArray below meth c s.heap locs 0 0 (MQ below (cQv (.int (nI (m_shn M 12))) (fun H1 => H1 = s.heap)) ([.ref (s0.heap.size + 104)] : List Value).toArray s 0 0 (cF s0)) (F0 m 15 ls []) := by
          intro n
          induction n with
          | zero =>
            intro v locs ls hv1 hn2 hl hL
            omega
          | succ n ih2 =>
            intro v locs ls hv1 hn2 hl hL
            refine lv_iload hx hb dX11_shortItems_15 (lv_at hl 1 rfl) ?_
            refine lv_bipush (v := 12) hx hb dX11_shortItems_17 (by decide) ?_
            refine lv_icmp_ge (tgt := 61) hx hb dX11_shortItems_19 (by decide) (fun c19 => ?_) (fun c19 => ?_)
            · have hv : v = 12 := by have := n_ge (b := 12) c19 (by omega) (by omega); omega
              refine lv_iload_n hx hb dX11_shortItems_61 rfl (lv_at hl 0 rfl) ?_
              refine lv_if_eq (tgt := 71) hx hb dX11_shortItems_62 (by decide) (fun c62 => ?_) (fun c62 => ?_)
              · refine lv_iload_n hx hb dX11_shortItems_71 rfl (lv_at hl 2 rfl) ?_
                refine gx_ti (nI (m_shn M (k + 1))) (by rw [m_shn, if_neg (by rw [← hv, bZ_0.mp c62]; decide)]) ?_
                refine lv_istore_n (lv' := [(1, .int (nI (m_shn M (k + 1)))), (3, .int (bZ (m_sh M k v))), (4, .int (nI v)), (2, .int (nI k)), (0, .ref (s0.heap.size + 104))]) hx hb dX11_shortItems_72 rfl hl (by decide) rfl (fun ls hl => ?_)
                refine lv_iinc (v := nI (k + 1)) (lv' := [(2, .int (nI (k + 1))), (1, .int (nI (m_shn M (k + 1)))), (3, .int (bZ (m_sh M k v))), (4, .int (nI v)), (0, .ref (s0.heap.size + 104))]) hx hb dX11_shortItems_73 hl (k := 3) rfl (nI_1 k) (by decide) rfl (fun ls hl => ?_)
                refine lv_goto (tgt := 4) hx hb dX11_shortItems_76 (by decide) ?_
                exact ih (k + 1) _ _ (by omega) (by omega) (lv_sub hl [1, 0, 4] rfl) hL
              · refine lv_iload_n hx hb dX11_shortItems_65 rfl (lv_at hl 2 rfl) ?_
                refine lv_iconst (v := 1) hx hb dX11_shortItems_66 (by decide) ?_
                refine lv_iadd hx hb dX11_shortItems_67 ?_
                refine gx_ti (nI (m_shn M k + 1)) (nI_add (m_shn M k) 1) ?_
                refine lv_goto (tgt := 72) hx hb dX11_shortItems_68 (by decide) ?_
                refine gx_ti (nI (m_shn M (k + 1))) (by rw [m_shn, if_pos (by rw [← hv]; exact bZ_1.mp c62)]) ?_
                refine lv_istore_n (lv' := [(1, .int (nI (m_shn M (k + 1)))), (3, .int (bZ (m_sh M k v))), (4, .int (nI v)), (2, .int (nI k)), (0, .ref (s0.heap.size + 104))]) hx hb dX11_shortItems_72 rfl hl (by decide) rfl (fun ls hl => ?_)
                refine lv_iinc (v := nI (k + 1)) (lv' := [(2, .int (nI (k + 1))), (1, .int (nI (m_shn M (k + 1)))), (3, .int (bZ (m_sh M k v))), (4, .int (nI v)), (0, .ref (s0.heap.size + 104))]) hx hb dX11_shortItems_73 hl (k := 3) rfl (nI_1 k) (by decide) rfl (fun ls hl => ?_)
                refine lv_goto (tgt := 4) hx hb dX11_shortItems_76 (by decide) ?_
                exact ih (k + 1) _ _ (by omega) (by omega) (lv_sub hl [1, 0, 4] rfl) hL
            · have hv : v < 12 := by have := n_lt (b := 12) c19 (by omega) (by omega); omega
              refine lv_iload_n hx hb dX11_shortItems_22 rfl (lv_at hl 0 rfl) ?_
              refine lv_if_ne (tgt := 49) hx hb dX11_shortItems_23 (by decide) (fun c23 => ?_) (fun c23 => ?_)
              · refine lv_iconst (v := 1) hx hb dX11_shortItems_49 (by decide) ?_
                refine lv_goto (tgt := 54) hx hb dX11_shortItems_50 (by decide) ?_
                refine gx_ti (bZ (m_sh M k (v + 1))) ((bZ_t (by rw [m_sh, bZ_1.mp c23]; rfl)).symm) ?_
                refine lv_istore_n (lv' := [(3, .int (bZ (m_sh M k (v + 1)))), (4, .int (nI v)), (1, .int (nI (m_shn M k))), (2, .int (nI k)), (0, .ref (s0.heap.size + 104))]) hx hb dX11_shortItems_54 rfl hl (by decide) rfl (fun ls hl => ?_)
                refine lv_iinc (v := nI (v + 1)) (lv' := [(4, .int (nI (v + 1))), (3, .int (bZ (m_sh M k (v + 1)))), (1, .int (nI (m_shn M k))), (2, .int (nI k)), (0, .ref (s0.heap.size + 104))]) hx hb dX11_shortItems_55 hl (k := 1) rfl (nI_1 v) (by decide) rfl (fun ls hl => ?_)
                refine lv_goto (tgt := 15) hx hb dX11_shortItems_58 (by decide) ?_
                exact ih2 (v + 1) _ _ (by omega) (by omega) (lv_sub hl [1, 0, 2, 3, 4] rfl) hL
              · refine lv_aload_n hx hb dX11_shortItems_26 rfl (lv_at hl 4 rfl) ?_
                refine lv_iload_n hx hb dX11_shortItems_27 rfl (lv_at hl 3 rfl) ?_
                refine lv_iload hx hb dX11_shortItems_28 (lv_at hl 1 rfl) ?_
                refine cc_v (va_runV (b := s0.heap.size + 104) (As := [.int (nI k), .int (nI v)]) (rest := []) ⟨hx, hb, hml, hown, hts⟩ (ct_X11_bare (i := k) (wk := v) hE ⟨_, hR⟩ (by omega) (by omega) (hC.of rfl)) (cwV 2 hts (lw_V q1070 q1072 qs36 q61 q1073) rfl rfl rfl (by decide +kernel) ⟨Nat.le_of_ble_eq_true rfl, Nat.le_of_ble_eq_true rfl⟩) (cc_pV hW0 (cc_re hK hR.mo (show gcl[10]? = _ from rfl))) rfl rfl hl.1 rfl (lv_room (Nat.le_of_ble_eq_true rfl)) dX11_shortItems_30 ⟨Nat.le_of_ble_eq_true rfl, Nat.le_of_ble_eq_true rfl⟩) hL (fun H locs hP1 hL => ?_)
                subst hP1
                refine lv_aload_n hx hb dX11_shortItems_33 rfl (lv_at hl 4 rfl) ?_
                refine gx_get (D := D) (cl := gcl) (ci := 10) (v := .ref (mad s0.heap.size 19)) (C := RX11) (T := TX11) (N := 27) hx hb hts in_X11 hown hK hR.mo rfl 23 (by decide) (hts _ q909) (fun _ h9 => h9) rfl dX11_shortItems_34 ?_
                refine lv_iload_n hx hb dX11_shortItems_37 rfl (lv_at hl 3 rfl) ?_
                refine lv_iload hx hb dX11_shortItems_38 (lv_at hl 1 rfl) ?_
                refine cc_v (va_runS (As := [.ref (mad s0.heap.size 19), .int (nI k), .int (nI v)]) (rest := [.long (m_bare M k v)]) ⟨hx, hb, hml, hown, hts⟩ (ct_X11_upTo (f := mL M 19) (a := mad s0.heap.size 19) (n1 := 144) (n0 := v + 1) (i := k) (wk := nI v) hE (hR.mla 19 (by decide) (by decide)) (by decide) (by omega) (fun k h1 h2 => by have := n_gt h2 (by omega) (by omega); omega) (fun k h1 h2 => by have := n_le h2 (by omega) (by omega); omega) (fun k h1 => by omega)) (va_cwS 3 hts (lw_S q1074 q1075 q61 q1076) rfl rfl rfl (by decide +kernel) ⟨Nat.le_of_ble_eq_true rfl, Nat.le_of_ble_eq_true rfl⟩) (cc_pS hW0) rfl rfl hl.1 rfl (lv_room (Nat.le_of_ble_eq_true rfl)) dX11_shortItems_40 ⟨Nat.le_of_ble_eq_true rfl, Nat.le_of_ble_eq_true rfl⟩) hL (fun H locs hP1 hL => ?_)
                subst hP1
                refine lv_ladd hx hb dX11_shortItems_43 ?_
                refine gx_tl (m_bal M k v) (rfl) ?_
                refine lv_lconst (v := 0) hx hb dX11_shortItems_44 (by decide) ?_
                refine gx_lc_ge (tgt := 53) (pc1 := 46) hx hb rfl dX11_shortItems_45 dX11_shortItems_46 (by decide) (fun c46 => ?_) (fun c46 => ?_)
                · refine lv_iconst (v := 0) hx hb dX11_shortItems_53 (by decide) ?_
                  refine gx_ti (bZ (m_sh M k (v + 1))) ((bZ_f (by rw [m_sh, bZ_0.mp c23, decide_eq_false (Int64.not_lt.mpr c46)]; rfl)).symm) ?_
                  refine lv_istore_n (lv' := [(3, .int (bZ (m_sh M k (v + 1)))), (4, .int (nI v)), (1, .int (nI (m_shn M k))), (2, .int (nI k)), (0, .ref (s0.heap.size + 104))]) hx hb dX11_shortItems_54 rfl hl (by decide) rfl (fun ls hl => ?_)
                  refine lv_iinc (v := nI (v + 1)) (lv' := [(4, .int (nI (v + 1))), (3, .int (bZ (m_sh M k (v + 1)))), (1, .int (nI (m_shn M k))), (2, .int (nI k)), (0, .ref (s0.heap.size + 104))]) hx hb dX11_shortItems_55 hl (k := 1) rfl (nI_1 v) (by decide) rfl (fun ls hl => ?_)
                  refine lv_goto (tgt := 15) hx hb dX11_shortItems_58 (by decide) ?_
                  exact ih2 (v + 1) _ _ (by omega) (by omega) (lv_sub hl [1, 0, 2, 3, 4] rfl) hL
                · refine lv_iconst (v := 1) hx hb dX11_shortItems_49 (by decide) ?_
                  refine lv_goto (tgt := 54) hx hb dX11_shortItems_50 (by decide) ?_
                  refine gx_ti (bZ (m_sh M k (v + 1))) ((bZ_t (by rw [m_sh, decide_eq_true (l_nle c46), Bool.or_true])).symm) ?_
                  refine lv_istore_n (lv' := [(3, .int (bZ (m_sh M k (v + 1)))), (4, .int (nI v)), (1, .int (nI (m_shn M k))), (2, .int (nI k)), (0, .ref (s0.heap.size + 104))]) hx hb dX11_shortItems_54 rfl hl (by decide) rfl (fun ls hl => ?_)
                  refine lv_iinc (v := nI (v + 1)) (lv' := [(4, .int (nI (v + 1))), (3, .int (bZ (m_sh M k (v + 1)))), (1, .int (nI (m_shn M k))), (2, .int (nI k)), (0, .ref (s0.heap.size + 104))]) hx hb dX11_shortItems_55 hl (k := 1) rfl (nI_1 v) (by decide) rfl (fun ls hl => ?_)
                  refine lv_goto (tgt := 15) hx hb dX11_shortItems_58 (by decide) ?_
                  exact ih2 (v + 1) _ _ (by omega) (by omega) (lv_sub hl [1, 0, 2, 3, 4] rfl) hL
        refine lv_iconst (v := 0) hx hb dX11_shortItems_10 (by decide) ?_
        refine gx_ti (bZ (m_sh M k 0)) (rfl) ?_
        refine lv_istore_n (lv' := [(3, .int (bZ (m_sh M k 0))), (1, .int (nI (m_shn M k))), (2, .int (nI k)), (0, .ref (s0.heap.size + 104))]) hx hb dX11_shortItems_11 rfl hl (by decide) rfl (fun ls hl => ?_)
        refine lv_iconst (v := 0) hx hb dX11_shortItems_12 (by decide) ?_
        refine gx_ti (nI 0) (by decide) ?_
        refine lv_istore (lv' := [(4, .int (nI 0)), (3, .int (bZ (m_sh M k 0))), (1, .int (nI (m_shn M k))), (2, .int (nI k)), (0, .ref (s0.heap.size + 104))]) hx hb dX11_shortItems_13 hl (by decide) rfl (fun ls hl => ?_)
        exact key2 13 0 _ _ (by omega) (by omega) (lv_sub hl [1, 0, 2, 3, 4] rfl) hL
  refine lv_iconst (v := 0) hx hb dX11_shortItems_0 (by decide) ?_
  refine gx_ti (nI (m_shn M 0)) (rfl) ?_
  refine lv_istore_n (lv' := [(1, .int (nI (m_shn M 0))), (0, .ref (s0.heap.size + 104))]) hx hb dX11_shortItems_1 rfl hl (by decide) rfl (fun ls hl => ?_)
  refine lv_iconst (v := 0) hx hb dX11_shortItems_2 (by decide) ?_
  refine gx_ti (nI 0) (by decide) ?_
  refine lv_istore_n (lv' := [(2, .int (nI 0)), (1, .int (nI (m_shn M 0))), (0, .ref (s0.heap.size + 104))]) hx hb dX11_shortItems_3 rfl hl (by decide) rfl (fun ls hl => ?_)
  exact key 13 0 _ _ (by omega) (by omega) (lv_sub hl [1, 0, 2] rfl) hL
