set_option maxHeartbeats 4000000 in
set_option maxRecDepth 100000 in
/-- bare -/
theorem ct_X11_bare {l : Launch} {s0 : State} {D : va_G} {DA : Nat → ClassId} {z0 : Nat} {C : CS} {M : MS} {o : Int64} {H : Heap} (hE : G0 l s0 D DA z0) (hR : RR s0 D DA z0 C M o H) {i wk : Nat} (hi : i < 12) (hw : wk < 12) (hC : MC M) : Met l yX11_bare (ws_ yX11_bare cX11_bare 3 (some .long)) ({ frames := 1, cells := 0, slots := 0, locals := 26 }) (cP s0 [.ref (s0.heap.size + 104), .int (nI i), .int (nI wk)] H) (cQv (.long (m_bare M i wk)) (fun H1 => H1 = H)) 0 0 (cF s0) := by
  refine Met.ofW (cc := cX11_bare) (maxL := 3) (ret := (some .long)) (by decide) rfl ?_
  intro p e s m args below meth c s₁ Bd hml hv
  obtain ⟨rfl, rfl, hW0⟩ := hv
  have hx := Bd.exec
  have hb := Bd.bytes
  have hr := Bd.returns
  have hts := atoms_spec (ws := (ws_ yX11_bare cX11_bare 3 (some .long))) Bd.pre
  have hts : ∀ w ∈ lw_all, w.before _ s = true := fun w h => hts w (List.mem_cons_of_mem _ h)
  have hown : s.vm.findClass RX11 = some m.cls := findClass_of_methodNamed Bd.named
  have hlocks := Bd.notSynchronized
  have hK := va_K.moved hW0.alike hE.K
  have hL : gx_L s0.heap.size ([] : List Loc) := gx_L0
  obtain ⟨Y, hR⟩ := hR
  have hl := lv_entry ([.ref (s0.heap.size + 104), .int (nI i), .int (nI wk)]) (n := 3) (Nat.le_of_ble_eq_true rfl)
  rw [lg_entry_eq]
  generalize (lg_sl ([.ref (s0.heap.size + 104), .int (nI i), .int (nI wk)]) ++ List.replicate (3 - (lg_sl ([.ref (s0.heap.size + 104), .int (nI i), .int (nI wk)])).length) Slot.unset).toArray = ls at hl ⊢
  have hl : lv_has ls 3 [(0, .ref (s0.heap.size + 104)), (1, .int (nI i)), (2, .int (nI wk))] := hl
  refine lv_aload_n hx hb dX11_bare_0 rfl (lv_at hl 0 rfl) ?_
  refine gx_get (D := D) (cl := gcl) (ci := 10) (v := .ref (mad s0.heap.size 7)) (C := RX11) (T := TX11) (N := 27) hx hb hts in_X11 hown hK hR.mo rfl 8 (by decide) (hts _ q894) (fun _ h9 => h9) rfl dX11_bare_1 ?_
  refine lv_iload_n hx hb dX11_bare_4 rfl (lv_at hl 1 rfl) ?_
  refine gx_iald (n := 12) hx hb hK 1 (hR.mia 7 (by decide)) rfl i (rfl) (by omega) (by decide) dX11_bare_5 ?_
  refine lv_i2l (v := (mI M 7 i).toInt64) hx hb dX11_bare_6 rfl ?_
  refine lv_aload_n hx hb dX11_bare_7 rfl (lv_at hl 0 rfl) ?_
  refine lv_iconst (v := 1) hx hb dX11_bare_8 (by decide) ?_
  refine lv_iload_n hx hb dX11_bare_9 rfl (lv_at hl 1 rfl) ?_
  refine lv_iload_n hx hb dX11_bare_10 rfl (lv_at hl 2 rfl) ?_
  refine cc_v (va_runV (b := s0.heap.size + 104) (As := [.int 1, .int (nI i), .int (nI wk)]) (rest := [.long ((mI M 7 i).toInt64)]) ⟨hx, hb, hml, hown, hts⟩ (ct_X11_sumOf (K := 1) hE ⟨_, hR⟩ (by decide) (nI i) (nI wk) (hC.c24 (by decide)) (hC.ct (by decide))) (cwV 3 hts (lw_V q1052 q1054 qs32 q61 q1055) rfl rfl rfl (by decide +kernel) ⟨Nat.le_of_ble_eq_true rfl, Nat.le_of_ble_eq_true rfl⟩) (cc_pV hW0 (cc_re hK hR.mo (show gcl[10]? = _ from rfl))) rfl rfl hl.1 rfl (lv_room (Nat.le_of_ble_eq_true rfl)) dX11_bare_11 ⟨Nat.le_of_ble_eq_true rfl, Nat.le_of_ble_eq_true rfl⟩) hL (fun H locs hP1 hL => ?_)
  subst hP1
  refine lv_ladd hx hb dX11_bare_14 ?_
  refine lv_aload_n hx hb dX11_bare_15 rfl (lv_at hl 0 rfl) ?_
  refine gx_get (D := D) (cl := gcl) (ci := 10) (v := .ref (mad s0.heap.size 18)) (C := RX11) (T := TX11) (N := 27) hx hb hts in_X11 hown hK hR.mo rfl 22 (by decide) (hts _ q908) (fun _ h9 => h9) rfl dX11_bare_16 ?_
  refine lv_iload_n hx hb dX11_bare_19 rfl (lv_at hl 1 rfl) ?_
  refine lv_iload_n hx hb dX11_bare_20 rfl (lv_at hl 2 rfl) ?_
  refine cc_v (va_runS (As := [.ref (mad s0.heap.size 18), .int (nI i), .int (nI wk)]) (rest := [.long (((mI M 7 i).toInt64) + (m_sum M 1 (nI i) (nI wk) (mCt M 1)))]) ⟨hx, hb, hml, hown, hts⟩ (ct_X11_upTo (f := mL M 18) (a := mad s0.heap.size 18) (n1 := 144) (n0 := wk + 1) (i := i) (wk := nI wk) hE (hR.mla 18 (by decide) (by decide)) (by decide) (by omega) (fun k h1 h2 => by have := n_gt h2 (by omega) (by omega); omega) (fun k h1 h2 => by have := n_le h2 (by omega) (by omega); omega) (fun k h1 => by omega)) (va_cwS 3 hts (lw_S q1074 q1075 q61 q1076) rfl rfl rfl (by decide +kernel) ⟨Nat.le_of_ble_eq_true rfl, Nat.le_of_ble_eq_true rfl⟩) (cc_pS hW0) rfl rfl hl.1 rfl (lv_room (Nat.le_of_ble_eq_true rfl)) dX11_bare_21 ⟨Nat.le_of_ble_eq_true rfl, Nat.le_of_ble_eq_true rfl⟩) hL (fun H locs hP1 hL => ?_)
  subst hP1
  refine lv_lsub hx hb dX11_bare_24 ?_
  exact W.lret (v := ((((mI M 7 i).toInt64) + (m_sum M 1 (nI i) (nI wk) (mCt M 1))) - (m_up (mL M 18) i (wk + 1)))) hx hb hr (fun t ht hW => ⟨rfl, ht⟩) hL dX11_bare_25
set_option maxHeartbeats 4000000 in
set_option maxRecDepth 100000 in
/-- needOf -/
theorem ct_X11_needOf {l : Launch} {s0 : State} {D : va_G} {DA : Nat → ClassId} {z0 : Nat} {C : CS} {M : MS} {o : Int64} {H : Heap} (hE : G0 l s0 D DA z0) (hR : RR s0 D DA z0 C M o H) (k : Nat) (hk : k ≤ 13) : Met l yX11_needOf (ws_ yX11_needOf cX11_needOf 2 (some .long)) ({ frames := 0, cells := 0, slots := 0, locals := 0 }) (cP s0 [.ref (s0.heap.size + 104), .int (nm k)] H) (cQv (.long (m_nd M k)) (fun H1 => H1 = H)) 0 0 (cF s0) := by
  refine Met.ofW (cc := cX11_needOf) (maxL := 2) (ret := (some .long)) (by decide) rfl ?_
  intro p e s m args below meth c s₁ Bd hml hv
  obtain ⟨rfl, rfl, hW0⟩ := hv
  have hx := Bd.exec
  have hb := Bd.bytes
  have hr := Bd.returns
  have hts := atoms_spec (ws := (ws_ yX11_needOf cX11_needOf 2 (some .long))) Bd.pre
  have hts : ∀ w ∈ lw_all, w.before _ s = true := fun w h => hts w (List.mem_cons_of_mem _ h)
  have hown : s.vm.findClass RX11 = some m.cls := findClass_of_methodNamed Bd.named
  have hlocks := Bd.notSynchronized
  have hK := va_K.moved hW0.alike hE.K
  have hL : gx_L s0.heap.size ([] : List Loc) := gx_L0
  obtain ⟨Y, hR⟩ := hR
  have hl := lv_entry ([.ref (s0.heap.size + 104), .int (nm k)]) (n := 2) (Nat.le_of_ble_eq_true rfl)
  rw [lg_entry_eq]
  generalize (lg_sl ([.ref (s0.heap.size + 104), .int (nm k)]) ++ List.replicate (2 - (lg_sl ([.ref (s0.heap.size + 104), .int (nm k)])).length) Slot.unset).toArray = ls at hl ⊢
  have hl : lv_has ls 2 [(0, .ref (s0.heap.size + 104)), (1, .int (nm k))] := hl
  cases k with
  | zero =>
    have hl : lv_has ls 2 [(0, .ref (s0.heap.size + 104)), (1, .int (-1))] := hl
    refine lv_iload_n hx hb dX11_needOf_0 rfl (lv_at hl 1 rfl) ?_
    refine lv_if_ge (tgt := 8) hx hb dX11_needOf_1 (by decide) (fun c1 => ?_) (fun c1 => ?_)
    · exact absurd c1 (by decide)
    · refine lv_lconst (v := 0) hx hb dX11_needOf_4 (by decide) ?_
      refine lv_goto (tgt := 14) hx hb dX11_needOf_5 (by decide) ?_
      exact W.lret (v := 0) hx hb hr (fun t ht hW => ⟨rfl, ht⟩) hL dX11_needOf_14
  | succ k =>
    have hl : lv_has ls 2 [(0, .ref (s0.heap.size + 104)), (1, .int (nI k))] := hl
    refine lv_iload_n hx hb dX11_needOf_0 rfl (lv_at hl 1 rfl) ?_
    refine lv_if_ge (tgt := 8) hx hb dX11_needOf_1 (by decide) (fun c1 => ?_) (fun c1 => ?_)
    · refine lv_aload_n hx hb dX11_needOf_8 rfl (lv_at hl 0 rfl) ?_
      refine gx_get (D := D) (cl := gcl) (ci := 10) (v := .ref (mad s0.heap.size 21)) (C := RX11) (T := TX11) (N := 27) hx hb hts in_X11 hown hK hR.mo rfl 25 (by decide) (hts _ q911) (fun _ h9 => h9) rfl dX11_needOf_9 ?_
      refine lv_iload_n hx hb dX11_needOf_12 rfl (lv_at hl 1 rfl) ?_
      refine gx_lald (n := 13) hx hb hK 0 (hR.mla 21 (by decide) (by decide)) rfl k (rfl) (by omega) (by decide) dX11_needOf_13 ?_
      exact W.lret (v := (mL M 21 k)) hx hb hr (fun t ht hW => ⟨rfl, ht⟩) hL dX11_needOf_14
    · exact absurd (nI_pos' (by omega)) c1
set_option maxHeartbeats 4000000 in
set_option maxRecDepth 100000 in
/-- cost -/
theorem ct_X11_cost {l : Launch} {s0 : State} {D : va_G} {DA : Nat → ClassId} {z0 : Nat} {C : CS} {M : MS} {o : Int64} {H : Heap} (hE : G0 l s0 D DA z0) (hR : RR s0 D DA z0 C M o H) {i wk nn : Nat} (hi : i < 12) (hw : wk + nn ≤ 12) : Met l yX11_cost (ws_ yX11_cost cX11_cost 7 (some .long)) ({ frames := 1, cells := 0, slots := 0, locals := 21 }) (cP s0 [.ref (s0.heap.size + 104), .int (nI i), .int (nI wk), .int (nI (wk + nn))] H) (cQv (.long (p_cost (m_su M i) (m_ho M i) (m_nd M) wk nn)) (fun H1 => H1 = H)) 0 0 (cF s0) := by
  refine Met.ofW (cc := cX11_cost) (maxL := 7) (ret := (some .long)) (by decide) rfl ?_
  intro p e s m args below meth c s₁ Bd hml hv
  obtain ⟨rfl, rfl, hW0⟩ := hv
  have hx := Bd.exec
  have hb := Bd.bytes
  have hr := Bd.returns
  have hts := atoms_spec (ws := (ws_ yX11_cost cX11_cost 7 (some .long))) Bd.pre
  have hts : ∀ w ∈ lw_all, w.before _ s = true := fun w h => hts w (List.mem_cons_of_mem _ h)
  have hown : s.vm.findClass RX11 = some m.cls := findClass_of_methodNamed Bd.named
  have hlocks := Bd.notSynchronized
  have hK := va_K.moved hW0.alike hE.K
  have hL : gx_L s0.heap.size ([] : List Loc) := gx_L0
  obtain ⟨Y, hR⟩ := hR
  have hl := lv_entry ([.ref (s0.heap.size + 104), .int (nI i), .int (nI wk), .int (nI (wk + nn))]) (n := 7) (Nat.le_of_ble_eq_true rfl)
  rw [lg_entry_eq]
  generalize (lg_sl ([.ref (s0.heap.size + 104), .int (nI i), .int (nI wk), .int (nI (wk + nn))]) ++ List.replicate (7 - (lg_sl ([.ref (s0.heap.size + 104), .int (nI i), .int (nI wk), .int (nI (wk + nn))])).length) Slot.unset).toArray = ls at hl ⊢
  have hl : lv_has ls 7 [(0, .ref (s0.heap.size + 104)), (1, .int (nI i)), (2, .int (nI wk)), (3, .int (nI (wk + nn)))] := hl
  have key : ∀ (n : Nat) (k : Nat) (locs : List Loc) (ls : Array Slot), k ≤ nn → nn < k + n → lv_has ls 7 [(4, .long (p_cs (m_nd M) wk k)), (6, .int (nI (wk + k + 1))), (0, .ref (s0.heap.size + 104)), (1, .int (nI i)), (2, .int (nI wk)), (3, .int (nI (wk + nn)))] → gx_L s0.heap.size locs → W p l e (headSpec (ws_ yX11_cost cX11_cost 7 (some .long)) ({ frames := 1, cells := 0, slots := 0, locals := 21 })).room s m ([.ref (s0.heap.size + 104), .int (nI i), .int (nI wk), .int (nI (wk + nn))] : List Value).toArray below meth c s.heap locs 0 0 (MQ below (cQv (.long (p_cost (m_su M i) (m_ho M i) (m_nd M) wk nn)) (fun H1 => H1 = s.heap)) ([.ref (s0.heap.size + 104), .int (nI i), .int (nI wk), .int (nI (wk + nn))] : List Value).toArray s 0 0 (cF s0)) (F0 m 8 ls []) := by
    intro n
    induction n with
    | zero =>
      intro k locs ls hk hn hl hL
      omega
    | succ n ih =>
      intro k locs ls hk hn hl hL
      refine lv_iload hx hb dX11_cost_8 (lv_at hl 1 rfl) ?_
      refine lv_iload_n hx hb dX11_cost_10 rfl (lv_at hl 5 rfl) ?_
      refine lv_icmp_gt (tgt := 46) hx hb dX11_cost_11 (by decide) (fun c11 => ?_) (fun c11 => ?_)
      · have hkc : k = nn := by have := n_gt c11 (by omega) (by omega); omega
        refine lv_aload_n hx hb dX11_cost_46 rfl (lv_at hl 2 rfl) ?_
        refine gx_get (D := D) (cl := gcl) (ci := 10) (v := .ref (mad s0.heap.size 5)) (C := RX11) (T := TX11) (N := 27) hx hb hts in_X11 hown hK hR.mo rfl 6 (by decide) (hts _ q892) (fun _ h9 => h9) rfl dX11_cost_47 ?_
        refine lv_iload_n hx hb dX11_cost_50 rfl (lv_at hl 3 rfl) ?_
        refine gx_iald (n := 12) hx hb hK 1 (hR.mia 5 (by decide)) rfl i (rfl) (by omega) (by decide) dX11_cost_51 ?_
        refine lv_i2l (v := (mI M 5 i).toInt64) hx hb dX11_cost_52 rfl ?_
        refine lv_aload_n hx hb dX11_cost_53 rfl (lv_at hl 2 rfl) ?_
        refine gx_get (D := D) (cl := gcl) (ci := 10) (v := .ref (mad s0.heap.size 6)) (C := RX11) (T := TX11) (N := 27) hx hb hts in_X11 hown hK hR.mo rfl 7 (by decide) (hts _ q893) (fun _ h9 => h9) rfl dX11_cost_54 ?_
        refine lv_iload_n hx hb dX11_cost_57 rfl (lv_at hl 3 rfl) ?_
        refine gx_iald (n := 12) hx hb hK 1 (hR.mia 6 (by decide)) rfl i (rfl) (by omega) (by decide) dX11_cost_58 ?_
        refine lv_i2l (v := (mI M 6 i).toInt64) hx hb dX11_cost_59 rfl ?_
        refine lv_lload hx hb dX11_cost_60 (lv_at hl 0 rfl) ?_
        refine lv_lmul hx hb dX11_cost_62 ?_
        refine lv_ladd hx hb dX11_cost_63 ?_
        refine gx_tl (p_cost (m_su M i) (m_ho M i) (m_nd M) wk nn) (by rw [hkc]; rfl) ?_
        exact W.lret (v := (p_cost (m_su M i) (m_ho M i) (m_nd M) wk nn)) hx hb hr (fun t ht hW => ⟨rfl, ht⟩) hL dX11_cost_64
      · have hkc : k < nn := by have := n_le c11 (by omega) (by omega); omega
        refine lv_lload hx hb dX11_cost_14 (lv_at hl 0 rfl) ?_
        refine lv_iload hx hb dX11_cost_16 (lv_at hl 1 rfl) ?_
        refine lv_iload_n hx hb dX11_cost_18 rfl (lv_at hl 4 rfl) ?_
        refine lv_isub hx hb dX11_cost_19 ?_
        refine gx_ti (nI (k + 1)) (by rw [pk_sub (by omega)]; congr 1; omega) ?_
        refine lv_i2l (v := (nI (k + 1)).toInt64) hx hb dX11_cost_20 rfl ?_
        refine lv_aload_n hx hb dX11_cost_21 rfl (lv_at hl 2 rfl) ?_
        refine lv_iload hx hb dX11_cost_22 (lv_at hl 1 rfl) ?_
        refine cc_v (va_runV (b := s0.heap.size + 104) (As := [.int (nI (wk + k + 1))]) (rest := [.long ((nI (k + 1)).toInt64), .long (p_cs (m_nd M) wk k)]) ⟨hx, hb, hml, hown, hts⟩ (ct_X11_needOf hE ⟨_, hR⟩ (wk + k + 1 + 1) (by omega)) (cwV 1 hts (lw_V q1089 q1091 qs40 q61 q1092) rfl rfl rfl (by decide +kernel) ⟨Nat.le_of_ble_eq_true rfl, Nat.le_of_ble_eq_true rfl⟩) (cc_pV hW0 (cc_re hK hR.mo (show gcl[10]? = _ from rfl))) rfl rfl hl.1 rfl (lv_room (Nat.le_of_ble_eq_true rfl)) dX11_cost_24 ⟨Nat.le_of_ble_eq_true rfl, Nat.le_of_ble_eq_true rfl⟩) hL (fun H locs hP1 hL => ?_)
        subst hP1
        refine lv_aload_n hx hb dX11_cost_27 rfl (lv_at hl 2 rfl) ?_
        refine lv_iload hx hb dX11_cost_28 (lv_at hl 1 rfl) ?_
        refine lv_iconst (v := 1) hx hb dX11_cost_30 (by decide) ?_
        refine lv_isub hx hb dX11_cost_31 ?_
        refine gx_ti (nI (wk + k)) (nI_pred (wk + k)) ?_
        refine cc_v (va_runV (b := s0.heap.size + 104) (As := [.int (nI (wk + k))]) (rest := [.long (m_nd M (wk + k + 1 + 1)), .long ((nI (k + 1)).toInt64), .long (p_cs (m_nd M) wk k)]) ⟨hx, hb, hml, hown, hts⟩ (ct_X11_needOf hE ⟨_, hR⟩ (wk + k + 1) (by omega)) (cwV 1 hts (lw_V q1089 q1091 qs40 q61 q1092) rfl rfl rfl (by decide +kernel) ⟨Nat.le_of_ble_eq_true rfl, Nat.le_of_ble_eq_true rfl⟩) (cc_pV hW0 (cc_re hK hR.mo (show gcl[10]? = _ from rfl))) rfl rfl hl.1 rfl (lv_room (Nat.le_of_ble_eq_true rfl)) dX11_cost_32 ⟨Nat.le_of_ble_eq_true rfl, Nat.le_of_ble_eq_true rfl⟩) hL (fun H locs hP1 hL => ?_)
        subst hP1
        refine lv_lsub hx hb dX11_cost_35 ?_
        refine lv_lmul hx hb dX11_cost_36 ?_
        refine lv_ladd hx hb dX11_cost_37 ?_
        refine gx_tl (p_cs (m_nd M) wk (k + 1)) (rfl) ?_
        refine lv_lstore (lv' := [(4, .long (p_cs (m_nd M) wk (k + 1))), (6, .int (nI (wk + k + 1))), (0, .ref (s0.heap.size + 104)), (1, .int (nI i)), (2, .int (nI wk)), (3, .int (nI (wk + nn)))]) hx hb dX11_cost_38 hl (by decide) rfl (fun ls hl => ?_)
        refine lv_iinc (v := nI (wk + (k + 1) + 1)) (lv' := [(6, .int (nI (wk + (k + 1) + 1))), (4, .long (p_cs (m_nd M) wk (k + 1))), (0, .ref (s0.heap.size + 104)), (1, .int (nI i)), (2, .int (nI wk)), (3, .int (nI (wk + nn)))]) hx hb dX11_cost_40 hl (k := 1) rfl (nI_1 (wk + k + 1)) (by decide) rfl (fun ls hl => ?_)
        refine lv_goto (tgt := 8) hx hb dX11_cost_43 (by decide) ?_
        exact ih (k + 1) _ _ (by omega) (by omega) (lv_sub hl [1, 0, 2, 3, 4, 5] rfl) hL
  refine lv_lconst (v := 0) hx hb dX11_cost_0 (by decide) ?_
  refine gx_tl (p_cs (m_nd M) wk 0) (rfl) ?_
  refine lv_lstore (lv' := [(4, .long (p_cs (m_nd M) wk 0)), (0, .ref (s0.heap.size + 104)), (1, .int (nI i)), (2, .int (nI wk)), (3, .int (nI (wk + nn)))]) hx hb dX11_cost_1 hl (by decide) rfl (fun ls hl => ?_)
  refine lv_iload_n hx hb dX11_cost_3 rfl (lv_at hl 3 rfl) ?_
  refine lv_iconst (v := 1) hx hb dX11_cost_4 (by decide) ?_
  refine lv_iadd hx hb dX11_cost_5 ?_
  refine gx_ti (nI (wk + 0 + 1)) (nI_1 wk) ?_
  refine lv_istore (lv' := [(6, .int (nI (wk + 0 + 1))), (4, .long (p_cs (m_nd M) wk 0)), (0, .ref (s0.heap.size + 104)), (1, .int (nI i)), (2, .int (nI wk)), (3, .int (nI (wk + nn)))]) hx hb dX11_cost_6 hl (by decide) rfl (fun ls hl => ?_)
  exact key (nn + 1) 0 _ _ (by omega) (by omega) (lv_sub hl [1, 0, 2, 3, 4, 5] rfl) hL
set_option maxHeartbeats 4000000 in
set_option maxRecDepth 100000 in
/-- asks -/
theorem ct_X11_asks {l : Launch} {s0 : State} {D : va_G} {DA : Nat → ClassId} {z0 : Nat} {C : CS} {M : MS} {o : Int64} {H : Heap} (hE : G0 l s0 D DA z0) (hR : RR s0 D DA z0 C M o H) {pa ch wk : Nat} (hpa : pa < 12) (hch : ch < 12) (hw : wk < 12) (hC : MC M) : Met l yX11_asks (ws_ yX11_asks cX11_asks 8 (some .long)) ({ frames := 0, cells := 0, slots := 0, locals := 0 }) (cP s0 [.ref (s0.heap.size + 104), .int (nI (12 * pa + ch)), .int (nI wk)] H) (cQv (.long (m_asks M pa ch wk)) (fun H1 => H1 = H)) 0 0 (cF s0) := by
  refine Met.ofW (cc := cX11_asks) (maxL := 8) (ret := (some .long)) (by decide) rfl ?_
  intro p e s m args below meth c s₁ Bd hml hv
  obtain ⟨rfl, rfl, hW0⟩ := hv
  have hx := Bd.exec
  have hb := Bd.bytes
  have hr := Bd.returns
  have hts := atoms_spec (ws := (ws_ yX11_asks cX11_asks 8 (some .long))) Bd.pre
  have hts : ∀ w ∈ lw_all, w.before _ s = true := fun w h => hts w (List.mem_cons_of_mem _ h)
  have hown : s.vm.findClass RX11 = some m.cls := findClass_of_methodNamed Bd.named
  have hlocks := Bd.notSynchronized
  have hK := va_K.moved hW0.alike hE.K
  have hL : gx_L s0.heap.size ([] : List Loc) := gx_L0
  obtain ⟨Y, hR⟩ := hR
  have hl := lv_entry ([.ref (s0.heap.size + 104), .int (nI (12 * pa + ch)), .int (nI wk)]) (n := 8) (Nat.le_of_ble_eq_true rfl)
  rw [lg_entry_eq]
  generalize (lg_sl ([.ref (s0.heap.size + 104), .int (nI (12 * pa + ch)), .int (nI wk)]) ++ List.replicate (8 - (lg_sl ([.ref (s0.heap.size + 104), .int (nI (12 * pa + ch)), .int (nI wk)])).length) Slot.unset).toArray = ls at hl ⊢
  have hl : lv_has ls 8 [(0, .ref (s0.heap.size + 104)), (1, .int (nI (12 * pa + ch))), (2, .int (nI wk))] := hl
  have h4 := hC.l4 hpa
  refine lv_iload_n hx hb dX11_asks_0 rfl (lv_at hl 1 rfl) ?_
  refine lv_bipush (v := 12) hx hb dX11_asks_1 (by decide) ?_
  refine lv_idiv hx hb dX11_asks_3 (by decide) ?_
  refine gx_ti (nI pa) (by rw [show (12 : Int32) = nI 12 by decide, pk_div (by omega) (by omega) (by omega)]; congr 1; omega) ?_
  refine lv_istore_n (lv' := [(3, .int (nI pa)), (0, .ref (s0.heap.size + 104)), (1, .int (nI (12 * pa + ch))), (2, .int (nI wk))]) hx hb dX11_asks_4 rfl hl (by decide) rfl (fun ls hl => ?_)
  refine lv_iload_n hx hb dX11_asks_5 rfl (lv_at hl 3 rfl) ?_
  refine lv_aload_n hx hb dX11_asks_6 rfl (lv_at hl 1 rfl) ?_
  refine gx_get (D := D) (cl := gcl) (ci := 10) (v := .ref (mad s0.heap.size 2)) (C := RX11) (T := TX11) (N := 27) hx hb hts in_X11 hown hK hR.mo rfl 3 (by decide) (hts _ q889) (fun _ h9 => h9) rfl dX11_asks_7 ?_
  refine lv_iload_n hx hb dX11_asks_10 rfl (lv_at hl 0 rfl) ?_
  refine gx_iald (n := 12) hx hb hK 1 (hR.mia 2 (by decide)) rfl pa (rfl) (by omega) (by decide) dX11_asks_11 ?_
  refine lv_iadd hx hb dX11_asks_12 ?_
  refine gx_ti (nI (wk + mLd M pa)) (by rw [hC.ld hpa]; exact nI_add _ _) ?_
  refine lv_istore (lv' := [(4, .int (nI (wk + mLd M pa))), (3, .int (nI pa)), (0, .ref (s0.heap.size + 104)), (1, .int (nI (12 * pa + ch))), (2, .int (nI wk))]) hx hb dX11_asks_13 hl (by decide) rfl (fun ls hl => ?_)
  refine lv_aload_n hx hb dX11_asks_15 rfl (lv_at hl 2 rfl) ?_
  refine gx_get (D := D) (cl := gcl) (ci := 10) (v := .ref (mad s0.heap.size 10)) (C := RX11) (T := TX11) (N := 27) hx hb hts in_X11 hown hK hR.mo rfl 11 (by decide) (hts _ q897) (fun _ h9 => h9) rfl dX11_asks_16 ?_
  refine lv_iload_n hx hb dX11_asks_19 rfl (lv_at hl 3 rfl) ?_
  refine gx_iald (n := 144) hx hb hK 1 (hR.mia 10 (by decide)) rfl (12 * pa + ch) (rfl) (by omega) (by decide) dX11_asks_20 ?_
  refine lv_if_le (tgt := 55) hx hb dX11_asks_21 (by decide) (fun c21 => ?_) (fun c21 => ?_)
  · refine lv_iconst (v := 0) hx hb dX11_asks_55 (by decide) ?_
    refine lv_istore (lv' := [(5, .int 0), (4, .int (nI (wk + mLd M pa))), (3, .int (nI pa)), (0, .ref (s0.heap.size + 104)), (1, .int (nI (12 * pa + ch))), (2, .int (nI wk))]) hx hb dX11_asks_56 hl (by decide) rfl (fun ls hl => ?_)
    refine lv_iload hx hb dX11_asks_58 (lv_at hl 0 rfl) ?_
    refine lv_if_eq (tgt := 78) hx hb dX11_asks_60 (by decide) (fun c60 => ?_) (fun c60 => ?_)
    · refine lv_lconst (v := 0) hx hb dX11_asks_78 (by decide) ?_
      refine gx_tl (m_q M pa ch wk) (by rw [m_q, if_neg (fun q => absurd q.1 (Int32.not_lt.mpr c21))]) ?_
      refine lv_lstore (lv' := [(6, .long (m_q M pa ch wk)), (5, .int 0), (4, .int (nI (wk + mLd M pa))), (3, .int (nI pa)), (0, .ref (s0.heap.size + 104)), (1, .int (nI (12 * pa + ch))), (2, .int (nI wk))]) hx hb dX11_asks_79 hl (by decide) rfl (fun ls hl => ?_)
      refine lv_lload hx hb dX11_asks_81 (lv_at hl 0 rfl) ?_
      refine lv_aload_n hx hb dX11_asks_83 rfl (lv_at hl 4 rfl) ?_
      refine gx_get (D := D) (cl := gcl) (ci := 10) (v := .ref (mad s0.heap.size 10)) (C := RX11) (T := TX11) (N := 27) hx hb hts in_X11 hown hK hR.mo rfl 11 (by decide) (hts _ q897) (fun _ h9 => h9) rfl dX11_asks_84 ?_
      refine lv_iload_n hx hb dX11_asks_87 rfl (lv_at hl 5 rfl) ?_
      refine gx_iald (n := 144) hx hb hK 1 (hR.mia 10 (by decide)) rfl (12 * pa + ch) (rfl) (by omega) (by decide) dX11_asks_88 ?_
      refine lv_i2l (v := (mI M 10 (12 * pa + ch)).toInt64) hx hb dX11_asks_89 rfl ?_
      refine lv_lmul hx hb dX11_asks_90 ?_
      refine lv_ldc2 (v := 1000) hx hb hown (hts _ q1060) dX11_asks_91 ?_
      refine lv_aload_n hx hb dX11_asks_94 rfl (lv_at hl 4 rfl) ?_
      refine gx_get (D := D) (cl := gcl) (ci := 10) (v := .ref (mad s0.heap.size 4)) (C := RX11) (T := TX11) (N := 27) hx hb hts in_X11 hown hK hR.mo rfl 5 (by decide) (hts _ q891) (fun _ h9 => h9) rfl dX11_asks_95 ?_
      refine lv_iload_n hx hb dX11_asks_98 rfl (lv_at hl 5 rfl) ?_
      refine lv_bipush (v := 12) hx hb dX11_asks_99 (by decide) ?_
      refine lv_irem hx hb dX11_asks_101 (by decide) ?_
      refine gx_ti (nI ch) (by rw [show (12 : Int32) = nI 12 by decide, pk_rem (by omega) (by omega) (by omega)]; congr 1; omega) ?_
      refine gx_iald (n := 12) hx hb hK 1 (hR.mia 4 (by decide)) rfl ch (rfl) (by omega) (by decide) dX11_asks_102 ?_
      refine lv_i2l (v := (mI M 4 ch).toInt64) hx hb dX11_asks_103 rfl ?_
      refine lv_ladd hx hb dX11_asks_104 ?_
      refine lv_lmul hx hb dX11_asks_105 ?_
      refine lv_ldc2 (v := 999) hx hb hown (hts _ q1061) dX11_asks_106 ?_
      refine lv_ladd hx hb dX11_asks_109 ?_
      refine lv_ldc2 (v := 1000) hx hb hown (hts _ q1060) dX11_asks_110 ?_
      refine lv_ldiv hx hb dX11_asks_113 (by decide) ?_
      exact W.lret (v := (((((m_q M pa ch wk) * ((mI M 10 (12 * pa + ch)).toInt64)) * (1000 + ((mI M 4 ch).toInt64))) + 999) / 1000)) hx hb hr (fun t ht hW => ⟨rfl, ht⟩) hL dX11_asks_114
    · exact absurd rfl c60
  · refine lv_iload hx hb dX11_asks_24 (lv_at hl 0 rfl) ?_
    refine lv_bipush (v := 12) hx hb dX11_asks_26 (by decide) ?_
    refine lv_icmp_ge (tgt := 55) hx hb dX11_asks_28 (by decide) (fun c28 => ?_) (fun c28 => ?_)
    · refine lv_iconst (v := 0) hx hb dX11_asks_55 (by decide) ?_
      refine lv_istore (lv' := [(5, .int 0), (4, .int (nI (wk + mLd M pa))), (3, .int (nI pa)), (0, .ref (s0.heap.size + 104)), (1, .int (nI (12 * pa + ch))), (2, .int (nI wk))]) hx hb dX11_asks_56 hl (by decide) rfl (fun ls hl => ?_)
      refine lv_iload hx hb dX11_asks_58 (lv_at hl 0 rfl) ?_
      refine lv_if_eq (tgt := 78) hx hb dX11_asks_60 (by decide) (fun c60 => ?_) (fun c60 => ?_)
      · refine lv_lconst (v := 0) hx hb dX11_asks_78 (by decide) ?_
        refine gx_tl (m_q M pa ch wk) (by rw [m_q, if_neg (fun q => absurd q.2.1 (by have := n_ge (b := 12) c28 (by omega) (by omega); omega))]) ?_
        refine lv_lstore (lv' := [(6, .long (m_q M pa ch wk)), (5, .int 0), (4, .int (nI (wk + mLd M pa))), (3, .int (nI pa)), (0, .ref (s0.heap.size + 104)), (1, .int (nI (12 * pa + ch))), (2, .int (nI wk))]) hx hb dX11_asks_79 hl (by decide) rfl (fun ls hl => ?_)
        refine lv_lload hx hb dX11_asks_81 (lv_at hl 0 rfl) ?_
        refine lv_aload_n hx hb dX11_asks_83 rfl (lv_at hl 4 rfl) ?_
        refine gx_get (D := D) (cl := gcl) (ci := 10) (v := .ref (mad s0.heap.size 10)) (C := RX11) (T := TX11) (N := 27) hx hb hts in_X11 hown hK hR.mo rfl 11 (by decide) (hts _ q897) (fun _ h9 => h9) rfl dX11_asks_84 ?_
        refine lv_iload_n hx hb dX11_asks_87 rfl (lv_at hl 5 rfl) ?_
        refine gx_iald (n := 144) hx hb hK 1 (hR.mia 10 (by decide)) rfl (12 * pa + ch) (rfl) (by omega) (by decide) dX11_asks_88 ?_
        refine lv_i2l (v := (mI M 10 (12 * pa + ch)).toInt64) hx hb dX11_asks_89 rfl ?_
        refine lv_lmul hx hb dX11_asks_90 ?_
        refine lv_ldc2 (v := 1000) hx hb hown (hts _ q1060) dX11_asks_91 ?_
        refine lv_aload_n hx hb dX11_asks_94 rfl (lv_at hl 4 rfl) ?_
        refine gx_get (D := D) (cl := gcl) (ci := 10) (v := .ref (mad s0.heap.size 4)) (C := RX11) (T := TX11) (N := 27) hx hb hts in_X11 hown hK hR.mo rfl 5 (by decide) (hts _ q891) (fun _ h9 => h9) rfl dX11_asks_95 ?_
        refine lv_iload_n hx hb dX11_asks_98 rfl (lv_at hl 5 rfl) ?_
        refine lv_bipush (v := 12) hx hb dX11_asks_99 (by decide) ?_
        refine lv_irem hx hb dX11_asks_101 (by decide) ?_
        refine gx_ti (nI ch) (by rw [show (12 : Int32) = nI 12 by decide, pk_rem (by omega) (by omega) (by omega)]; congr 1; omega) ?_
        refine gx_iald (n := 12) hx hb hK 1 (hR.mia 4 (by decide)) rfl ch (rfl) (by omega) (by decide) dX11_asks_102 ?_
        refine lv_i2l (v := (mI M 4 ch).toInt64) hx hb dX11_asks_103 rfl ?_
        refine lv_ladd hx hb dX11_asks_104 ?_
        refine lv_lmul hx hb dX11_asks_105 ?_
        refine lv_ldc2 (v := 999) hx hb hown (hts _ q1061) dX11_asks_106 ?_
        refine lv_ladd hx hb dX11_asks_109 ?_
        refine lv_ldc2 (v := 1000) hx hb hown (hts _ q1060) dX11_asks_110 ?_
        refine lv_ldiv hx hb dX11_asks_113 (by decide) ?_
        exact W.lret (v := (((((m_q M pa ch wk) * ((mI M 10 (12 * pa + ch)).toInt64)) * (1000 + ((mI M 4 ch).toInt64))) + 999) / 1000)) hx hb hr (fun t ht hW => ⟨rfl, ht⟩) hL dX11_asks_114
      · exact absurd rfl c60
    · refine lv_iload_n hx hb dX11_asks_31 rfl (lv_at hl 4 rfl) ?_
      refine lv_aload_n hx hb dX11_asks_32 rfl (lv_at hl 2 rfl) ?_
      refine gx_get (D := D) (cl := gcl) (ci := 10) (v := .ref (mad s0.heap.size 11)) (C := RX11) (T := TX11) (N := 27) hx hb hts in_X11 hown hK hR.mo rfl 12 (by decide) (hts _ q898) (fun _ h9 => h9) rfl dX11_asks_33 ?_
      refine lv_iload_n hx hb dX11_asks_36 rfl (lv_at hl 3 rfl) ?_
      refine gx_iald (n := 144) hx hb hK 1 (hR.mia 11 (by decide)) rfl (12 * pa + ch) (rfl) (by omega) (by decide) dX11_asks_37 ?_
      refine lv_icmp_lt (tgt := 55) hx hb dX11_asks_38 (by decide) (fun c38 => ?_) (fun c38 => ?_)
      · refine lv_iconst (v := 0) hx hb dX11_asks_55 (by decide) ?_
        refine lv_istore (lv' := [(5, .int 0), (4, .int (nI (wk + mLd M pa))), (3, .int (nI pa)), (0, .ref (s0.heap.size + 104)), (1, .int (nI (12 * pa + ch))), (2, .int (nI wk))]) hx hb dX11_asks_56 hl (by decide) rfl (fun ls hl => ?_)
        refine lv_iload hx hb dX11_asks_58 (lv_at hl 0 rfl) ?_
        refine lv_if_eq (tgt := 78) hx hb dX11_asks_60 (by decide) (fun c60 => ?_) (fun c60 => ?_)
        · refine lv_lconst (v := 0) hx hb dX11_asks_78 (by decide) ?_
          refine gx_tl (m_q M pa ch wk) (by rw [m_q, if_neg (fun q => absurd c38 (Int32.not_lt.mpr q.2.2.1))]) ?_
          refine lv_lstore (lv' := [(6, .long (m_q M pa ch wk)), (5, .int 0), (4, .int (nI (wk + mLd M pa))), (3, .int (nI pa)), (0, .ref (s0.heap.size + 104)), (1, .int (nI (12 * pa + ch))), (2, .int (nI wk))]) hx hb dX11_asks_79 hl (by decide) rfl (fun ls hl => ?_)
          refine lv_lload hx hb dX11_asks_81 (lv_at hl 0 rfl) ?_
          refine lv_aload_n hx hb dX11_asks_83 rfl (lv_at hl 4 rfl) ?_
          refine gx_get (D := D) (cl := gcl) (ci := 10) (v := .ref (mad s0.heap.size 10)) (C := RX11) (T := TX11) (N := 27) hx hb hts in_X11 hown hK hR.mo rfl 11 (by decide) (hts _ q897) (fun _ h9 => h9) rfl dX11_asks_84 ?_
          refine lv_iload_n hx hb dX11_asks_87 rfl (lv_at hl 5 rfl) ?_
          refine gx_iald (n := 144) hx hb hK 1 (hR.mia 10 (by decide)) rfl (12 * pa + ch) (rfl) (by omega) (by decide) dX11_asks_88 ?_
          refine lv_i2l (v := (mI M 10 (12 * pa + ch)).toInt64) hx hb dX11_asks_89 rfl ?_
          refine lv_lmul hx hb dX11_asks_90 ?_
          refine lv_ldc2 (v := 1000) hx hb hown (hts _ q1060) dX11_asks_91 ?_
          refine lv_aload_n hx hb dX11_asks_94 rfl (lv_at hl 4 rfl) ?_
          refine gx_get (D := D) (cl := gcl) (ci := 10) (v := .ref (mad s0.heap.size 4)) (C := RX11) (T := TX11) (N := 27) hx hb hts in_X11 hown hK hR.mo rfl 5 (by decide) (hts _ q891) (fun _ h9 => h9) rfl dX11_asks_95 ?_
          refine lv_iload_n hx hb dX11_asks_98 rfl (lv_at hl 5 rfl) ?_
          refine lv_bipush (v := 12) hx hb dX11_asks_99 (by decide) ?_
          refine lv_irem hx hb dX11_asks_101 (by decide) ?_
          refine gx_ti (nI ch) (by rw [show (12 : Int32) = nI 12 by decide, pk_rem (by omega) (by omega) (by omega)]; congr 1; omega) ?_
          refine gx_iald (n := 12) hx hb hK 1 (hR.mia 4 (by decide)) rfl ch (rfl) (by omega) (by decide) dX11_asks_102 ?_
          refine lv_i2l (v := (mI M 4 ch).toInt64) hx hb dX11_asks_103 rfl ?_
          refine lv_ladd hx hb dX11_asks_104 ?_
          refine lv_lmul hx hb dX11_asks_105 ?_
          refine lv_ldc2 (v := 999) hx hb hown (hts _ q1061) dX11_asks_106 ?_
          refine lv_ladd hx hb dX11_asks_109 ?_
          refine lv_ldc2 (v := 1000) hx hb hown (hts _ q1060) dX11_asks_110 ?_
          refine lv_ldiv hx hb dX11_asks_113 (by decide) ?_
          exact W.lret (v := (((((m_q M pa ch wk) * ((mI M 10 (12 * pa + ch)).toInt64)) * (1000 + ((mI M 4 ch).toInt64))) + 999) / 1000)) hx hb hr (fun t ht hW => ⟨rfl, ht⟩) hL dX11_asks_114
        · exact absurd rfl c60
      · refine lv_iload_n hx hb dX11_asks_41 rfl (lv_at hl 4 rfl) ?_
        refine lv_aload_n hx hb dX11_asks_42 rfl (lv_at hl 2 rfl) ?_
        refine gx_get (D := D) (cl := gcl) (ci := 10) (v := .ref (mad s0.heap.size 12)) (C := RX11) (T := TX11) (N := 27) hx hb hts in_X11 hown hK hR.mo rfl 13 (by decide) (hts _ q899) (fun _ h9 => h9) rfl dX11_asks_43 ?_
        refine lv_iload_n hx hb dX11_asks_46 rfl (lv_at hl 3 rfl) ?_
        refine gx_iald (n := 144) hx hb hK 1 (hR.mia 12 (by decide)) rfl (12 * pa + ch) (rfl) (by omega) (by decide) dX11_asks_47 ?_
        refine lv_icmp_gt (tgt := 55) hx hb dX11_asks_48 (by decide) (fun c48 => ?_) (fun c48 => ?_)
        · refine lv_iconst (v := 0) hx hb dX11_asks_55 (by decide) ?_
          refine lv_istore (lv' := [(5, .int 0), (4, .int (nI (wk + mLd M pa))), (3, .int (nI pa)), (0, .ref (s0.heap.size + 104)), (1, .int (nI (12 * pa + ch))), (2, .int (nI wk))]) hx hb dX11_asks_56 hl (by decide) rfl (fun ls hl => ?_)
          refine lv_iload hx hb dX11_asks_58 (lv_at hl 0 rfl) ?_
          refine lv_if_eq (tgt := 78) hx hb dX11_asks_60 (by decide) (fun c60 => ?_) (fun c60 => ?_)
          · refine lv_lconst (v := 0) hx hb dX11_asks_78 (by decide) ?_
            refine gx_tl (m_q M pa ch wk) (by rw [m_q, if_neg (fun q => absurd c48 (Int32.not_lt.mpr q.2.2.2))]) ?_
            refine lv_lstore (lv' := [(6, .long (m_q M pa ch wk)), (5, .int 0), (4, .int (nI (wk + mLd M pa))), (3, .int (nI pa)), (0, .ref (s0.heap.size + 104)), (1, .int (nI (12 * pa + ch))), (2, .int (nI wk))]) hx hb dX11_asks_79 hl (by decide) rfl (fun ls hl => ?_)
            refine lv_lload hx hb dX11_asks_81 (lv_at hl 0 rfl) ?_
            refine lv_aload_n hx hb dX11_asks_83 rfl (lv_at hl 4 rfl) ?_
            refine gx_get (D := D) (cl := gcl) (ci := 10) (v := .ref (mad s0.heap.size 10)) (C := RX11) (T := TX11) (N := 27) hx hb hts in_X11 hown hK hR.mo rfl 11 (by decide) (hts _ q897) (fun _ h9 => h9) rfl dX11_asks_84 ?_
            refine lv_iload_n hx hb dX11_asks_87 rfl (lv_at hl 5 rfl) ?_
            refine gx_iald (n := 144) hx hb hK 1 (hR.mia 10 (by decide)) rfl (12 * pa + ch) (rfl) (by omega) (by decide) dX11_asks_88 ?_
            refine lv_i2l (v := (mI M 10 (12 * pa + ch)).toInt64) hx hb dX11_asks_89 rfl ?_
            refine lv_lmul hx hb dX11_asks_90 ?_
            refine lv_ldc2 (v := 1000) hx hb hown (hts _ q1060) dX11_asks_91 ?_
            refine lv_aload_n hx hb dX11_asks_94 rfl (lv_at hl 4 rfl) ?_
            refine gx_get (D := D) (cl := gcl) (ci := 10) (v := .ref (mad s0.heap.size 4)) (C := RX11) (T := TX11) (N := 27) hx hb hts in_X11 hown hK hR.mo rfl 5 (by decide) (hts _ q891) (fun _ h9 => h9) rfl dX11_asks_95 ?_
            refine lv_iload_n hx hb dX11_asks_98 rfl (lv_at hl 5 rfl) ?_
            refine lv_bipush (v := 12) hx hb dX11_asks_99 (by decide) ?_
            refine lv_irem hx hb dX11_asks_101 (by decide) ?_
            refine gx_ti (nI ch) (by rw [show (12 : Int32) = nI 12 by decide, pk_rem (by omega) (by omega) (by omega)]; congr 1; omega) ?_
            refine gx_iald (n := 12) hx hb hK 1 (hR.mia 4 (by decide)) rfl ch (rfl) (by omega) (by decide) dX11_asks_102 ?_
            refine lv_i2l (v := (mI M 4 ch).toInt64) hx hb dX11_asks_103 rfl ?_
            refine lv_ladd hx hb dX11_asks_104 ?_
            refine lv_lmul hx hb dX11_asks_105 ?_
            refine lv_ldc2 (v := 999) hx hb hown (hts _ q1061) dX11_asks_106 ?_
            refine lv_ladd hx hb dX11_asks_109 ?_
            refine lv_ldc2 (v := 1000) hx hb hown (hts _ q1060) dX11_asks_110 ?_
            refine lv_ldiv hx hb dX11_asks_113 (by decide) ?_
            exact W.lret (v := (((((m_q M pa ch wk) * ((mI M 10 (12 * pa + ch)).toInt64)) * (1000 + ((mI M 4 ch).toInt64))) + 999) / 1000)) hx hb hr (fun t ht hW => ⟨rfl, ht⟩) hL dX11_asks_114
          · exact absurd rfl c60
        · refine lv_iconst (v := 1) hx hb dX11_asks_51 (by decide) ?_
          refine lv_goto (tgt := 56) hx hb dX11_asks_52 (by decide) ?_
          refine lv_istore (lv' := [(5, .int 1), (4, .int (nI (wk + mLd M pa))), (3, .int (nI pa)), (0, .ref (s0.heap.size + 104)), (1, .int (nI (12 * pa + ch))), (2, .int (nI wk))]) hx hb dX11_asks_56 hl (by decide) rfl (fun ls hl => ?_)
          refine lv_iload hx hb dX11_asks_58 (lv_at hl 0 rfl) ?_
          refine lv_if_eq (tgt := 78) hx hb dX11_asks_60 (by decide) (fun c60 => ?_) (fun c60 => ?_)
          · exact absurd c60 (by decide)
          · have h28 := n_lt (b := 12) c28 (by omega) (by omega)
            refine lv_aload_n hx hb dX11_asks_63 rfl (lv_at hl 3 rfl) ?_
            refine gx_get (D := D) (cl := gcl) (ci := 10) (v := .ref (mad s0.heap.size 19)) (C := RX11) (T := TX11) (N := 27) hx hb hts in_X11 hown hK hR.mo rfl 23 (by decide) (hts _ q909) (fun _ h9 => h9) rfl dX11_asks_64 ?_
            refine lv_bipush (v := 12) hx hb dX11_asks_67 (by decide) ?_
            refine lv_iload_n hx hb dX11_asks_69 rfl (lv_at hl 2 rfl) ?_
            refine lv_imul hx hb dX11_asks_70 ?_
            refine gx_ti (nI (12 * pa)) (pk_mul 12 pa) ?_
            refine lv_iload hx hb dX11_asks_71 (lv_at hl 1 rfl) ?_
            refine lv_iadd hx hb dX11_asks_73 ?_
            refine gx_ti (nI (12 * pa + (wk + mLd M pa))) (nI_add (12 * pa) (wk + mLd M pa)) ?_
            refine gx_lald (n := 144) hx hb hK 0 (hR.mla 19 (by decide) (by decide)) rfl (12 * pa + (wk + mLd M pa)) (rfl) (by omega) (by decide) dX11_asks_74 ?_
            refine lv_goto (tgt := 79) hx hb dX11_asks_75 (by decide) ?_
            refine gx_tl (m_q M pa ch wk) (by rw [m_q, if_pos ⟨i_nle c21, n_lt (b := 12) c28 (by omega) (by omega), i_nlt c38, i_nlt c48⟩]) ?_
            refine lv_lstore (lv' := [(6, .long (m_q M pa ch wk)), (5, .int 1), (4, .int (nI (wk + mLd M pa))), (3, .int (nI pa)), (0, .ref (s0.heap.size + 104)), (1, .int (nI (12 * pa + ch))), (2, .int (nI wk))]) hx hb dX11_asks_79 hl (by decide) rfl (fun ls hl => ?_)
            refine lv_lload hx hb dX11_asks_81 (lv_at hl 0 rfl) ?_
            refine lv_aload_n hx hb dX11_asks_83 rfl (lv_at hl 4 rfl) ?_
            refine gx_get (D := D) (cl := gcl) (ci := 10) (v := .ref (mad s0.heap.size 10)) (C := RX11) (T := TX11) (N := 27) hx hb hts in_X11 hown hK hR.mo rfl 11 (by decide) (hts _ q897) (fun _ h9 => h9) rfl dX11_asks_84 ?_
            refine lv_iload_n hx hb dX11_asks_87 rfl (lv_at hl 5 rfl) ?_
            refine gx_iald (n := 144) hx hb hK 1 (hR.mia 10 (by decide)) rfl (12 * pa + ch) (rfl) (by omega) (by decide) dX11_asks_88 ?_
            refine lv_i2l (v := (mI M 10 (12 * pa + ch)).toInt64) hx hb dX11_asks_89 rfl ?_
            refine lv_lmul hx hb dX11_asks_90 ?_
            refine lv_ldc2 (v := 1000) hx hb hown (hts _ q1060) dX11_asks_91 ?_
            refine lv_aload_n hx hb dX11_asks_94 rfl (lv_at hl 4 rfl) ?_
            refine gx_get (D := D) (cl := gcl) (ci := 10) (v := .ref (mad s0.heap.size 4)) (C := RX11) (T := TX11) (N := 27) hx hb hts in_X11 hown hK hR.mo rfl 5 (by decide) (hts _ q891) (fun _ h9 => h9) rfl dX11_asks_95 ?_
            refine lv_iload_n hx hb dX11_asks_98 rfl (lv_at hl 5 rfl) ?_
            refine lv_bipush (v := 12) hx hb dX11_asks_99 (by decide) ?_
            refine lv_irem hx hb dX11_asks_101 (by decide) ?_
            refine gx_ti (nI ch) (by rw [show (12 : Int32) = nI 12 by decide, pk_rem (by omega) (by omega) (by omega)]; congr 1; omega) ?_
            refine gx_iald (n := 12) hx hb hK 1 (hR.mia 4 (by decide)) rfl ch (rfl) (by omega) (by decide) dX11_asks_102 ?_
            refine lv_i2l (v := (mI M 4 ch).toInt64) hx hb dX11_asks_103 rfl ?_
            refine lv_ladd hx hb dX11_asks_104 ?_
            refine lv_lmul hx hb dX11_asks_105 ?_
            refine lv_ldc2 (v := 999) hx hb hown (hts _ q1061) dX11_asks_106 ?_
            refine lv_ladd hx hb dX11_asks_109 ?_
            refine lv_ldc2 (v := 1000) hx hb hown (hts _ q1060) dX11_asks_110 ?_
            refine lv_ldiv hx hb dX11_asks_113 (by decide) ?_
            exact W.lret (v := (((((m_q M pa ch wk) * ((mI M 10 (12 * pa + ch)).toInt64)) * (1000 + ((mI M 4 ch).toInt64))) + 999) / 1000)) hx hb hr (fun t ht hW => ⟨rfl, ht⟩) hL dX11_asks_114
set_option maxHeartbeats 4000000 in
set_option maxRecDepth 100000 in
/-- grossOf -/
theorem ct_X11_grossOf {l : Launch} {s0 : State} {D : va_G} {DA : Nat → ClassId} {z0 : Nat} {C : CS} {M : MS} {o : Int64} {H : Heap} (hE : G0 l s0 D DA z0) (hR : RR s0 D DA z0 C M o H) {i wk : Nat} (hi : i < 12) (hw : wk < 12) (hC : MC M) : Met l yX11_grossOf (ws_ yX11_grossOf cX11_grossOf 6 (some .long)) ({ frames := 1, cells := 0, slots := 0, locals := 27 }) (cP s0 [.ref (s0.heap.size + 104), .int (nI i), .int (nI wk)] H) (cQv (.long (m_gs M i wk 12)) (fun H1 => H1 = H)) 0 0 (cF s0) := by
  refine Met.ofW (cc := cX11_grossOf) (maxL := 6) (ret := (some .long)) (by decide) rfl ?_
  intro p e s m args below meth c s₁ Bd hml hv
  obtain ⟨rfl, rfl, hW0⟩ := hv
  have hx := Bd.exec
  have hb := Bd.bytes
  have hr := Bd.returns
  have hts := atoms_spec (ws := (ws_ yX11_grossOf cX11_grossOf 6 (some .long))) Bd.pre
  have hts : ∀ w ∈ lw_all, w.before _ s = true := fun w h => hts w (List.mem_cons_of_mem _ h)
  have hown : s.vm.findClass RX11 = some m.cls := findClass_of_methodNamed Bd.named
  have hlocks := Bd.notSynchronized
  have hK := va_K.moved hW0.alike hE.K
  have hL : gx_L s0.heap.size ([] : List Loc) := gx_L0
  obtain ⟨Y, hR⟩ := hR
  have hl := lv_entry ([.ref (s0.heap.size + 104), .int (nI i), .int (nI wk)]) (n := 6) (Nat.le_of_ble_eq_true rfl)
  rw [lg_entry_eq]
  generalize (lg_sl ([.ref (s0.heap.size + 104), .int (nI i), .int (nI wk)]) ++ List.replicate (6 - (lg_sl ([.ref (s0.heap.size + 104), .int (nI i), .int (nI wk)])).length) Slot.unset).toArray = ls at hl ⊢
  have hl : lv_has ls 6 [(0, .ref (s0.heap.size + 104)), (1, .int (nI i)), (2, .int (nI wk))] := hl
  have key : ∀ (n : Nat) (k : Nat) (locs : List Loc) (ls : Array Slot), k ≤ 12 → 12 < k + n → lv_has ls 6 [(3, .long (m_gs M i wk k)), (5, .int (nI k)), (0, .ref (s0.heap.size + 104)), (1, .int (nI i)), (2, .int (nI wk))] → gx_L s0.heap.size locs → W p l e (headSpec (ws_ yX11_grossOf cX11_grossOf 6 (some .long)) ({ frames := 1, cells := 0, slots := 0, locals := 27 })).room s m ([.ref (s0.heap.size + 104), .int (nI i), .int (nI wk)] : List Value).toArray below meth c s.heap locs 0 0 (MQ below (cQv (.long (m_gs M i wk 12)) (fun H1 => H1 = s.heap)) ([.ref (s0.heap.size + 104), .int (nI i), .int (nI wk)] : List Value).toArray s 0 0 (cF s0)) (F0 m 29 ls []) := by
    intro n
    induction n with
    | zero =>
      intro k locs ls hk hn hl hL
      omega
    | succ n ih =>
      intro k locs ls hk hn hl hL
      refine lv_iload hx hb dX11_grossOf_29 (lv_at hl 1 rfl) ?_
      refine lv_bipush (v := 12) hx hb dX11_grossOf_31 (by decide) ?_
      refine lv_icmp_ge (tgt := 57) hx hb dX11_grossOf_33 (by decide) (fun c33 => ?_) (fun c33 => ?_)
      · have hkc : k = 12 := by have := n_ge (b := 12) c33 (by omega) (by omega); omega
        refine lv_lload_n hx hb dX11_grossOf_57 rfl (lv_at hl 0 rfl) ?_
        exact W.lret (v := (m_gs M i wk k)) hx hb hr (fun t ht hW => ⟨ovJ (by rw [hkc]), ht⟩) hL dX11_grossOf_58
      · have hkc : k < 12 := by have := n_lt (b := 12) c33 (by omega) (by omega); omega
        refine lv_lload_n hx hb dX11_grossOf_36 rfl (lv_at hl 0 rfl) ?_
        refine lv_aload_n hx hb dX11_grossOf_37 rfl (lv_at hl 2 rfl) ?_
        refine lv_bipush (v := 12) hx hb dX11_grossOf_38 (by decide) ?_
        refine lv_iload hx hb dX11_grossOf_40 (lv_at hl 1 rfl) ?_
        refine lv_imul hx hb dX11_grossOf_42 ?_
        refine gx_ti (nI (12 * k)) (pk_mul 12 k) ?_
        refine lv_iload_n hx hb dX11_grossOf_43 rfl (lv_at hl 3 rfl) ?_
        refine lv_iadd hx hb dX11_grossOf_44 ?_
        refine gx_ti (nI (12 * k + i)) (nI_add (12 * k) i) ?_
        refine lv_iload_n hx hb dX11_grossOf_45 rfl (lv_at hl 4 rfl) ?_
        refine cc_v (va_runV (b := s0.heap.size + 104) (As := [.int (nI (12 * k + i)), .int (nI wk)]) (rest := [.long (m_gs M i wk k)]) ⟨hx, hb, hml, hown, hts⟩ (ct_X11_asks hE ⟨_, hR⟩ hkc hi hw hC) (cwV 2 hts (lw_V q1056 q1058 qs33 q61 q1059) rfl rfl rfl (by decide +kernel) ⟨Nat.le_of_ble_eq_true rfl, Nat.le_of_ble_eq_true rfl⟩) (cc_pV hW0 (cc_re hK hR.mo (show gcl[10]? = _ from rfl))) rfl rfl hl.1 rfl (lv_room (Nat.le_of_ble_eq_true rfl)) dX11_grossOf_46 ⟨Nat.le_of_ble_eq_true rfl, Nat.le_of_ble_eq_true rfl⟩) hL (fun H locs hP1 hL => ?_)
        subst hP1
        refine lv_ladd hx hb dX11_grossOf_49 ?_
        refine gx_tl (m_gs M i wk (k + 1)) (rfl) ?_
        refine lv_lstore_n (lv' := [(3, .long (m_gs M i wk (k + 1))), (5, .int (nI k)), (0, .ref (s0.heap.size + 104)), (1, .int (nI i)), (2, .int (nI wk))]) hx hb dX11_grossOf_50 rfl hl (by decide) rfl (fun ls hl => ?_)
        refine lv_iinc (v := nI (k + 1)) (lv' := [(5, .int (nI (k + 1))), (3, .long (m_gs M i wk (k + 1))), (0, .ref (s0.heap.size + 104)), (1, .int (nI i)), (2, .int (nI wk))]) hx hb dX11_grossOf_51 hl (k := 1) rfl (nI_1 k) (by decide) rfl (fun ls hl => ?_)
        refine lv_goto (tgt := 29) hx hb dX11_grossOf_54 (by decide) ?_
        exact ih (k + 1) _ _ (by omega) (by omega) (lv_sub hl [1, 0, 2, 3, 4] rfl) hL
  refine lv_aload_n hx hb dX11_grossOf_0 rfl (lv_at hl 0 rfl) ?_
  refine lv_iconst (v := 0) hx hb dX11_grossOf_1 (by decide) ?_
  refine lv_iload_n hx hb dX11_grossOf_2 rfl (lv_at hl 1 rfl) ?_
  refine lv_iload_n hx hb dX11_grossOf_3 rfl (lv_at hl 2 rfl) ?_
  refine cc_v (va_runV (b := s0.heap.size + 104) (As := [.int 0, .int (nI i), .int (nI wk)]) (rest := []) ⟨hx, hb, hml, hown, hts⟩ (ct_X11_sumOf (K := 0) hE ⟨_, hR⟩ (by decide) (nI i) (nI wk) (hC.c24 (by decide)) (hC.ct (by decide))) (cwV 3 hts (lw_V q1052 q1054 qs32 q61 q1055) rfl rfl rfl (by decide +kernel) ⟨Nat.le_of_ble_eq_true rfl, Nat.le_of_ble_eq_true rfl⟩) (cc_pV hW0 (cc_re hK hR.mo (show gcl[10]? = _ from rfl))) rfl rfl hl.1 rfl (lv_room (Nat.le_of_ble_eq_true rfl)) dX11_grossOf_4 ⟨Nat.le_of_ble_eq_true rfl, Nat.le_of_ble_eq_true rfl⟩) hL (fun H locs hP1 hL => ?_)
  subst hP1
  refine lv_iload_n hx hb dX11_grossOf_7 rfl (lv_at hl 2 rfl) ?_
  refine lv_if_le (tgt := 23) hx hb dX11_grossOf_8 (by decide) (fun c8 => ?_) (fun c8 => ?_)
  · refine lv_lconst (v := 0) hx hb dX11_grossOf_23 (by decide) ?_
    refine lv_lsub hx hb dX11_grossOf_24 ?_
    refine gx_tl (m_gs M i wk 0) (by rw [m_gs, m_g0, if_neg (by have := n_ge (b := wk) (a := 0) c8 (by omega) (by omega); omega)]) ?_
    refine lv_lstore_n (lv' := [(3, .long (m_gs M i wk 0)), (0, .ref (s0.heap.size + 104)), (1, .int (nI i)), (2, .int (nI wk))]) hx hb dX11_grossOf_25 rfl hl (by decide) rfl (fun ls hl => ?_)
    refine lv_iconst (v := 0) hx hb dX11_grossOf_26 (by decide) ?_
    refine gx_ti (nI 0) (by decide) ?_
    refine lv_istore (lv' := [(5, .int (nI 0)), (3, .long (m_gs M i wk 0)), (0, .ref (s0.heap.size + 104)), (1, .int (nI i)), (2, .int (nI wk))]) hx hb dX11_grossOf_27 hl (by decide) rfl (fun ls hl => ?_)
    exact key 13 0 _ _ (by omega) (by omega) (lv_sub hl [1, 0, 2, 3, 4] rfl) hL
  · have h0 : 0 < wk := by have := n_lt (b := wk) (a := 0) c8 (by omega) (by omega); omega
    refine lv_aload_n hx hb dX11_grossOf_11 rfl (lv_at hl 0 rfl) ?_
    refine lv_iconst (v := 0) hx hb dX11_grossOf_12 (by decide) ?_
    refine lv_iload_n hx hb dX11_grossOf_13 rfl (lv_at hl 1 rfl) ?_
    refine lv_iload_n hx hb dX11_grossOf_14 rfl (lv_at hl 2 rfl) ?_
    refine lv_iconst (v := 1) hx hb dX11_grossOf_15 (by decide) ?_
    refine lv_isub hx hb dX11_grossOf_16 ?_
    refine gx_ti (nI (wk - 1)) (by exact pk_sub (a := wk) (b := 1) h0) ?_
    refine cc_v (va_runV (b := s0.heap.size + 104) (As := [.int 0, .int (nI i), .int (nI (wk - 1))]) (rest := [.long (m_sum M 0 (nI i) (nI wk) (mCt M 0))]) ⟨hx, hb, hml, hown, hts⟩ (ct_X11_sumOf (K := 0) hE ⟨_, hR⟩ (by decide) (nI i) (nI (wk - 1)) (hC.c24 (by decide)) (hC.ct (by decide))) (cwV 3 hts (lw_V q1052 q1054 qs32 q61 q1055) rfl rfl rfl (by decide +kernel) ⟨Nat.le_of_ble_eq_true rfl, Nat.le_of_ble_eq_true rfl⟩) (cc_pV hW0 (cc_re hK hR.mo (show gcl[10]? = _ from rfl))) rfl rfl hl.1 rfl (lv_room (Nat.le_of_ble_eq_true rfl)) dX11_grossOf_17 ⟨Nat.le_of_ble_eq_true rfl, Nat.le_of_ble_eq_true rfl⟩) hL (fun H locs hP1 hL => ?_)
    subst hP1
    refine lv_goto (tgt := 24) hx hb dX11_grossOf_20 (by decide) ?_
    refine lv_lsub hx hb dX11_grossOf_24 ?_
    refine gx_tl (m_gs M i wk 0) (by rw [m_gs, m_g0, if_pos h0]) ?_
    refine lv_lstore_n (lv' := [(3, .long (m_gs M i wk 0)), (0, .ref (s0.heap.size + 104)), (1, .int (nI i)), (2, .int (nI wk))]) hx hb dX11_grossOf_25 rfl hl (by decide) rfl (fun ls hl => ?_)
    refine lv_iconst (v := 0) hx hb dX11_grossOf_26 (by decide) ?_
    refine gx_ti (nI 0) (by decide) ?_
    refine lv_istore (lv' := [(5, .int (nI 0)), (3, .long (m_gs M i wk 0)), (0, .ref (s0.heap.size + 104)), (1, .int (nI i)), (2, .int (nI wk))]) hx hb dX11_grossOf_27 hl (by decide) rfl (fun ls hl => ?_)
    exact key 13 0 _ _ (by omega) (by omega) (lv_sub hl [1, 0, 2, 3, 4] rfl) hL
