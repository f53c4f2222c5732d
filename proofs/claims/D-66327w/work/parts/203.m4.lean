set_option maxHeartbeats 4000000 in
set_option maxRecDepth 100000 in
/-- lastOf -/
theorem ct_X11_lastOf {l : Launch} {s0 : State} {D : va_G} {DA : Nat → ClassId} {z0 : Nat} {C : CS} {M : MS} {o : Int64} {H : Heap} (hE : G0 l s0 D DA z0) (hR : RR s0 D DA z0 C M o H) {i wk : Nat} (hi : i < 12) (hw : wk < 12) : Met l yX11_lastOf (ws_ yX11_lastOf cX11_lastOf 5 (some .int)) ({ frames := 2, cells := 0, slots := 0, locals := 47 }) (cP s0 [.ref (s0.heap.size + 104), .int (nI i), .int (nI wk)] H) (cQv (.int (nI (m_last M i wk))) (fun H1 => H1 = H)) 0 0 (cF s0) := by
  refine Met.ofW (cc := cX11_lastOf) (maxL := 5) (ret := (some .int)) (by decide) rfl ?_
  intro p e s m args below meth c s₁ Bd hml hv
  obtain ⟨rfl, rfl, hW0⟩ := hv
  have hx := Bd.exec
  have hb := Bd.bytes
  have hr := Bd.returns
  have hts := atoms_spec (ws := (ws_ yX11_lastOf cX11_lastOf 5 (some .int))) Bd.pre
  have hts : ∀ w ∈ lw_all, w.before _ s = true := fun w h => hts w (List.mem_cons_of_mem _ h)
  have hown : s.vm.findClass RX11 = some m.cls := findClass_of_methodNamed Bd.named
  have hlocks := Bd.notSynchronized
  have hK := va_K.moved hW0.alike hE.K
  have hL : gx_L s0.heap.size ([] : List Loc) := gx_L0
  obtain ⟨Y, hR⟩ := hR
  have hl := lv_entry ([.ref (s0.heap.size + 104), .int (nI i), .int (nI wk)]) (n := 5) (Nat.le_of_ble_eq_true rfl)
  rw [lg_entry_eq]
  generalize (lg_sl ([.ref (s0.heap.size + 104), .int (nI i), .int (nI wk)]) ++ List.replicate (5 - (lg_sl ([.ref (s0.heap.size + 104), .int (nI i), .int (nI wk)])).length) Slot.unset).toArray = ls at hl ⊢
  have hl : lv_has ls 5 [(0, .ref (s0.heap.size + 104)), (1, .int (nI i)), (2, .int (nI wk))] := hl
  have key : ∀ (n : Nat) (k : Nat) (locs : List Loc) (ls : Array Slot), k ≤ 12 - wk → 12 - wk < k + n → lv_has ls 5 [(3, .int (nI (wk + p_lst (m_F M i wk) k))), (4, .int (nI (wk + k))), (0, .ref (s0.heap.size + 104)), (1, .int (nI i)), (2, .int (nI wk))] → gx_L s0.heap.size locs → W p l e (headSpec (ws_ yX11_lastOf cX11_lastOf 5 (some .int)) ({ frames := 2, cells := 0, slots := 0, locals := 47 })).room s m ([.ref (s0.heap.size + 104), .int (nI i), .int (nI wk)] : List Value).toArray below meth c s.heap locs 0 0 (MQ below (cQv (.int (nI (m_last M i wk))) (fun H1 => H1 = s.heap)) ([.ref (s0.heap.size + 104), .int (nI i), .int (nI wk)] : List Value).toArray s 0 0 (cF s0)) (F0 m 5 ls []) := by
    intro n
    induction n with
    | zero =>
      intro k locs ls hk hn hl hL
      omega
    | succ n ih =>
      intro k locs ls hk hn hl hL
      have hf := p_lst_le (m_F M i wk) k
      refine lv_iload hx hb dX11_lastOf_5 (lv_at hl 1 rfl) ?_
      refine lv_bipush (v := 12) hx hb dX11_lastOf_7 (by decide) ?_
      refine lv_icmp_ge (tgt := 63) hx hb dX11_lastOf_9 (by decide) (fun c9 => ?_) (fun c9 => ?_)
      · have hkc : k = 12 - wk := by have := n_ge (b := 12) c9 (by omega) (by omega); omega
        refine lv_iload_n hx hb dX11_lastOf_63 rfl (lv_at hl 0 rfl) ?_
        exact W.iret (v := (nI (wk + p_lst (m_F M i wk) k))) hx hb hr (fun t ht hW => ⟨ovI (by rw [hkc]; rfl), ht⟩) hL dX11_lastOf_64
      · have hkc : k < 12 - wk := by have := n_lt (b := 12) c9 (by omega) (by omega); omega
        refine lv_aload_n hx hb dX11_lastOf_12 rfl (lv_at hl 2 rfl) ?_
        refine lv_iload_n hx hb dX11_lastOf_13 rfl (lv_at hl 3 rfl) ?_
        refine lv_iload_n hx hb dX11_lastOf_14 rfl (lv_at hl 4 rfl) ?_
        refine lv_iload hx hb dX11_lastOf_15 (lv_at hl 1 rfl) ?_
        refine cc_v (va_runV (b := s0.heap.size + 104) (As := [.int (nI i), .int (nI wk), .int (nI (wk + k))]) (rest := []) ⟨hx, hb, hml, hown, hts⟩ (ct_X11_cost (nn := k) (wk := wk) hE ⟨_, hR⟩ hi (by omega)) (cwV 3 hts (lw_V q1085 q1087 qs39 q61 q1088) rfl rfl rfl (by decide +kernel) ⟨Nat.le_of_ble_eq_true rfl, Nat.le_of_ble_eq_true rfl⟩) (cc_pV hW0 (cc_re hK hR.mo (show gcl[10]? = _ from rfl))) rfl rfl hl.1 rfl (lv_room (Nat.le_of_ble_eq_true rfl)) dX11_lastOf_17 ⟨Nat.le_of_ble_eq_true rfl, Nat.le_of_ble_eq_true rfl⟩) hL (fun H locs hP1 hL => ?_)
        subst hP1
        refine lv_aload_n hx hb dX11_lastOf_20 rfl (lv_at hl 2 rfl) ?_
        refine gx_get (D := D) (cl := gcl) (ci := 10) (v := .ref (mad s0.heap.size 22)) (C := RX11) (T := TX11) (N := 27) hx hb hts in_X11 hown hK hR.mo rfl 26 (by decide) (hts _ q912) (fun _ h9 => h9) rfl dX11_lastOf_21 ?_
        refine lv_iload hx hb dX11_lastOf_24 (lv_at hl 1 rfl) ?_
        refine lv_iconst (v := 1) hx hb dX11_lastOf_26 (by decide) ?_
        refine lv_iadd hx hb dX11_lastOf_27 ?_
        refine gx_ti (nI (wk + k + 1)) (nI_add (wk + k) 1) ?_
        refine gx_lald (n := 13) hx hb hK 0 (hR.mla 22 (by decide) (by decide)) rfl (wk + k + 1) (rfl) (by omega) (by decide) dX11_lastOf_28 ?_
        refine lv_ladd hx hb dX11_lastOf_29 ?_
        refine gx_tl (m_F M i wk k) (rfl) ?_
        refine lv_aload_n hx hb dX11_lastOf_30 rfl (lv_at hl 2 rfl) ?_
        refine lv_iload_n hx hb dX11_lastOf_31 rfl (lv_at hl 3 rfl) ?_
        refine lv_iload_n hx hb dX11_lastOf_32 rfl (lv_at hl 4 rfl) ?_
        refine lv_iload_n hx hb dX11_lastOf_33 rfl (lv_at hl 0 rfl) ?_
        refine cc_v (va_runV (b := s0.heap.size + 104) (As := [.int (nI i), .int (nI wk), .int (nI (wk + p_lst (m_F M i wk) k))]) (rest := [.long (m_F M i wk k)]) ⟨hx, hb, hml, hown, hts⟩ (ct_X11_cost (nn := p_lst (m_F M i wk) k) (wk := wk) hE ⟨_, hR⟩ hi (by omega)) (cwV 3 hts (lw_V q1085 q1087 qs39 q61 q1088) rfl rfl rfl (by decide +kernel) ⟨Nat.le_of_ble_eq_true rfl, Nat.le_of_ble_eq_true rfl⟩) (cc_pV hW0 (cc_re hK hR.mo (show gcl[10]? = _ from rfl))) rfl rfl hl.1 rfl (lv_room (Nat.le_of_ble_eq_true rfl)) dX11_lastOf_34 ⟨Nat.le_of_ble_eq_true rfl, Nat.le_of_ble_eq_true rfl⟩) hL (fun H locs hP1 hL => ?_)
        subst hP1
        refine lv_aload_n hx hb dX11_lastOf_37 rfl (lv_at hl 2 rfl) ?_
        refine gx_get (D := D) (cl := gcl) (ci := 10) (v := .ref (mad s0.heap.size 22)) (C := RX11) (T := TX11) (N := 27) hx hb hts in_X11 hown hK hR.mo rfl 26 (by decide) (hts _ q912) (fun _ h9 => h9) rfl dX11_lastOf_38 ?_
        refine lv_iload_n hx hb dX11_lastOf_41 rfl (lv_at hl 0 rfl) ?_
        refine lv_iconst (v := 1) hx hb dX11_lastOf_42 (by decide) ?_
        refine lv_iadd hx hb dX11_lastOf_43 ?_
        refine gx_ti (nI (wk + p_lst (m_F M i wk) k + 1)) (nI_add (wk + p_lst (m_F M i wk) k) 1) ?_
        refine gx_lald (n := 13) hx hb hK 0 (hR.mla 22 (by decide) (by decide)) rfl (wk + p_lst (m_F M i wk) k + 1) (rfl) (by omega) (by decide) dX11_lastOf_44 ?_
        refine lv_ladd hx hb dX11_lastOf_45 ?_
        refine gx_tl (m_F M i wk (p_lst (m_F M i wk) k)) (rfl) ?_
        refine gx_lc_ge (tgt := 55) (pc1 := 47) hx hb rfl dX11_lastOf_46 dX11_lastOf_47 (by decide) (fun c47 => ?_) (fun c47 => ?_)
        · refine lv_iload_n hx hb dX11_lastOf_55 rfl (lv_at hl 0 rfl) ?_
          refine gx_ti (nI (wk + p_lst (m_F M i wk) (k + 1))) (by rw [p_lst, if_neg (Int64.not_lt.mpr c47)]) ?_
          refine lv_istore_n (lv' := [(3, .int (nI (wk + p_lst (m_F M i wk) (k + 1)))), (4, .int (nI (wk + k))), (0, .ref (s0.heap.size + 104)), (1, .int (nI i)), (2, .int (nI wk))]) hx hb dX11_lastOf_56 rfl hl (by decide) rfl (fun ls hl => ?_)
          refine lv_iinc (v := nI (wk + (k + 1))) (lv' := [(4, .int (nI (wk + (k + 1)))), (3, .int (nI (wk + p_lst (m_F M i wk) (k + 1)))), (0, .ref (s0.heap.size + 104)), (1, .int (nI i)), (2, .int (nI wk))]) hx hb dX11_lastOf_57 hl (k := 1) rfl (nI_1 (wk + k)) (by decide) rfl (fun ls hl => ?_)
          refine lv_goto (tgt := 5) hx hb dX11_lastOf_60 (by decide) ?_
          exact ih (k + 1) _ _ (by omega) (by omega) (lv_sub hl [1, 0, 2, 3, 4] rfl) hL
        · refine lv_iload hx hb dX11_lastOf_50 (lv_at hl 1 rfl) ?_
          refine lv_goto (tgt := 56) hx hb dX11_lastOf_52 (by decide) ?_
          refine gx_ti (nI (wk + p_lst (m_F M i wk) (k + 1))) (by rw [p_lst, if_pos (l_nle c47)]) ?_
          refine lv_istore_n (lv' := [(3, .int (nI (wk + p_lst (m_F M i wk) (k + 1)))), (4, .int (nI (wk + k))), (0, .ref (s0.heap.size + 104)), (1, .int (nI i)), (2, .int (nI wk))]) hx hb dX11_lastOf_56 rfl hl (by decide) rfl (fun ls hl => ?_)
          refine lv_iinc (v := nI (wk + (k + 1))) (lv' := [(4, .int (nI (wk + (k + 1)))), (3, .int (nI (wk + p_lst (m_F M i wk) (k + 1)))), (0, .ref (s0.heap.size + 104)), (1, .int (nI i)), (2, .int (nI wk))]) hx hb dX11_lastOf_57 hl (k := 1) rfl (nI_1 (wk + k)) (by decide) rfl (fun ls hl => ?_)
          refine lv_goto (tgt := 5) hx hb dX11_lastOf_60 (by decide) ?_
          exact ih (k + 1) _ _ (by omega) (by omega) (lv_sub hl [1, 0, 2, 3, 4] rfl) hL
  refine lv_iload_n hx hb dX11_lastOf_0 rfl (lv_at hl 2 rfl) ?_
  refine lv_istore_n (lv' := [(3, .int (nI wk)), (0, .ref (s0.heap.size + 104)), (1, .int (nI i)), (2, .int (nI wk))]) hx hb dX11_lastOf_1 rfl hl (by decide) rfl (fun ls hl => ?_)
  refine lv_iload_n hx hb dX11_lastOf_2 rfl (lv_at hl 3 rfl) ?_
  refine lv_istore (lv' := [(4, .int (nI wk)), (3, .int (nI wk)), (0, .ref (s0.heap.size + 104)), (1, .int (nI i)), (2, .int (nI wk))]) hx hb dX11_lastOf_3 hl (by decide) rfl (fun ls hl => ?_)
  exact key (12 - wk + 1) 0 _ _ (by omega) (by omega) (lv_sub hl [1, 0, 2, 3, 4] rfl) hL
set_option maxHeartbeats 4000000 in
set_option maxRecDepth 100000 in
/-- findNeeds -/
theorem ct_X11_findNeeds {l : Launch} {s0 : State} {D : va_G} {DA : Nat → ClassId} {z0 : Nat} {C : CS} {M : MS} {o : Int64} {H : Heap} (hE : G0 l s0 D DA z0) (hR : RR s0 D DA z0 C M o H) {i : Nat} (hi : i < 12) (hC : MC M) : Met l yX11_findNeeds (ws_ yX11_findNeeds cX11_findNeeds 8 none) ({ frames := 2, cells := 0, slots := 0, locals := 48 }) (cP s0 [.ref (s0.heap.size + 104), .int (nI i)] H) (cQ0 (fun H1 => RR s0 D DA z0 C (m_fN M i) o H1)) 0 0 (cF s0) := by
  refine Met.ofW (cc := cX11_findNeeds) (maxL := 8) (ret := none) (by decide) rfl ?_
  intro p e s m args below meth c s₁ Bd hml hv
  obtain ⟨rfl, rfl, hW0⟩ := hv
  have hx := Bd.exec
  have hb := Bd.bytes
  have hr := Bd.returns
  have hts := atoms_spec (ws := (ws_ yX11_findNeeds cX11_findNeeds 8 none)) Bd.pre
  have hts : ∀ w ∈ lw_all, w.before _ s = true := fun w h => hts w (List.mem_cons_of_mem _ h)
  have hown : s.vm.findClass RX11 = some m.cls := findClass_of_methodNamed Bd.named
  have hlocks := Bd.notSynchronized
  have hK := va_K.moved hW0.alike hE.K
  have hL : gx_L s0.heap.size ([] : List Loc) := gx_L0
  obtain ⟨Y, hR⟩ := hR
  have hl := lv_entry ([.ref (s0.heap.size + 104), .int (nI i)]) (n := 8) (Nat.le_of_ble_eq_true rfl)
  rw [lg_entry_eq]
  generalize (lg_sl ([.ref (s0.heap.size + 104), .int (nI i)]) ++ List.replicate (8 - (lg_sl ([.ref (s0.heap.size + 104), .int (nI i)])).length) Slot.unset).toArray = ls at hl ⊢
  have hl : lv_has ls 8 [(0, .ref (s0.heap.size + 104)), (1, .int (nI i))] := hl
  have key : ∀ (n : Nat) (k : Nat) (H : Heap) (locs : List Loc) (ls : Array Slot), k ≤ 12 → 12 < k + n → lv_has ls 8 [(2, .int (nI k)), (0, .ref (s0.heap.size + 104)), (1, .int (nI i))] → gx_L s0.heap.size locs → GRb s0.heap.size s0.heap D DA z0 Y C (m_wr M 21 0 k (fun k => p_nd (m_lacks M i) (mLd M i) (k + 1))) o H → W p l e (headSpec (ws_ yX11_findNeeds cX11_findNeeds 8 none) ({ frames := 2, cells := 0, slots := 0, locals := 48 })).room s m ([.ref (s0.heap.size + 104), .int (nI i)] : List Value).toArray below meth c H locs 0 0 (MQ below (cQ0 (fun H1 => RR s0 D DA z0 C (m_fN M i) o H1)) ([.ref (s0.heap.size + 104), .int (nI i)] : List Value).toArray s 0 0 (cF s0)) (F0 m 2 ls []) := by
    intro n
    induction n with
    | zero =>
      intro k H locs ls hk hn hl hL hR
      omega
    | succ n ih =>
      intro k H locs ls hk hn hl hL hR
      refine lv_iload_n hx hb dX11_findNeeds_2 rfl (lv_at hl 0 rfl) ?_
      refine lv_bipush (v := 12) hx hb dX11_findNeeds_3 (by decide) ?_
      refine lv_icmp_ge (tgt := 83) hx hb dX11_findNeeds_5 (by decide) (fun c5 => ?_) (fun c5 => ?_)
      · have hkc : k = 12 := by have := n_ge (b := 12) c5 (by omega) (by omega); omega
        subst hkc
        exact W.vret hx hb hr (fun t ht hW => ⟨rfl, by rw [ht]; exact ⟨Y, hR⟩⟩) hL dX11_findNeeds_83
      · have hkc : k < 12 := by have := n_lt (b := 12) c5 (by omega) (by omega); omega
        have key2 : ∀ (n : Nat) (v : Nat) (locs : List Loc) (ls : Array Slot), v ≤ k + 1 → k + 1 < v + n → lv_has ls 8 [(3, .long (p_mo (m_lacks M i) v)), (5, .int (nI v)), (0, .ref (s0.heap.size + 104)), (1, .int (nI i)), (2, .int (nI k))] → gx_L s0.heap.size locs → W p l e (headSpec (ws_ yX11_findNeeds cX11_findNeeds 8 none) ({ frames := 2, cells := 0, slots := 0, locals := 48 })).room s m ([.ref (s0.heap.size + 104), .int (nI i)] : List Value).toArray below meth c H locs 0 0 (MQ below (cQ0 (fun H1 => RR s0 D DA z0 C (m_fN M i) o H1)) ([.ref (s0.heap.size + 104), .int (nI i)] : List Value).toArray s 0 0 (cF s0)) (F0 m 13 ls []) := by
          intro n
          induction n with
          | zero =>
            intro v locs ls hv hn2 hl hL
            omega
          | succ n ih2 =>
            intro v locs ls hv hn2 hl hL
            refine lv_iload hx hb dX11_findNeeds_13 (lv_at hl 1 rfl) ?_
            refine lv_iload_n hx hb dX11_findNeeds_15 rfl (lv_at hl 4 rfl) ?_
            refine lv_icmp_gt (tgt := 56) hx hb dX11_findNeeds_16 (by decide) (fun c16 => ?_) (fun c16 => ?_)
            · have hv : v = k + 1 := by have := n_gt c16 (by omega) (by omega); omega
              subst hv
              refine lv_aload_n hx hb dX11_findNeeds_56 rfl (lv_at hl 2 rfl) ?_
              refine gx_get (D := D) (cl := gcl) (ci := 10) (v := .ref (mad s0.heap.size 21)) (C := RX11) (T := TX11) (N := 27) hx hb hts in_X11 hown hK hR.mo rfl 25 (by decide) (hts _ q911) (fun _ h9 => h9) rfl dX11_findNeeds_57 ?_
              refine lv_iload_n hx hb dX11_findNeeds_60 rfl (lv_at hl 4 rfl) ?_
              refine lv_iload_n hx hb dX11_findNeeds_61 rfl (lv_at hl 4 rfl) ?_
              refine lv_aload_n hx hb dX11_findNeeds_62 rfl (lv_at hl 2 rfl) ?_
              refine gx_get (D := D) (cl := gcl) (ci := 10) (v := .ref (mad s0.heap.size 2)) (C := RX11) (T := TX11) (N := 27) hx hb hts in_X11 hown hK hR.mo rfl 3 (by decide) (hts _ q889) (fun _ h9 => h9) rfl dX11_findNeeds_63 ?_
              refine lv_iload_n hx hb dX11_findNeeds_66 rfl (lv_at hl 3 rfl) ?_
              have h4 := hC.l4 hi
              refine gx_iald (n := 12) hx hb hK 1 (hR.mia 2 (by decide)) rfl i (rfl) (by omega) (by decide) dX11_findNeeds_67 ?_
              refine gx_ti (nI (mLd M i)) (hC.ld hi) ?_
              refine lv_icmp_ge (tgt := 75) hx hb dX11_findNeeds_68 (by decide) (fun c68 => ?_) (fun c68 => ?_)
              · refine lv_lload_n hx hb dX11_findNeeds_75 rfl (lv_at hl 0 rfl) ?_
                refine gx_tl ((fun k => p_nd (m_lacks M i) (mLd M i) (k + 1)) k) (by show _ = p_nd (m_lacks M i) (mLd M i) (k + 1); rw [p_nd, if_neg (by have := n_ge c68 (by omega) (by omega); omega)]) ?_
                refine gx_last (n := 13) hx hb hK 0 (hR.mla 21 (by decide) (by decide)) rfl k (rfl) (by omega) (by decide) hL (by (try simp only [aI, aA, aT, aB, aL, mad]); omega) dX11_findNeeds_76 (fun H locs hU hA hL => ?_)
                have hR := GRb.pML (j := 21) (by decide) (by decide) hR hU hA
                have hR := GR_M (M := (mI (m_wr M 21 0 k (fun k => p_nd (m_lacks M i) (mLd M i) (k + 1))), up2 (mL (m_wr M 21 0 k (fun k => p_nd (m_lacks M i) (mLd M i) (k + 1)))) 21 k ((fun k => p_nd (m_lacks M i) (mLd M i) (k + 1)) k), mS (m_wr M 21 0 k (fun k => p_nd (m_lacks M i) (mLd M i) (k + 1))))) (M' := m_wr M 21 0 (k + 1) (fun k => p_nd (m_lacks M i) (mLd M i) (k + 1))) (m_wr_s0 M 21 k (fun k => p_nd (m_lacks M i) (mLd M i) (k + 1))) hR
                refine lv_iinc (v := nI (k + 1)) (lv' := [(2, .int (nI (k + 1))), (3, .long (p_mo (m_lacks M i) (k + 1))), (5, .int (nI (k + 1))), (0, .ref (s0.heap.size + 104)), (1, .int (nI i))]) hx hb dX11_findNeeds_77 hl (k := 4) rfl (nI_1 k) (by decide) rfl (fun ls hl => ?_)
                refine lv_goto (tgt := 2) hx hb dX11_findNeeds_80 (by decide) ?_
                exact ih (k + 1) _ _ _ (by omega) (by omega) (lv_sub hl [0, 3, 4] rfl) hL hR
              · refine lv_lconst (v := 0) hx hb dX11_findNeeds_71 (by decide) ?_
                refine lv_goto (tgt := 76) hx hb dX11_findNeeds_72 (by decide) ?_
                refine gx_tl ((fun k => p_nd (m_lacks M i) (mLd M i) (k + 1)) k) (by show _ = p_nd (m_lacks M i) (mLd M i) (k + 1); rw [p_nd, if_pos (n_lt c68 (by omega) (by omega))]) ?_
                refine gx_last (n := 13) hx hb hK 0 (hR.mla 21 (by decide) (by decide)) rfl k (rfl) (by omega) (by decide) hL (by (try simp only [aI, aA, aT, aB, aL, mad]); omega) dX11_findNeeds_76 (fun H locs hU hA hL => ?_)
                have hR := GRb.pML (j := 21) (by decide) (by decide) hR hU hA
                have hR := GR_M (M := (mI (m_wr M 21 0 k (fun k => p_nd (m_lacks M i) (mLd M i) (k + 1))), up2 (mL (m_wr M 21 0 k (fun k => p_nd (m_lacks M i) (mLd M i) (k + 1)))) 21 k ((fun k => p_nd (m_lacks M i) (mLd M i) (k + 1)) k), mS (m_wr M 21 0 k (fun k => p_nd (m_lacks M i) (mLd M i) (k + 1))))) (M' := m_wr M 21 0 (k + 1) (fun k => p_nd (m_lacks M i) (mLd M i) (k + 1))) (m_wr_s0 M 21 k (fun k => p_nd (m_lacks M i) (mLd M i) (k + 1))) hR
                refine lv_iinc (v := nI (k + 1)) (lv' := [(2, .int (nI (k + 1))), (3, .long (p_mo (m_lacks M i) (k + 1))), (5, .int (nI (k + 1))), (0, .ref (s0.heap.size + 104)), (1, .int (nI i))]) hx hb dX11_findNeeds_77 hl (k := 4) rfl (nI_1 k) (by decide) rfl (fun ls hl => ?_)
                refine lv_goto (tgt := 2) hx hb dX11_findNeeds_80 (by decide) ?_
                exact ih (k + 1) _ _ _ (by omega) (by omega) (lv_sub hl [0, 3, 4] rfl) hL hR
            · have hv : v ≤ k := by have := n_le c16 (by omega) (by omega); omega
              refine lv_aload_n hx hb dX11_findNeeds_19 rfl (lv_at hl 2 rfl) ?_
              refine gx_get (D := D) (cl := gcl) (ci := 10) (v := .ref (mad s0.heap.size 3)) (C := RX11) (T := TX11) (N := 27) hx hb hts in_X11 hown hK hR.mo rfl 4 (by decide) (hts _ q890) (fun _ h9 => h9) rfl dX11_findNeeds_20 ?_
              refine lv_iload_n hx hb dX11_findNeeds_23 rfl (lv_at hl 3 rfl) ?_
              refine gx_iald (n := 12) hx hb hK 1 (hR.mia 3 (by decide)) rfl i (rfl) (by omega) (by decide) dX11_findNeeds_24 ?_
              refine lv_i2l (v := (mI (m_wr M 21 0 k (fun k => p_nd (m_lacks M i) (mLd M i) (k + 1))) 3 i).toInt64) hx hb dX11_findNeeds_25 rfl ?_
              refine gx_tl ((mI M 3 i).toInt64) (rfl) ?_
              refine lv_aload_n hx hb dX11_findNeeds_26 rfl (lv_at hl 2 rfl) ?_
              refine lv_iload_n hx hb dX11_findNeeds_27 rfl (lv_at hl 3 rfl) ?_
              refine lv_iload hx hb dX11_findNeeds_28 (lv_at hl 1 rfl) ?_
              refine cc_v (va_runV (b := s0.heap.size + 104) (As := [.int (nI i), .int (nI v)]) (rest := [.long ((mI M 3 i).toInt64)]) ⟨hx, hb, hml, hown, hts⟩ (ct_X11_bare (wk := v) hE ⟨_, hR⟩ hi (by omega) (hC.of rfl)) (cwV 2 hts (lw_V q1070 q1072 qs36 q61 q1073) rfl rfl rfl (by decide +kernel) ⟨Nat.le_of_ble_eq_true rfl, Nat.le_of_ble_eq_true rfl⟩) (cc_pV hW0 (cc_re hK hR.mo (show gcl[10]? = _ from rfl))) rfl rfl hl.1 rfl (lv_room (Nat.le_of_ble_eq_true rfl)) dX11_findNeeds_30 ⟨Nat.le_of_ble_eq_true rfl, Nat.le_of_ble_eq_true rfl⟩) hL (fun H locs hP1 hL => ?_)
              subst hP1
              refine gx_tl (m_bare M i v) (m_bare_c (M := M) (M' := m_wr M 21 0 k (fun k => p_nd (m_lacks M i) (mLd M i) (k + 1))) rfl (m_wr_o M (fun k => p_nd (m_lacks M i) (mLd M i) (k + 1)) (by decide)) i v) ?_
              refine lv_lsub hx hb dX11_findNeeds_33 ?_
              refine gx_tl (m_lacks M i v) (rfl) ?_
              refine lv_lstore (lv' := [(6, .long (m_lacks M i v)), (3, .long (p_mo (m_lacks M i) v)), (5, .int (nI v)), (0, .ref (s0.heap.size + 104)), (1, .int (nI i)), (2, .int (nI k))]) hx hb dX11_findNeeds_34 hl (by decide) rfl (fun ls hl => ?_)
              refine lv_lload hx hb dX11_findNeeds_36 (lv_at hl 0 rfl) ?_
              refine lv_lload_n hx hb dX11_findNeeds_38 rfl (lv_at hl 1 rfl) ?_
              refine gx_lc_le (tgt := 48) (pc1 := 40) hx hb rfl dX11_findNeeds_39 dX11_findNeeds_40 (by decide) (fun c40 => ?_) (fun c40 => ?_)
              · refine lv_lload_n hx hb dX11_findNeeds_48 rfl (lv_at hl 1 rfl) ?_
                refine gx_tl (p_mo (m_lacks M i) (v + 1)) (by rw [p_mo, if_neg (Int64.not_lt.mpr c40)]) ?_
                refine lv_lstore_n (lv' := [(3, .long (p_mo (m_lacks M i) (v + 1))), (6, .long (m_lacks M i v)), (5, .int (nI v)), (0, .ref (s0.heap.size + 104)), (1, .int (nI i)), (2, .int (nI k))]) hx hb dX11_findNeeds_49 rfl hl (by decide) rfl (fun ls hl => ?_)
                refine lv_iinc (v := nI (v + 1)) (lv' := [(5, .int (nI (v + 1))), (3, .long (p_mo (m_lacks M i) (v + 1))), (6, .long (m_lacks M i v)), (0, .ref (s0.heap.size + 104)), (1, .int (nI i)), (2, .int (nI k))]) hx hb dX11_findNeeds_50 hl (k := 2) rfl (nI_1 v) (by decide) rfl (fun ls hl => ?_)
                refine lv_goto (tgt := 13) hx hb dX11_findNeeds_53 (by decide) ?_
                exact ih2 (v + 1) _ _ (by omega) (by omega) (lv_sub hl [1, 0, 3, 4, 5] rfl) hL
              · refine lv_lload hx hb dX11_findNeeds_43 (lv_at hl 0 rfl) ?_
                refine lv_goto (tgt := 49) hx hb dX11_findNeeds_45 (by decide) ?_
                refine gx_tl (p_mo (m_lacks M i) (v + 1)) (by rw [p_mo, if_pos (l_nle c40)]) ?_
                refine lv_lstore_n (lv' := [(3, .long (p_mo (m_lacks M i) (v + 1))), (6, .long (m_lacks M i v)), (5, .int (nI v)), (0, .ref (s0.heap.size + 104)), (1, .int (nI i)), (2, .int (nI k))]) hx hb dX11_findNeeds_49 rfl hl (by decide) rfl (fun ls hl => ?_)
                refine lv_iinc (v := nI (v + 1)) (lv' := [(5, .int (nI (v + 1))), (3, .long (p_mo (m_lacks M i) (v + 1))), (6, .long (m_lacks M i v)), (0, .ref (s0.heap.size + 104)), (1, .int (nI i)), (2, .int (nI k))]) hx hb dX11_findNeeds_50 hl (k := 2) rfl (nI_1 v) (by decide) rfl (fun ls hl => ?_)
                refine lv_goto (tgt := 13) hx hb dX11_findNeeds_53 (by decide) ?_
                exact ih2 (v + 1) _ _ (by omega) (by omega) (lv_sub hl [1, 0, 3, 4, 5] rfl) hL
        refine lv_lconst (v := 0) hx hb dX11_findNeeds_8 (by decide) ?_
        refine gx_tl (p_mo (m_lacks M i) 0) (rfl) ?_
        refine lv_lstore_n (lv' := [(3, .long (p_mo (m_lacks M i) 0)), (2, .int (nI k)), (0, .ref (s0.heap.size + 104)), (1, .int (nI i))]) hx hb dX11_findNeeds_9 rfl hl (by decide) rfl (fun ls hl => ?_)
        refine lv_iconst (v := 0) hx hb dX11_findNeeds_10 (by decide) ?_
        refine gx_ti (nI 0) (by decide) ?_
        refine lv_istore (lv' := [(5, .int (nI 0)), (3, .long (p_mo (m_lacks M i) 0)), (2, .int (nI k)), (0, .ref (s0.heap.size + 104)), (1, .int (nI i))]) hx hb dX11_findNeeds_11 hl (by decide) rfl (fun ls hl => ?_)
        exact key2 (k + 2) 0 _ _ (by omega) (by omega) (lv_sub hl [1, 0, 3, 4, 2] rfl) hL
  refine lv_iconst (v := 0) hx hb dX11_findNeeds_0 (by decide) ?_
  refine gx_ti (nI 0) (by decide) ?_
  refine lv_istore_n (lv' := [(2, .int (nI 0)), (0, .ref (s0.heap.size + 104)), (1, .int (nI i))]) hx hb dX11_findNeeds_1 rfl hl (by decide) rfl (fun ls hl => ?_)
  exact key 13 0 _ _ _ (by omega) (by omega) (lv_sub hl [0, 1, 2] rfl) hL (by rw [m_wr_0]; exact hR)
