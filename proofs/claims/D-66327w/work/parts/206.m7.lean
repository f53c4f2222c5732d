set_option maxHeartbeats 4000000 in
set_option maxRecDepth 100000 in
/-- costs -/
theorem ct_X11_costs {l : Launch} {s0 : State} {D : va_G} {DA : Nat → ClassId} {z0 : Nat} {C : CS} {M : MS} {o : Int64} {H : Heap} (hE : G0 l s0 D DA z0) (hR : RR s0 D DA z0 C M o H) (i r z d : Int32) : Met l yX11_costs (ws_ yX11_costs cX11_costs 6 none) ({ frames := 2, cells := 0, slots := 0, locals := 42 }) (cP s0 [.ref (s0.heap.size + 104), .int i, .int r, .int z, .int d] H) (cQ0 (fun H1 => RR s0 D DA z0 C (m_costs M i r z d) o H1)) 0 0 (cF s0) := by
  refine Met.ofW (cc := cX11_costs) (maxL := 6) (ret := none) (by decide) rfl ?_
  intro p e s m args below meth c s₁ Bd hml hv
  obtain ⟨rfl, rfl, hW0⟩ := hv
  have hx := Bd.exec
  have hb := Bd.bytes
  have hr := Bd.returns
  have hts := atoms_spec (ws := (ws_ yX11_costs cX11_costs 6 none)) Bd.pre
  have hts : ∀ w ∈ lw_all, w.before _ s = true := fun w h => hts w (List.mem_cons_of_mem _ h)
  have hown : s.vm.findClass RX11 = some m.cls := findClass_of_methodNamed Bd.named
  have hlocks := Bd.notSynchronized
  have hK := va_K.moved hW0.alike hE.K
  have hL : gx_L s0.heap.size ([] : List Loc) := gx_L0
  obtain ⟨Y, hR⟩ := hR
  have hl := lv_entry ([.ref (s0.heap.size + 104), .int i, .int r, .int z, .int d]) (n := 6) (Nat.le_of_ble_eq_true rfl)
  rw [lg_entry_eq]
  generalize (lg_sl ([.ref (s0.heap.size + 104), .int i, .int r, .int z, .int d]) ++ List.replicate (6 - (lg_sl ([.ref (s0.heap.size + 104), .int i, .int r, .int z, .int d])).length) Slot.unset).toArray = ls at hl ⊢
  have hl : lv_has ls 6 [(0, .ref (s0.heap.size + 104)), (1, .int i), (2, .int r), (3, .int z), (4, .int d)] := hl
  have j37 : ∀ (locs : List Loc) (ls : Array Slot), lv_has ls 6 [(0, .ref (s0.heap.size + 104)), (1, .int i), (2, .int r), (3, .int z), (4, .int d)] → gx_L s0.heap.size locs → W p l e (headSpec (ws_ yX11_costs cX11_costs 6 none) ({ frames := 2, cells := 0, slots := 0, locals := 42 })).room s m ([.ref (s0.heap.size + 104), .int i, .int r, .int z, .int d] : List Value).toArray below meth c s.heap locs 0 0 (MQ below (cQ0 (fun H1 => RR s0 D DA z0 C (m_costs M i r z d) o H1)) ([.ref (s0.heap.size + 104), .int i, .int r, .int z, .int d] : List Value).toArray s 0 0 (cF s0)) (F0 m 37 ls [.int (bZ (inR r 0 200 && inR z 0 100000 && inR d 0 100))]) := by
    intro locs ls hl hL
    refine lv_istore (lv' := [(5, .int (bZ (inR r 0 200 && inR z 0 100000 && inR d 0 100))), (0, .ref (s0.heap.size + 104)), (1, .int i), (2, .int r), (3, .int z), (4, .int d)]) hx hb dX11_costs_37 hl (by decide) rfl (fun ls hl => ?_)
    refine lv_aload_n hx hb dX11_costs_39 rfl (lv_at hl 1 rfl) ?_
    refine lv_iload_n hx hb dX11_costs_40 rfl (lv_at hl 2 rfl) ?_
    refine cc_v (va_runS (As := [.int i]) (rest := [.ref (s0.heap.size + 104)]) ⟨hx, hb, hml, hown, hts⟩ (ct_X11_isTwelve hE i) (va_cwS 1 hts (lw_S q980 q981 q61 q982) rfl rfl rfl (by decide +kernel) ⟨Nat.le_of_ble_eq_true rfl, Nat.le_of_ble_eq_true rfl⟩) (cc_pS hW0) rfl rfl hl.1 rfl (lv_room (Nat.le_of_ble_eq_true rfl)) dX11_costs_41 ⟨Nat.le_of_ble_eq_true rfl, Nat.le_of_ble_eq_true rfl⟩) hL (fun H locs hP1 hL => ?_)
    subst hP1
    refine lv_if_ne (tgt := 51) hx hb dX11_costs_44 (by decide) (fun c44 => ?_) (fun c44 => ?_)
    · obtain ⟨k, hk, rfl⟩ := in12_t (bZ_1.mp c44)
      refine lv_iload hx hb dX11_costs_51 (lv_at hl 0 rfl) ?_
      refine lv_if_ne (tgt := 60) hx hb dX11_costs_53 (by decide) (fun c53 => ?_) (fun c53 => ?_)
      · refine lv_iconst (v := 0) hx hb dX11_costs_60 (by decide) ?_
        refine cc_v (va_runV (b := s0.heap.size + 104) (As := [.int 0]) (rest := []) ⟨hx, hb, hml, hown, hts⟩ (ct_X11_refused hE ⟨_, hR⟩ 0) (cwV 1 hts (lw_V q983 q985 qs23 q61 q986) rfl rfl rfl (by decide +kernel) ⟨Nat.le_of_ble_eq_true rfl, Nat.le_of_ble_eq_true rfl⟩) (cc_pV hW0 (cc_re hK hR.mo (show gcl[10]? = _ from rfl))) rfl rfl hl.1 rfl (lv_room (Nat.le_of_ble_eq_true rfl)) dX11_costs_61 ⟨Nat.le_of_ble_eq_true rfl, Nat.le_of_ble_eq_true rfl⟩) hL (fun H locs hP1 hL => ?_)
        obtain ⟨Y, hR⟩ := hP1
        refine lv_if_ne (tgt := 94) hx hb dX11_costs_64 (by decide) (fun c64 => ?_) (fun c64 => ?_)
        · exact absurd c64 (by decide)
        · refine lv_aload_n hx hb dX11_costs_67 rfl (lv_at hl 1 rfl) ?_
          refine gx_get (D := D) (cl := gcl) (ci := 10) (v := .ref (mad s0.heap.size 4)) (C := RX11) (T := TX11) (N := 27) hx hb hts in_X11 hown hK hR.mo rfl 5 (by decide) (hts _ q891) (fun _ h9 => h9) rfl dX11_costs_68 ?_
          refine lv_iload_n hx hb dX11_costs_71 rfl (lv_at hl 2 rfl) ?_
          refine lv_iload_n hx hb dX11_costs_72 rfl (lv_at hl 3 rfl) ?_
          refine gx_iast (n := 12) hx hb hK 1 (hR.mia 4 (by decide)) rfl k (rfl) (by omega) (by decide) hL (by (try simp only [aI, aA, aT, aB, aL, mad]); omega) dX11_costs_73 (fun H locs hU hA hL => ?_)
          have hR := GRb.pMI (j := 4) (by decide) hR hU hA
          refine lv_aload_n hx hb dX11_costs_74 rfl (lv_at hl 1 rfl) ?_
          refine gx_get (D := D) (cl := gcl) (ci := 10) (v := .ref (mad s0.heap.size 5)) (C := RX11) (T := TX11) (N := 27) hx hb hts in_X11 hown hK hR.mo rfl 6 (by decide) (hts _ q892) (fun _ h9 => h9) rfl dX11_costs_75 ?_
          refine lv_iload_n hx hb dX11_costs_78 rfl (lv_at hl 2 rfl) ?_
          refine lv_iload_n hx hb dX11_costs_79 rfl (lv_at hl 4 rfl) ?_
          refine gx_iast (n := 12) hx hb hK 1 (hR.mia 5 (by decide)) rfl k (rfl) (by omega) (by decide) hL (by (try simp only [aI, aA, aT, aB, aL, mad]); omega) dX11_costs_80 (fun H locs hU hA hL => ?_)
          have hR := GRb.pMI (j := 5) (by decide) hR hU hA
          refine lv_aload_n hx hb dX11_costs_81 rfl (lv_at hl 1 rfl) ?_
          refine gx_get (D := D) (cl := gcl) (ci := 10) (v := .ref (mad s0.heap.size 6)) (C := RX11) (T := TX11) (N := 27) hx hb hts in_X11 hown hK hR.mo rfl 7 (by decide) (hts _ q893) (fun _ h9 => h9) rfl dX11_costs_82 ?_
          refine lv_iload_n hx hb dX11_costs_85 rfl (lv_at hl 2 rfl) ?_
          refine lv_iload hx hb dX11_costs_86 (lv_at hl 5 rfl) ?_
          refine gx_iast (n := 12) hx hb hK 1 (hR.mia 6 (by decide)) rfl k (rfl) (by omega) (by decide) hL (by (try simp only [aI, aA, aT, aB, aL, mad]); omega) dX11_costs_88 (fun H locs hU hA hL => ?_)
          have hR := GRb.pMI (j := 6) (by decide) hR hU hA
          refine lv_aload_n hx hb dX11_costs_89 rfl (lv_at hl 1 rfl) ?_
          refine lv_iload_n hx hb dX11_costs_90 rfl (lv_at hl 2 rfl) ?_
          refine cc_0 (va_runV (b := s0.heap.size + 104) (As := [.int (nI k)]) (rest := []) ⟨hx, hb, hml, hown, hts⟩ (ct_X11_tell hE ⟨_, hR⟩ k hk) (cwV 1 hts (lw_V q987 q989 qs24 q61 q990) rfl rfl rfl (by decide +kernel) ⟨Nat.le_of_ble_eq_true rfl, Nat.le_of_ble_eq_true rfl⟩) (cc_pV hW0 (cc_re hK hR.mo (show gcl[10]? = _ from rfl))) rfl rfl hl.1 rfl (lv_room (Nat.le_of_ble_eq_true rfl)) dX11_costs_91 ⟨Nat.le_of_ble_eq_true rfl, Nat.le_of_ble_eq_true rfl⟩) hL (fun H locs hP1 hL => ?_)
          obtain ⟨Y, hR⟩ := hP1
          exact W.vret hx hb hr (fun t ht hW => ⟨rfl, by rw [ht]; exact (RR_M (m_costs_0 hk (bZ_1.mp c53)) ⟨_, hR⟩)⟩) hL dX11_costs_94
      · refine lv_iconst (v := 2) hx hb dX11_costs_56 (by decide) ?_
        refine lv_goto (tgt := 61) hx hb dX11_costs_57 (by decide) ?_
        refine cc_v (va_runV (b := s0.heap.size + 104) (As := [.int 2]) (rest := []) ⟨hx, hb, hml, hown, hts⟩ (ct_X11_refused hE ⟨_, hR⟩ 2) (cwV 1 hts (lw_V q983 q985 qs23 q61 q986) rfl rfl rfl (by decide +kernel) ⟨Nat.le_of_ble_eq_true rfl, Nat.le_of_ble_eq_true rfl⟩) (cc_pV hW0 (cc_re hK hR.mo (show gcl[10]? = _ from rfl))) rfl rfl hl.1 rfl (lv_room (Nat.le_of_ble_eq_true rfl)) dX11_costs_61 ⟨Nat.le_of_ble_eq_true rfl, Nat.le_of_ble_eq_true rfl⟩) hL (fun H locs hP1 hL => ?_)
        obtain ⟨Y, hR⟩ := hP1
        refine lv_if_ne (tgt := 94) hx hb dX11_costs_64 (by decide) (fun c64 => ?_) (fun c64 => ?_)
        · exact W.vret hx hb hr (fun t ht hW => ⟨rfl, by rw [ht]; exact (RR_M (m_costs_2 (in12_n hk) (bZ_0.mp c53)) ⟨_, hR⟩)⟩) hL dX11_costs_94
        · exact absurd c64 (by decide)
    · refine lv_iconst (v := 1) hx hb dX11_costs_47 (by decide) ?_
      refine lv_goto (tgt := 61) hx hb dX11_costs_48 (by decide) ?_
      refine cc_v (va_runV (b := s0.heap.size + 104) (As := [.int 1]) (rest := []) ⟨hx, hb, hml, hown, hts⟩ (ct_X11_refused hE ⟨_, hR⟩ 1) (cwV 1 hts (lw_V q983 q985 qs23 q61 q986) rfl rfl rfl (by decide +kernel) ⟨Nat.le_of_ble_eq_true rfl, Nat.le_of_ble_eq_true rfl⟩) (cc_pV hW0 (cc_re hK hR.mo (show gcl[10]? = _ from rfl))) rfl rfl hl.1 rfl (lv_room (Nat.le_of_ble_eq_true rfl)) dX11_costs_61 ⟨Nat.le_of_ble_eq_true rfl, Nat.le_of_ble_eq_true rfl⟩) hL (fun H locs hP1 hL => ?_)
      obtain ⟨Y, hR⟩ := hP1
      refine lv_if_ne (tgt := 94) hx hb dX11_costs_64 (by decide) (fun c64 => ?_) (fun c64 => ?_)
      · exact W.vret hx hb hr (fun t ht hW => ⟨rfl, by rw [ht]; exact (RR_M (m_costs_1 (bZ_0.mp c44)) ⟨_, hR⟩)⟩) hL dX11_costs_94
      · exact absurd c64 (by decide)
  refine lv_iload_n hx hb dX11_costs_0 rfl (lv_at hl 2 rfl) ?_
  refine lv_iconst (v := 0) hx hb dX11_costs_1 (by decide) ?_
  refine lv_sipush (v := 200) hx hb dX11_costs_2 (by decide) ?_
  refine cc_v (va_runS (As := [.int r, .int 0, .int 200]) (rest := []) ⟨hx, hb, hml, hown, hts⟩ (ct_X11_isIn hE r 0 200) (va_cwS 3 hts (lw_S q977 q978 q61 q979) rfl rfl rfl (by decide +kernel) ⟨Nat.le_of_ble_eq_true rfl, Nat.le_of_ble_eq_true rfl⟩) (cc_pS hW0) rfl rfl hl.1 rfl (lv_room (Nat.le_of_ble_eq_true rfl)) dX11_costs_5 ⟨Nat.le_of_ble_eq_true rfl, Nat.le_of_ble_eq_true rfl⟩) hL (fun H locs hP1 hL => ?_)
  subst hP1
  refine lv_if_eq (tgt := 36) hx hb dX11_costs_8 (by decide) (fun c8 => ?_) (fun c8 => ?_)
  · refine lv_iconst (v := 0) hx hb dX11_costs_36 (by decide) ?_
    refine gx_ti (bZ (inR r 0 200 && inR z 0 100000 && inR d 0 100)) ((bZ_f (by simp [bZ_0.mp c8])).symm) ?_
    exact j37 _ _ (lv_sub hl [0, 1, 2, 3, 4] rfl) hL
  · refine lv_iload_n hx hb dX11_costs_11 rfl (lv_at hl 3 rfl) ?_
    refine lv_iconst (v := 0) hx hb dX11_costs_12 (by decide) ?_
    refine lv_ldc (v := 100000) hx hb hown (hts _ q995) dX11_costs_13 ?_
    refine cc_v (va_runS (As := [.int z, .int 0, .int 100000]) (rest := []) ⟨hx, hb, hml, hown, hts⟩ (ct_X11_isIn hE z 0 100000) (va_cwS 3 hts (lw_S q977 q978 q61 q979) rfl rfl rfl (by decide +kernel) ⟨Nat.le_of_ble_eq_true rfl, Nat.le_of_ble_eq_true rfl⟩) (cc_pS hW0) rfl rfl hl.1 rfl (lv_room (Nat.le_of_ble_eq_true rfl)) dX11_costs_15 ⟨Nat.le_of_ble_eq_true rfl, Nat.le_of_ble_eq_true rfl⟩) hL (fun H locs hP1 hL => ?_)
    subst hP1
    refine lv_if_eq (tgt := 36) hx hb dX11_costs_18 (by decide) (fun c18 => ?_) (fun c18 => ?_)
    · refine lv_iconst (v := 0) hx hb dX11_costs_36 (by decide) ?_
      refine gx_ti (bZ (inR r 0 200 && inR z 0 100000 && inR d 0 100)) ((bZ_f (by simp [bZ_0.mp c18])).symm) ?_
      exact j37 _ _ (lv_sub hl [0, 1, 2, 3, 4] rfl) hL
    · refine lv_iload hx hb dX11_costs_21 (lv_at hl 4 rfl) ?_
      refine lv_iconst (v := 0) hx hb dX11_costs_23 (by decide) ?_
      refine lv_bipush (v := 100) hx hb dX11_costs_24 (by decide) ?_
      refine cc_v (va_runS (As := [.int d, .int 0, .int 100]) (rest := []) ⟨hx, hb, hml, hown, hts⟩ (ct_X11_isIn hE d 0 100) (va_cwS 3 hts (lw_S q977 q978 q61 q979) rfl rfl rfl (by decide +kernel) ⟨Nat.le_of_ble_eq_true rfl, Nat.le_of_ble_eq_true rfl⟩) (cc_pS hW0) rfl rfl hl.1 rfl (lv_room (Nat.le_of_ble_eq_true rfl)) dX11_costs_26 ⟨Nat.le_of_ble_eq_true rfl, Nat.le_of_ble_eq_true rfl⟩) hL (fun H locs hP1 hL => ?_)
      subst hP1
      refine lv_if_eq (tgt := 36) hx hb dX11_costs_29 (by decide) (fun c29 => ?_) (fun c29 => ?_)
      · refine lv_iconst (v := 0) hx hb dX11_costs_36 (by decide) ?_
        refine gx_ti (bZ (inR r 0 200 && inR z 0 100000 && inR d 0 100)) ((bZ_f (by simp [bZ_0.mp c29])).symm) ?_
        exact j37 _ _ (lv_sub hl [0, 1, 2, 3, 4] rfl) hL
      · refine lv_iconst (v := 1) hx hb dX11_costs_32 (by decide) ?_
        refine lv_goto (tgt := 37) hx hb dX11_costs_33 (by decide) ?_
        refine gx_ti (bZ (inR r 0 200 && inR z 0 100000 && inR d 0 100)) ((bZ_t (by simp [bZ_1.mp c8, bZ_1.mp c18, bZ_1.mp c29])).symm) ?_
        exact j37 _ _ (lv_sub hl [0, 1, 2, 3, 4] rfl) hL
set_option maxHeartbeats 4000000 in
set_option maxRecDepth 100000 in
/-- made -/
theorem ct_X11_made {l : Launch} {s0 : State} {D : va_G} {DA : Nat → ClassId} {z0 : Nat} {C : CS} {M : MS} {o : Int64} {H : Heap} (hE : G0 l s0 D DA z0) (hR : RR s0 D DA z0 C M o H) (i r z : Int32) : Met l yX11_made (ws_ yX11_made cX11_made 4 none) ({ frames := 2, cells := 0, slots := 0, locals := 42 }) (cP s0 [.ref (s0.heap.size + 104), .int i, .int r, .int z] H) (cQ0 (fun H1 => RR s0 D DA z0 C (m_made M i r z) o H1)) 0 0 (cF s0) := by
  refine Met.ofW (cc := cX11_made) (maxL := 4) (ret := none) (by decide) rfl ?_
  intro p e s m args below meth c s₁ Bd hml hv
  obtain ⟨rfl, rfl, hW0⟩ := hv
  have hx := Bd.exec
  have hb := Bd.bytes
  have hr := Bd.returns
  have hts := atoms_spec (ws := (ws_ yX11_made cX11_made 4 none)) Bd.pre
  have hts : ∀ w ∈ lw_all, w.before _ s = true := fun w h => hts w (List.mem_cons_of_mem _ h)
  have hown : s.vm.findClass RX11 = some m.cls := findClass_of_methodNamed Bd.named
  have hlocks := Bd.notSynchronized
  have hK := va_K.moved hW0.alike hE.K
  have hL : gx_L s0.heap.size ([] : List Loc) := gx_L0
  obtain ⟨Y, hR⟩ := hR
  have hl := lv_entry ([.ref (s0.heap.size + 104), .int i, .int r, .int z]) (n := 4) (Nat.le_of_ble_eq_true rfl)
  rw [lg_entry_eq]
  generalize (lg_sl ([.ref (s0.heap.size + 104), .int i, .int r, .int z]) ++ List.replicate (4 - (lg_sl ([.ref (s0.heap.size + 104), .int i, .int r, .int z])).length) Slot.unset).toArray = ls at hl ⊢
  have hl : lv_has ls 4 [(0, .ref (s0.heap.size + 104)), (1, .int i), (2, .int r), (3, .int z)] := hl
  refine lv_aload_n hx hb dX11_made_0 rfl (lv_at hl 0 rfl) ?_
  refine lv_iload_n hx hb dX11_made_1 rfl (lv_at hl 1 rfl) ?_
  refine cc_v (va_runS (As := [.int i]) (rest := [.ref (s0.heap.size + 104)]) ⟨hx, hb, hml, hown, hts⟩ (ct_X11_isTwelve hE i) (va_cwS 1 hts (lw_S q980 q981 q61 q982) rfl rfl rfl (by decide +kernel) ⟨Nat.le_of_ble_eq_true rfl, Nat.le_of_ble_eq_true rfl⟩) (cc_pS hW0) rfl rfl hl.1 rfl (lv_room (Nat.le_of_ble_eq_true rfl)) dX11_made_2 ⟨Nat.le_of_ble_eq_true rfl, Nat.le_of_ble_eq_true rfl⟩) hL (fun H locs hP1 hL => ?_)
  subst hP1
  refine lv_if_eq (tgt := 17) hx hb dX11_made_5 (by decide) (fun c5 => ?_) (fun c5 => ?_)
  · refine lv_iconst (v := 1) hx hb dX11_made_17 (by decide) ?_
    refine lv_goto (tgt := 36) hx hb dX11_made_18 (by decide) ?_
    refine cc_v (va_runV (b := s0.heap.size + 104) (As := [.int 1]) (rest := []) ⟨hx, hb, hml, hown, hts⟩ (ct_X11_refused hE ⟨_, hR⟩ 1) (cwV 1 hts (lw_V q983 q985 qs23 q61 q986) rfl rfl rfl (by decide +kernel) ⟨Nat.le_of_ble_eq_true rfl, Nat.le_of_ble_eq_true rfl⟩) (cc_pV hW0 (cc_re hK hR.mo (show gcl[10]? = _ from rfl))) rfl rfl hl.1 rfl (lv_room (Nat.le_of_ble_eq_true rfl)) dX11_made_36 ⟨Nat.le_of_ble_eq_true rfl, Nat.le_of_ble_eq_true rfl⟩) hL (fun H locs hP1 hL => ?_)
    obtain ⟨Y, hR⟩ := hP1
    refine lv_if_ne (tgt := 56) hx hb dX11_made_39 (by decide) (fun c39 => ?_) (fun c39 => ?_)
    · exact W.vret hx hb hr (fun t ht hW => ⟨rfl, by rw [ht]; exact (RR_M (m_made_1 (by rw [bZ_0.mp c5]; rfl)) ⟨_, hR⟩)⟩) hL dX11_made_56
    · exact absurd c39 (by decide)
  · obtain ⟨k, hk, rfl⟩ := in12_t (bZ_1.mp c5)
    refine lv_iload_n hx hb dX11_made_8 rfl (lv_at hl 2 rfl) ?_
    refine lv_iconst (v := 0) hx hb dX11_made_9 (by decide) ?_
    refine lv_iconst (v := 2) hx hb dX11_made_10 (by decide) ?_
    refine cc_v (va_runS (As := [.int r, .int 0, .int 2]) (rest := [.ref (s0.heap.size + 104)]) ⟨hx, hb, hml, hown, hts⟩ (ct_X11_isIn hE r 0 2) (va_cwS 3 hts (lw_S q977 q978 q61 q979) rfl rfl rfl (by decide +kernel) ⟨Nat.le_of_ble_eq_true rfl, Nat.le_of_ble_eq_true rfl⟩) (cc_pS hW0) rfl rfl hl.1 rfl (lv_room (Nat.le_of_ble_eq_true rfl)) dX11_made_11 ⟨Nat.le_of_ble_eq_true rfl, Nat.le_of_ble_eq_true rfl⟩) hL (fun H locs hP1 hL => ?_)
    subst hP1
    refine lv_if_ne (tgt := 21) hx hb dX11_made_14 (by decide) (fun c14 => ?_) (fun c14 => ?_)
    · refine lv_iload_n hx hb dX11_made_21 rfl (lv_at hl 3 rfl) ?_
      refine lv_iconst (v := 0) hx hb dX11_made_22 (by decide) ?_
      refine lv_bipush (v := 9) hx hb dX11_made_23 (by decide) ?_
      refine cc_v (va_runS (As := [.int z, .int 0, .int 9]) (rest := [.ref (s0.heap.size + 104)]) ⟨hx, hb, hml, hown, hts⟩ (ct_X11_isIn hE z 0 9) (va_cwS 3 hts (lw_S q977 q978 q61 q979) rfl rfl rfl (by decide +kernel) ⟨Nat.le_of_ble_eq_true rfl, Nat.le_of_ble_eq_true rfl⟩) (cc_pS hW0) rfl rfl hl.1 rfl (lv_room (Nat.le_of_ble_eq_true rfl)) dX11_made_25 ⟨Nat.le_of_ble_eq_true rfl, Nat.le_of_ble_eq_true rfl⟩) hL (fun H locs hP1 hL => ?_)
      subst hP1
      refine lv_if_ne (tgt := 35) hx hb dX11_made_28 (by decide) (fun c28 => ?_) (fun c28 => ?_)
      · refine lv_iconst (v := 0) hx hb dX11_made_35 (by decide) ?_
        refine cc_v (va_runV (b := s0.heap.size + 104) (As := [.int 0]) (rest := []) ⟨hx, hb, hml, hown, hts⟩ (ct_X11_refused hE ⟨_, hR⟩ 0) (cwV 1 hts (lw_V q983 q985 qs23 q61 q986) rfl rfl rfl (by decide +kernel) ⟨Nat.le_of_ble_eq_true rfl, Nat.le_of_ble_eq_true rfl⟩) (cc_pV hW0 (cc_re hK hR.mo (show gcl[10]? = _ from rfl))) rfl rfl hl.1 rfl (lv_room (Nat.le_of_ble_eq_true rfl)) dX11_made_36 ⟨Nat.le_of_ble_eq_true rfl, Nat.le_of_ble_eq_true rfl⟩) hL (fun H locs hP1 hL => ?_)
        obtain ⟨Y, hR⟩ := hP1
        refine lv_if_ne (tgt := 56) hx hb dX11_made_39 (by decide) (fun c39 => ?_) (fun c39 => ?_)
        · exact absurd c39 (by decide)
        · refine lv_aload_n hx hb dX11_made_42 rfl (lv_at hl 0 rfl) ?_
          refine gx_get (D := D) (cl := gcl) (ci := 10) (v := .ref (mad s0.heap.size 8)) (C := RX11) (T := TX11) (N := 27) hx hb hts in_X11 hown hK hR.mo rfl 9 (by decide) (hts _ q895) (fun _ h9 => h9) rfl dX11_made_43 ?_
          refine lv_iload_n hx hb dX11_made_46 rfl (lv_at hl 1 rfl) ?_
          refine lv_iload_n hx hb dX11_made_47 rfl (lv_at hl 2 rfl) ?_
          refine gx_iast (n := 12) hx hb hK 1 (hR.mia 8 (by decide)) rfl k (rfl) (by omega) (by decide) hL (by (try simp only [aI, aA, aT, aB, aL, mad]); omega) dX11_made_48 (fun H locs hU hA hL => ?_)
          have hR := GRb.pMI (j := 8) (by decide) hR hU hA
          refine lv_aload_n hx hb dX11_made_49 rfl (lv_at hl 0 rfl) ?_
          refine gx_get (D := D) (cl := gcl) (ci := 10) (v := .ref (mad s0.heap.size 9)) (C := RX11) (T := TX11) (N := 27) hx hb hts in_X11 hown hK hR.mo rfl 10 (by decide) (hts _ q896) (fun _ h9 => h9) rfl dX11_made_50 ?_
          refine lv_iload_n hx hb dX11_made_53 rfl (lv_at hl 1 rfl) ?_
          refine lv_iload_n hx hb dX11_made_54 rfl (lv_at hl 3 rfl) ?_
          refine gx_iast (n := 12) hx hb hK 1 (hR.mia 9 (by decide)) rfl k (rfl) (by omega) (by decide) hL (by (try simp only [aI, aA, aT, aB, aL, mad]); omega) dX11_made_55 (fun H locs hU hA hL => ?_)
          have hR := GRb.pMI (j := 9) (by decide) hR hU hA
          exact W.vret hx hb hr (fun t ht hW => ⟨rfl, by rw [ht]; exact (RR_M (m_made_0 hk (bZ_1.mp c14) (bZ_1.mp c28)) ⟨_, hR⟩)⟩) hL dX11_made_56
      · refine lv_iconst (v := 2) hx hb dX11_made_31 (by decide) ?_
        refine lv_goto (tgt := 36) hx hb dX11_made_32 (by decide) ?_
        refine cc_v (va_runV (b := s0.heap.size + 104) (As := [.int 2]) (rest := []) ⟨hx, hb, hml, hown, hts⟩ (ct_X11_refused hE ⟨_, hR⟩ 2) (cwV 1 hts (lw_V q983 q985 qs23 q61 q986) rfl rfl rfl (by decide +kernel) ⟨Nat.le_of_ble_eq_true rfl, Nat.le_of_ble_eq_true rfl⟩) (cc_pV hW0 (cc_re hK hR.mo (show gcl[10]? = _ from rfl))) rfl rfl hl.1 rfl (lv_room (Nat.le_of_ble_eq_true rfl)) dX11_made_36 ⟨Nat.le_of_ble_eq_true rfl, Nat.le_of_ble_eq_true rfl⟩) hL (fun H locs hP1 hL => ?_)
        obtain ⟨Y, hR⟩ := hP1
        refine lv_if_ne (tgt := 56) hx hb dX11_made_39 (by decide) (fun c39 => ?_) (fun c39 => ?_)
        · exact W.vret hx hb hr (fun t ht hW => ⟨rfl, by rw [ht]; exact (RR_M (m_made_2 (by rw [in12_n hk, bZ_1.mp c14]; rfl) (bZ_0.mp c28)) ⟨_, hR⟩)⟩) hL dX11_made_56
        · exact absurd c39 (by decide)
    · refine lv_iconst (v := 1) hx hb dX11_made_17 (by decide) ?_
      refine lv_goto (tgt := 36) hx hb dX11_made_18 (by decide) ?_
      refine cc_v (va_runV (b := s0.heap.size + 104) (As := [.int 1]) (rest := []) ⟨hx, hb, hml, hown, hts⟩ (ct_X11_refused hE ⟨_, hR⟩ 1) (cwV 1 hts (lw_V q983 q985 qs23 q61 q986) rfl rfl rfl (by decide +kernel) ⟨Nat.le_of_ble_eq_true rfl, Nat.le_of_ble_eq_true rfl⟩) (cc_pV hW0 (cc_re hK hR.mo (show gcl[10]? = _ from rfl))) rfl rfl hl.1 rfl (lv_room (Nat.le_of_ble_eq_true rfl)) dX11_made_36 ⟨Nat.le_of_ble_eq_true rfl, Nat.le_of_ble_eq_true rfl⟩) hL (fun H locs hP1 hL => ?_)
      obtain ⟨Y, hR⟩ := hP1
      refine lv_if_ne (tgt := 56) hx hb dX11_made_39 (by decide) (fun c39 => ?_) (fun c39 => ?_)
      · exact W.vret hx hb hr (fun t ht hW => ⟨rfl, by rw [ht]; exact (RR_M (m_made_1 (by rw [bZ_0.mp c14, Bool.and_false])) ⟨_, hR⟩)⟩) hL dX11_made_56
      · exact absurd c39 (by decide)
set_option maxHeartbeats 4000000 in
set_option maxRecDepth 100000 in
/-- stock -/
theorem ct_X11_stock {l : Launch} {s0 : State} {D : va_G} {DA : Nat → ClassId} {z0 : Nat} {C : CS} {M : MS} {o : Int64} {H : Heap} (hE : G0 l s0 D DA z0) (hR : RR s0 D DA z0 C M o H) (i r : Int32) : Met l yX11_stock (ws_ yX11_stock cX11_stock 4 (some .int)) ({ frames := 2, cells := 0, slots := 0, locals := 42 }) (cP s0 [.ref (s0.heap.size + 104), .int i, .int r] H) (cQv (.int (m_stockr M i r)) (fun H1 => RR s0 D DA z0 C (m_stock M i r) o H1)) 0 0 (cF s0) := by
  refine Met.ofW (cc := cX11_stock) (maxL := 4) (ret := (some .int)) (by decide) rfl ?_
  intro p e s m args below meth c s₁ Bd hml hv
  obtain ⟨rfl, rfl, hW0⟩ := hv
  have hx := Bd.exec
  have hb := Bd.bytes
  have hr := Bd.returns
  have hts := atoms_spec (ws := (ws_ yX11_stock cX11_stock 4 (some .int))) Bd.pre
  have hts : ∀ w ∈ lw_all, w.before _ s = true := fun w h => hts w (List.mem_cons_of_mem _ h)
  have hown : s.vm.findClass RX11 = some m.cls := findClass_of_methodNamed Bd.named
  have hlocks := Bd.notSynchronized
  have hK := va_K.moved hW0.alike hE.K
  have hL : gx_L s0.heap.size ([] : List Loc) := gx_L0
  obtain ⟨Y, hR⟩ := hR
  have hl := lv_entry ([.ref (s0.heap.size + 104), .int i, .int r]) (n := 4) (Nat.le_of_ble_eq_true rfl)
  rw [lg_entry_eq]
  generalize (lg_sl ([.ref (s0.heap.size + 104), .int i, .int r]) ++ List.replicate (4 - (lg_sl ([.ref (s0.heap.size + 104), .int i, .int r])).length) Slot.unset).toArray = ls at hl ⊢
  have hl : lv_has ls 4 [(0, .ref (s0.heap.size + 104)), (1, .int i), (2, .int r)] := hl
  refine lv_aload_n hx hb dX11_stock_0 rfl (lv_at hl 0 rfl) ?_
  refine lv_iload_n hx hb dX11_stock_1 rfl (lv_at hl 1 rfl) ?_
  refine cc_v (va_runS (As := [.int i]) (rest := [.ref (s0.heap.size + 104)]) ⟨hx, hb, hml, hown, hts⟩ (ct_X11_isTwelve hE i) (va_cwS 1 hts (lw_S q980 q981 q61 q982) rfl rfl rfl (by decide +kernel) ⟨Nat.le_of_ble_eq_true rfl, Nat.le_of_ble_eq_true rfl⟩) (cc_pS hW0) rfl rfl hl.1 rfl (lv_room (Nat.le_of_ble_eq_true rfl)) dX11_stock_2 ⟨Nat.le_of_ble_eq_true rfl, Nat.le_of_ble_eq_true rfl⟩) hL (fun H locs hP1 hL => ?_)
  subst hP1
  refine lv_if_ne (tgt := 12) hx hb dX11_stock_5 (by decide) (fun c5 => ?_) (fun c5 => ?_)
  · obtain ⟨k, hk, rfl⟩ := in12_t (bZ_1.mp c5)
    refine lv_iload_n hx hb dX11_stock_12 rfl (lv_at hl 2 rfl) ?_
    refine lv_iconst (v := 0) hx hb dX11_stock_13 (by decide) ?_
    refine lv_sipush (v := 10000) hx hb dX11_stock_14 (by decide) ?_
    refine cc_v (va_runS (As := [.int r, .int 0, .int 10000]) (rest := [.ref (s0.heap.size + 104)]) ⟨hx, hb, hml, hown, hts⟩ (ct_X11_isIn hE r 0 10000) (va_cwS 3 hts (lw_S q977 q978 q61 q979) rfl rfl rfl (by decide +kernel) ⟨Nat.le_of_ble_eq_true rfl, Nat.le_of_ble_eq_true rfl⟩) (cc_pS hW0) rfl rfl hl.1 rfl (lv_room (Nat.le_of_ble_eq_true rfl)) dX11_stock_17 ⟨Nat.le_of_ble_eq_true rfl, Nat.le_of_ble_eq_true rfl⟩) hL (fun H locs hP1 hL => ?_)
    subst hP1
    refine lv_if_ne (tgt := 27) hx hb dX11_stock_20 (by decide) (fun c20 => ?_) (fun c20 => ?_)
    · refine lv_iconst (v := 0) hx hb dX11_stock_27 (by decide) ?_
      refine cc_v (va_runV (b := s0.heap.size + 104) (As := [.int 0]) (rest := []) ⟨hx, hb, hml, hown, hts⟩ (ct_X11_refused hE ⟨_, hR⟩ 0) (cwV 1 hts (lw_V q983 q985 qs23 q61 q986) rfl rfl rfl (by decide +kernel) ⟨Nat.le_of_ble_eq_true rfl, Nat.le_of_ble_eq_true rfl⟩) (cc_pV hW0 (cc_re hK hR.mo (show gcl[10]? = _ from rfl))) rfl rfl hl.1 rfl (lv_room (Nat.le_of_ble_eq_true rfl)) dX11_stock_28 ⟨Nat.le_of_ble_eq_true rfl, Nat.le_of_ble_eq_true rfl⟩) hL (fun H locs hP1 hL => ?_)
      obtain ⟨Y, hR⟩ := hP1
      refine lv_if_eq (tgt := 36) hx hb dX11_stock_31 (by decide) (fun c31 => ?_) (fun c31 => ?_)
      · refine lv_aload_n hx hb dX11_stock_36 rfl (lv_at hl 0 rfl) ?_
        refine gx_get (D := D) (cl := gcl) (ci := 10) (v := .ref (mad s0.heap.size 7)) (C := RX11) (T := TX11) (N := 27) hx hb hts in_X11 hown hK hR.mo rfl 8 (by decide) (hts _ q894) (fun _ h9 => h9) rfl dX11_stock_37 ?_
        refine lv_iload_n hx hb dX11_stock_40 rfl (lv_at hl 1 rfl) ?_
        refine gx_iald (n := 12) hx hb hK 1 (hR.mia 7 (by decide)) rfl k (rfl) (by omega) (by decide) dX11_stock_41 ?_
        refine lv_istore_n (lv' := [(3, .int (mI (mz M 0 0) 7 k)), (0, .ref (s0.heap.size + 104)), (1, .int (nI k)), (2, .int r)]) hx hb dX11_stock_42 rfl hl (by decide) rfl (fun ls hl => ?_)
        refine lv_aload_n hx hb dX11_stock_43 rfl (lv_at hl 1 rfl) ?_
        refine gx_get (D := D) (cl := gcl) (ci := 10) (v := .ref (mad s0.heap.size 7)) (C := RX11) (T := TX11) (N := 27) hx hb hts in_X11 hown hK hR.mo rfl 8 (by decide) (hts _ q894) (fun _ h9 => h9) rfl dX11_stock_44 ?_
        refine lv_iload_n hx hb dX11_stock_47 rfl (lv_at hl 2 rfl) ?_
        refine lv_iload_n hx hb dX11_stock_48 rfl (lv_at hl 3 rfl) ?_
        refine gx_iast (n := 12) hx hb hK 1 (hR.mia 7 (by decide)) rfl k (rfl) (by omega) (by decide) hL (by (try simp only [aI, aA, aT, aB, aL, mad]); omega) dX11_stock_49 (fun H locs hU hA hL => ?_)
        have hR := GRb.pMI (j := 7) (by decide) hR hU hA
        refine lv_aload_n hx hb dX11_stock_50 rfl (lv_at hl 1 rfl) ?_
        refine lv_iload_n hx hb dX11_stock_51 rfl (lv_at hl 2 rfl) ?_
        refine cc_0 (va_runV (b := s0.heap.size + 104) (As := [.int (nI k)]) (rest := []) ⟨hx, hb, hml, hown, hts⟩ (ct_X11_tell hE ⟨_, hR⟩ k hk) (cwV 1 hts (lw_V q987 q989 qs24 q61 q990) rfl rfl rfl (by decide +kernel) ⟨Nat.le_of_ble_eq_true rfl, Nat.le_of_ble_eq_true rfl⟩) (cc_pV hW0 (cc_re hK hR.mo (show gcl[10]? = _ from rfl))) rfl rfl hl.1 rfl (lv_room (Nat.le_of_ble_eq_true rfl)) dX11_stock_52 ⟨Nat.le_of_ble_eq_true rfl, Nat.le_of_ble_eq_true rfl⟩) hL (fun H locs hP1 hL => ?_)
        obtain ⟨Y, hR⟩ := hP1
        refine lv_iload_n hx hb dX11_stock_55 rfl (lv_at hl 0 rfl) ?_
        exact W.iret (v := (mI (mz M 0 0) 7 k)) hx hb hr (fun t ht hW => ⟨ovI (m_stock_0 hk (bZ_1.mp c20)).2.symm, by rw [ht]; exact (RR_M ((m_stock_0 hk (bZ_1.mp c20)).1) ⟨_, hR⟩)⟩) hL dX11_stock_56
      · exact absurd c31 (by decide)
    · refine lv_iconst (v := 2) hx hb dX11_stock_23 (by decide) ?_
      refine lv_goto (tgt := 28) hx hb dX11_stock_24 (by decide) ?_
      refine cc_v (va_runV (b := s0.heap.size + 104) (As := [.int 2]) (rest := []) ⟨hx, hb, hml, hown, hts⟩ (ct_X11_refused hE ⟨_, hR⟩ 2) (cwV 1 hts (lw_V q983 q985 qs23 q61 q986) rfl rfl rfl (by decide +kernel) ⟨Nat.le_of_ble_eq_true rfl, Nat.le_of_ble_eq_true rfl⟩) (cc_pV hW0 (cc_re hK hR.mo (show gcl[10]? = _ from rfl))) rfl rfl hl.1 rfl (lv_room (Nat.le_of_ble_eq_true rfl)) dX11_stock_28 ⟨Nat.le_of_ble_eq_true rfl, Nat.le_of_ble_eq_true rfl⟩) hL (fun H locs hP1 hL => ?_)
      obtain ⟨Y, hR⟩ := hP1
      refine lv_if_eq (tgt := 36) hx hb dX11_stock_31 (by decide) (fun c31 => ?_) (fun c31 => ?_)
      · exact absurd c31 (by decide)
      · refine lv_iconst (v := 0) hx hb dX11_stock_34 (by decide) ?_
        exact W.iret (v := 0) hx hb hr (fun t ht hW => ⟨ovI (m_stock_2 (in12_n hk) (bZ_0.mp c20)).2.symm, by rw [ht]; exact (RR_M ((m_stock_2 (in12_n hk) (bZ_0.mp c20)).1) ⟨_, hR⟩)⟩) hL dX11_stock_35
  · refine lv_iconst (v := 1) hx hb dX11_stock_8 (by decide) ?_
    refine lv_goto (tgt := 28) hx hb dX11_stock_9 (by decide) ?_
    refine cc_v (va_runV (b := s0.heap.size + 104) (As := [.int 1]) (rest := []) ⟨hx, hb, hml, hown, hts⟩ (ct_X11_refused hE ⟨_, hR⟩ 1) (cwV 1 hts (lw_V q983 q985 qs23 q61 q986) rfl rfl rfl (by decide +kernel) ⟨Nat.le_of_ble_eq_true rfl, Nat.le_of_ble_eq_true rfl⟩) (cc_pV hW0 (cc_re hK hR.mo (show gcl[10]? = _ from rfl))) rfl rfl hl.1 rfl (lv_room (Nat.le_of_ble_eq_true rfl)) dX11_stock_28 ⟨Nat.le_of_ble_eq_true rfl, Nat.le_of_ble_eq_true rfl⟩) hL (fun H locs hP1 hL => ?_)
    obtain ⟨Y, hR⟩ := hP1
    refine lv_if_eq (tgt := 36) hx hb dX11_stock_31 (by decide) (fun c31 => ?_) (fun c31 => ?_)
    · exact absurd c31 (by decide)
    · refine lv_iconst (v := 0) hx hb dX11_stock_34 (by decide) ?_
      exact W.iret (v := 0) hx hb hr (fun t ht hW => ⟨ovI (m_stock_1 (bZ_0.mp c5)).2.symm, by rw [ht]; exact (RR_M ((m_stock_1 (bZ_0.mp c5)).1) ⟨_, hR⟩)⟩) hL dX11_stock_35
set_option maxHeartbeats 4000000 in
set_option maxRecDepth 100000 in
/-- add -/
theorem ct_X11_add {l : Launch} {s0 : State} {D : va_G} {DA : Nat → ClassId} {z0 : Nat} {C : CS} {M : MS} {o : Int64} {H : Heap} (hE : G0 l s0 D DA z0) (hR : RR s0 D DA z0 C M o H) {K : Nat} (hK3 : K < 3) (i w n : Int32) (hc : mCt M K < 24) (hC : MC M) : Met l yX11_add (ws_ yX11_add cX11_add 6 (some .int)) ({ frames := 0, cells := 0, slots := 0, locals := 0 }) (cP s0 [.ref (s0.heap.size + 104), .int (nI K), .int i, .int w, .int n] H) (cQv (.int (nI (mCt M K))) (fun H1 => RR s0 D DA z0 C (m_add M K i w n) o H1)) 0 0 (cF s0) := by
  refine Met.ofW (cc := cX11_add) (maxL := 6) (ret := (some .int)) (by decide) rfl ?_
  intro p e s m args below meth c s₁ Bd hml hv
  obtain ⟨rfl, rfl, hW0⟩ := hv
  have hx := Bd.exec
  have hb := Bd.bytes
  have hr := Bd.returns
  have hts := atoms_spec (ws := (ws_ yX11_add cX11_add 6 (some .int))) Bd.pre
  have hts : ∀ w ∈ lw_all, w.before _ s = true := fun w h => hts w (List.mem_cons_of_mem _ h)
  have hown : s.vm.findClass RX11 = some m.cls := findClass_of_methodNamed Bd.named
  have hlocks := Bd.notSynchronized
  have hK := va_K.moved hW0.alike hE.K
  have hL : gx_L s0.heap.size ([] : List Loc) := gx_L0
  obtain ⟨Y, hR⟩ := hR
  have hl := lv_entry ([.ref (s0.heap.size + 104), .int (nI K), .int i, .int w, .int n]) (n := 6) (Nat.le_of_ble_eq_true rfl)
  rw [lg_entry_eq]
  generalize (lg_sl ([.ref (s0.heap.size + 104), .int (nI K), .int i, .int w, .int n]) ++ List.replicate (6 - (lg_sl ([.ref (s0.heap.size + 104), .int (nI K), .int i, .int w, .int n])).length) Slot.unset).toArray = ls at hl ⊢
  have hl : lv_has ls 6 [(0, .ref (s0.heap.size + 104)), (1, .int (nI K)), (2, .int i), (3, .int w), (4, .int n)] := hl
  refine lv_bipush (v := 24) hx hb dX11_add_0 (by decide) ?_
  refine lv_iload_n hx hb dX11_add_2 rfl (lv_at hl 1 rfl) ?_
  refine lv_imul hx hb dX11_add_3 ?_
  refine gx_ti (nI (24 * K)) (pk_mul 24 K) ?_
  refine lv_aload_n hx hb dX11_add_4 rfl (lv_at hl 0 rfl) ?_
  refine gx_get (D := D) (cl := gcl) (ci := 10) (v := .ref (mad s0.heap.size 13)) (C := RX11) (T := TX11) (N := 27) hx hb hts in_X11 hown hK hR.mo rfl 15 (by decide) (hts _ q901) (fun _ h9 => h9) rfl dX11_add_5 ?_
  refine lv_iload_n hx hb dX11_add_8 rfl (lv_at hl 1 rfl) ?_
  refine gx_iald (n := 3) hx hb hK 1 (hR.mia 13 (by decide)) rfl K (rfl) (by omega) (by decide) dX11_add_9 ?_
  refine gx_ti (nI (mCt M K)) (hC.ct hK3) ?_
  refine lv_iadd hx hb dX11_add_10 ?_
  refine gx_ti (nI (24 * K + (mCt M K))) (nI_add (24 * K) (mCt M K)) ?_
  refine lv_istore (lv' := [(5, .int (nI (24 * K + (mCt M K)))), (0, .ref (s0.heap.size + 104)), (1, .int (nI K)), (2, .int i), (3, .int w), (4, .int n)]) hx hb dX11_add_11 hl (by decide) rfl (fun ls hl => ?_)
  refine lv_aload_n hx hb dX11_add_13 rfl (lv_at hl 1 rfl) ?_
  refine gx_get (D := D) (cl := gcl) (ci := 10) (v := .ref (mad s0.heap.size 14)) (C := RX11) (T := TX11) (N := 27) hx hb hts in_X11 hown hK hR.mo rfl 16 (by decide) (hts _ q902) (fun _ h9 => h9) rfl dX11_add_14 ?_
  refine lv_iload hx hb dX11_add_17 (lv_at hl 0 rfl) ?_
  refine lv_iload_n hx hb dX11_add_19 rfl (lv_at hl 3 rfl) ?_
  refine gx_iast (n := 72) hx hb hK 1 (hR.mia 14 (by decide)) rfl (24 * K + (mCt M K)) (rfl) (by omega) (by decide) hL (by (try simp only [aI, aA, aT, aB, aL, mad]); omega) dX11_add_20 (fun H locs hU hA hL => ?_)
  have hR := GRb.pMI (j := 14) (by decide) hR hU hA
  refine lv_aload_n hx hb dX11_add_21 rfl (lv_at hl 1 rfl) ?_
  refine gx_get (D := D) (cl := gcl) (ci := 10) (v := .ref (mad s0.heap.size 15)) (C := RX11) (T := TX11) (N := 27) hx hb hts in_X11 hown hK hR.mo rfl 17 (by decide) (hts _ q903) (fun _ h9 => h9) rfl dX11_add_22 ?_
  refine lv_iload hx hb dX11_add_25 (lv_at hl 0 rfl) ?_
  refine lv_iload_n hx hb dX11_add_27 rfl (lv_at hl 4 rfl) ?_
  refine gx_iast (n := 72) hx hb hK 1 (hR.mia 15 (by decide)) rfl (24 * K + (mCt M K)) (rfl) (by omega) (by decide) hL (by (try simp only [aI, aA, aT, aB, aL, mad]); omega) dX11_add_28 (fun H locs hU hA hL => ?_)
  have hR := GRb.pMI (j := 15) (by decide) hR hU hA
  refine lv_aload_n hx hb dX11_add_29 rfl (lv_at hl 1 rfl) ?_
  refine gx_get (D := D) (cl := gcl) (ci := 10) (v := .ref (mad s0.heap.size 16)) (C := RX11) (T := TX11) (N := 27) hx hb hts in_X11 hown hK hR.mo rfl 18 (by decide) (hts _ q904) (fun _ h9 => h9) rfl dX11_add_30 ?_
  refine lv_iload hx hb dX11_add_33 (lv_at hl 0 rfl) ?_
  refine lv_iload hx hb dX11_add_35 (lv_at hl 5 rfl) ?_
  refine gx_iast (n := 72) hx hb hK 1 (hR.mia 16 (by decide)) rfl (24 * K + (mCt M K)) (rfl) (by omega) (by decide) hL (by (try simp only [aI, aA, aT, aB, aL, mad]); omega) dX11_add_37 (fun H locs hU hA hL => ?_)
  have hR := GRb.pMI (j := 16) (by decide) hR hU hA
  refine lv_aload_n hx hb dX11_add_38 rfl (lv_at hl 1 rfl) ?_
  refine gx_get (D := D) (cl := gcl) (ci := 10) (v := .ref (mad s0.heap.size 13)) (C := RX11) (T := TX11) (N := 27) hx hb hts in_X11 hown hK hR.mo rfl 15 (by decide) (hts _ q901) (fun _ h9 => h9) rfl dX11_add_39 ?_
  refine lv_iload_n hx hb dX11_add_42 rfl (lv_at hl 2 rfl) ?_
  refine lv_dup2_11 hx hb dX11_add_43 rfl rfl ?_
  refine gx_iald (n := 3) hx hb hK 1 (hR.mia 13 (by decide)) rfl K (rfl) (by omega) (by decide) dX11_add_44 ?_
  refine gx_ti (nI (mCt M K)) (hC.ct hK3) ?_
  refine lv_iconst (v := 1) hx hb dX11_add_45 (by decide) ?_
  refine lv_iadd hx hb dX11_add_46 ?_
  refine gx_ti (nI (mCt M K + 1)) (nI_add (mCt M K) 1) ?_
  refine gx_iast (n := 3) hx hb hK 1 (hR.mia 13 (by decide)) rfl K (rfl) (by omega) (by decide) hL (by (try simp only [aI, aA, aT, aB, aL, mad]); omega) dX11_add_47 (fun H locs hU hA hL => ?_)
  have hR := GRb.pMI (j := 13) (by decide) hR hU hA
  refine lv_aload_n hx hb dX11_add_48 rfl (lv_at hl 1 rfl) ?_
  refine gx_get (D := D) (cl := gcl) (ci := 10) (v := .ref (mad s0.heap.size 13)) (C := RX11) (T := TX11) (N := 27) hx hb hts in_X11 hown hK hR.mo rfl 15 (by decide) (hts _ q901) (fun _ h9 => h9) rfl dX11_add_49 ?_
  refine lv_iload_n hx hb dX11_add_52 rfl (lv_at hl 2 rfl) ?_
  refine gx_iald (n := 3) hx hb hK 1 (hR.mia 13 (by decide)) rfl K (rfl) (by omega) (by decide) dX11_add_53 ?_
  refine gx_ti (nI (mCt M K + 1)) (up2_s) ?_
  refine lv_iconst (v := 1) hx hb dX11_add_54 (by decide) ?_
  refine lv_isub hx hb dX11_add_55 ?_
  refine gx_ti (nI (mCt M K)) (nI_pred (mCt M K)) ?_
  exact W.iret (v := (nI (mCt M K))) hx hb hr (fun t ht hW => ⟨rfl, by rw [ht]; exact ⟨_, hR⟩⟩) hL dX11_add_56
set_option maxHeartbeats 4000000 in
set_option maxRecDepth 100000 in
/-- addTold -/
theorem ct_X11_addTold {l : Launch} {s0 : State} {D : va_G} {DA : Nat → ClassId} {z0 : Nat} {C : CS} {M : MS} {o : Int64} {H : Heap} (hE : G0 l s0 D DA z0) (hR : RR s0 D DA z0 C M o H) {K : Nat} (hK : K < 2) (i w n : Int32) (hC : MC M) : Met l yX11_addTold (ws_ yX11_addTold cX11_addTold 5 (some .int)) ({ frames := 2, cells := 0, slots := 0, locals := 42 }) (cP s0 [.ref (s0.heap.size + 104), .int (nI K), .int i, .int w, .int n] H) (cQv (.int (m_addTr M K i w n)) (fun H1 => RR s0 D DA z0 C (m_addT M K i w n) o H1)) 0 0 (cF s0) := by
  refine Met.ofW (cc := cX11_addTold) (maxL := 5) (ret := (some .int)) (by decide) rfl ?_
  intro p e s m args below meth c s₁ Bd hml hv
  obtain ⟨rfl, rfl, hW0⟩ := hv
  have hx := Bd.exec
  have hb := Bd.bytes
  have hr := Bd.returns
  have hts := atoms_spec (ws := (ws_ yX11_addTold cX11_addTold 5 (some .int))) Bd.pre
  have hts : ∀ w ∈ lw_all, w.before _ s = true := fun w h => hts w (List.mem_cons_of_mem _ h)
  have hown : s.vm.findClass RX11 = some m.cls := findClass_of_methodNamed Bd.named
  have hlocks := Bd.notSynchronized
  have hK := va_K.moved hW0.alike hE.K
  have hL : gx_L s0.heap.size ([] : List Loc) := gx_L0
  obtain ⟨Y, hR⟩ := hR
  have hl := lv_entry ([.ref (s0.heap.size + 104), .int (nI K), .int i, .int w, .int n]) (n := 5) (Nat.le_of_ble_eq_true rfl)
  rw [lg_entry_eq]
  generalize (lg_sl ([.ref (s0.heap.size + 104), .int (nI K), .int i, .int w, .int n]) ++ List.replicate (5 - (lg_sl ([.ref (s0.heap.size + 104), .int (nI K), .int i, .int w, .int n])).length) Slot.unset).toArray = ls at hl ⊢
  have hl : lv_has ls 5 [(0, .ref (s0.heap.size + 104)), (1, .int (nI K)), (2, .int i), (3, .int w), (4, .int n)] := hl
  refine lv_aload_n hx hb dX11_addTold_0 rfl (lv_at hl 0 rfl) ?_
  refine lv_iload_n hx hb dX11_addTold_1 rfl (lv_at hl 2 rfl) ?_
  refine cc_v (va_runS (As := [.int i]) (rest := [.ref (s0.heap.size + 104)]) ⟨hx, hb, hml, hown, hts⟩ (ct_X11_isTwelve hE i) (va_cwS 1 hts (lw_S q980 q981 q61 q982) rfl rfl rfl (by decide +kernel) ⟨Nat.le_of_ble_eq_true rfl, Nat.le_of_ble_eq_true rfl⟩) (cc_pS hW0) rfl rfl hl.1 rfl (lv_room (Nat.le_of_ble_eq_true rfl)) dX11_addTold_2 ⟨Nat.le_of_ble_eq_true rfl, Nat.le_of_ble_eq_true rfl⟩) hL (fun H locs hP1 hL => ?_)
  subst hP1
  refine lv_if_eq (tgt := 15) hx hb dX11_addTold_5 (by decide) (fun c5 => ?_) (fun c5 => ?_)
  · refine lv_iconst (v := 1) hx hb dX11_addTold_15 (by decide) ?_
    refine lv_goto (tgt := 51) hx hb dX11_addTold_16 (by decide) ?_
    refine cc_v (va_runV (b := s0.heap.size + 104) (As := [.int 1]) (rest := []) ⟨hx, hb, hml, hown, hts⟩ (ct_X11_refused hE ⟨_, hR⟩ 1) (cwV 1 hts (lw_V q983 q985 qs23 q61 q986) rfl rfl rfl (by decide +kernel) ⟨Nat.le_of_ble_eq_true rfl, Nat.le_of_ble_eq_true rfl⟩) (cc_pV hW0 (cc_re hK hR.mo (show gcl[10]? = _ from rfl))) rfl rfl hl.1 rfl (lv_room (Nat.le_of_ble_eq_true rfl)) dX11_addTold_51 ⟨Nat.le_of_ble_eq_true rfl, Nat.le_of_ble_eq_true rfl⟩) hL (fun H locs hP1 hL => ?_)
    obtain ⟨Y, hR⟩ := hP1
    refine lv_if_eq (tgt := 59) hx hb dX11_addTold_54 (by decide) (fun c54 => ?_) (fun c54 => ?_)
    · exact absurd c54 (by decide)
    · refine lv_iconst (v := 0) hx hb dX11_addTold_57 (by decide) ?_
      exact W.iret (v := 0) hx hb hr (fun t ht hW => ⟨ovI (m_addT_1 (by rw [bZ_0.mp c5]; rfl)).2.symm, by rw [ht]; exact (RR_M ((m_addT_1 (by rw [bZ_0.mp c5]; rfl)).1) ⟨_, hR⟩)⟩) hL dX11_addTold_58
  · obtain ⟨k, hk, rfl⟩ := in12_t (bZ_1.mp c5)
    refine lv_iload_n hx hb dX11_addTold_8 rfl (lv_at hl 3 rfl) ?_
    refine cc_v (va_runS (As := [.int w]) (rest := [.ref (s0.heap.size + 104)]) ⟨hx, hb, hml, hown, hts⟩ (ct_X11_isTwelve hE w) (va_cwS 1 hts (lw_S q980 q981 q61 q982) rfl rfl rfl (by decide +kernel) ⟨Nat.le_of_ble_eq_true rfl, Nat.le_of_ble_eq_true rfl⟩) (cc_pS hW0) rfl rfl hl.1 rfl (lv_room (Nat.le_of_ble_eq_true rfl)) dX11_addTold_9 ⟨Nat.le_of_ble_eq_true rfl, Nat.le_of_ble_eq_true rfl⟩) hL (fun H locs hP1 hL => ?_)
    subst hP1
    refine lv_if_ne (tgt := 19) hx hb dX11_addTold_12 (by decide) (fun c12 => ?_) (fun c12 => ?_)
    · refine lv_iload hx hb dX11_addTold_19 (lv_at hl 4 rfl) ?_
      refine lv_iconst (v := 0) hx hb dX11_addTold_21 (by decide) ?_
      refine lv_sipush (v := 1000) hx hb dX11_addTold_22 (by decide) ?_
      refine cc_v (va_runS (As := [.int n, .int 0, .int 1000]) (rest := [.ref (s0.heap.size + 104)]) ⟨hx, hb, hml, hown, hts⟩ (ct_X11_isIn hE n 0 1000) (va_cwS 3 hts (lw_S q977 q978 q61 q979) rfl rfl rfl (by decide +kernel) ⟨Nat.le_of_ble_eq_true rfl, Nat.le_of_ble_eq_true rfl⟩) (cc_pS hW0) rfl rfl hl.1 rfl (lv_room (Nat.le_of_ble_eq_true rfl)) dX11_addTold_25 ⟨Nat.le_of_ble_eq_true rfl, Nat.le_of_ble_eq_true rfl⟩) hL (fun H locs hP1 hL => ?_)
      subst hP1
      refine lv_if_ne (tgt := 35) hx hb dX11_addTold_28 (by decide) (fun c28 => ?_) (fun c28 => ?_)
      · refine lv_aload_n hx hb dX11_addTold_35 rfl (lv_at hl 0 rfl) ?_
        refine gx_get (D := D) (cl := gcl) (ci := 10) (v := .ref (mad s0.heap.size 13)) (C := RX11) (T := TX11) (N := 27) hx hb hts in_X11 hown hK hR.mo rfl 15 (by decide) (hts _ q901) (fun _ h9 => h9) rfl dX11_addTold_36 ?_
        refine lv_iload_n hx hb dX11_addTold_39 rfl (lv_at hl 1 rfl) ?_
        refine gx_iald (n := 3) hx hb hK 1 (hR.mia 13 (by decide)) rfl K (rfl) (by omega) (by decide) dX11_addTold_40 ?_
        refine lv_bipush (v := 24) hx hb dX11_addTold_41 (by decide) ?_
        refine lv_icmp_ne (tgt := 50) hx hb dX11_addTold_43 (by decide) (fun c43 => ?_) (fun c43 => ?_)
        · have hc2 : mCt M K < 24 := by have a := hC.c24 (K := K) (by omega); have b := hC.ct (K := K) (by omega); rcases Nat.lt_or_ge (mCt M K) 24 with q | q; exact q; exact absurd (by rw [b, show mCt M K = 24 by omega]; decide) c43
          refine lv_iconst (v := 0) hx hb dX11_addTold_50 (by decide) ?_
          refine cc_v (va_runV (b := s0.heap.size + 104) (As := [.int 0]) (rest := []) ⟨hx, hb, hml, hown, hts⟩ (ct_X11_refused hE ⟨_, hR⟩ 0) (cwV 1 hts (lw_V q983 q985 qs23 q61 q986) rfl rfl rfl (by decide +kernel) ⟨Nat.le_of_ble_eq_true rfl, Nat.le_of_ble_eq_true rfl⟩) (cc_pV hW0 (cc_re hK hR.mo (show gcl[10]? = _ from rfl))) rfl rfl hl.1 rfl (lv_room (Nat.le_of_ble_eq_true rfl)) dX11_addTold_51 ⟨Nat.le_of_ble_eq_true rfl, Nat.le_of_ble_eq_true rfl⟩) hL (fun H locs hP1 hL => ?_)
          obtain ⟨Y, hR⟩ := hP1
          refine lv_if_eq (tgt := 59) hx hb dX11_addTold_54 (by decide) (fun c54 => ?_) (fun c54 => ?_)
          · refine lv_aload_n hx hb dX11_addTold_59 rfl (lv_at hl 0 rfl) ?_
            refine lv_iload_n hx hb dX11_addTold_60 rfl (lv_at hl 2 rfl) ?_
            refine cc_0 (va_runV (b := s0.heap.size + 104) (As := [.int (nI k)]) (rest := []) ⟨hx, hb, hml, hown, hts⟩ (ct_X11_tell hE ⟨_, hR⟩ k hk) (cwV 1 hts (lw_V q987 q989 qs24 q61 q990) rfl rfl rfl (by decide +kernel) ⟨Nat.le_of_ble_eq_true rfl, Nat.le_of_ble_eq_true rfl⟩) (cc_pV hW0 (cc_re hK hR.mo (show gcl[10]? = _ from rfl))) rfl rfl hl.1 rfl (lv_room (Nat.le_of_ble_eq_true rfl)) dX11_addTold_61 ⟨Nat.le_of_ble_eq_true rfl, Nat.le_of_ble_eq_true rfl⟩) hL (fun H locs hP1 hL => ?_)
            obtain ⟨Y, hR⟩ := hP1
            refine lv_aload_n hx hb dX11_addTold_64 rfl (lv_at hl 0 rfl) ?_
            refine lv_iload_n hx hb dX11_addTold_65 rfl (lv_at hl 1 rfl) ?_
            refine lv_iload_n hx hb dX11_addTold_66 rfl (lv_at hl 2 rfl) ?_
            refine lv_iload_n hx hb dX11_addTold_67 rfl (lv_at hl 3 rfl) ?_
            refine lv_iload hx hb dX11_addTold_68 (lv_at hl 4 rfl) ?_
            refine cc_v (va_runV (b := s0.heap.size + 104) (As := [.int (nI K), .int (nI k), .int w, .int n]) (rest := []) ⟨hx, hb, hml, hown, hts⟩ (ct_X11_add (K := K) hE ⟨_, hR⟩ (by omega) (nI k) w n hc2 (hC.of2 (by rfl) (by rfl) (by rfl) (by rfl) (by rfl))) (cwV 4 hts (lw_V q1028 q1030 qs29 q61 q1031) rfl rfl rfl (by decide +kernel) ⟨Nat.le_of_ble_eq_true rfl, Nat.le_of_ble_eq_true rfl⟩) (cc_pV hW0 (cc_re hK hR.mo (show gcl[10]? = _ from rfl))) rfl rfl hl.1 rfl (lv_room (Nat.le_of_ble_eq_true rfl)) dX11_addTold_70 ⟨Nat.le_of_ble_eq_true rfl, Nat.le_of_ble_eq_true rfl⟩) hL (fun H locs hP1 hL => ?_)
            obtain ⟨Y, hR⟩ := hP1
            exact W.iret (v := (nI (mCt M K))) hx hb hr (fun t ht hW => ⟨ovI ((hC.ct (K := K) (by omega)).symm.trans (m_addT_0 hk (bZ_1.mp c12) (bZ_1.mp c28) c43).2.symm), by rw [ht]; exact (RR_M ((m_addT_0 hk (bZ_1.mp c12) (bZ_1.mp c28) c43).1) ⟨_, hR⟩)⟩) hL dX11_addTold_73
          · exact absurd c54 (by decide)
        · refine lv_iconst (v := 3) hx hb dX11_addTold_46 (by decide) ?_
          refine lv_goto (tgt := 51) hx hb dX11_addTold_47 (by decide) ?_
          refine cc_v (va_runV (b := s0.heap.size + 104) (As := [.int 3]) (rest := []) ⟨hx, hb, hml, hown, hts⟩ (ct_X11_refused hE ⟨_, hR⟩ 3) (cwV 1 hts (lw_V q983 q985 qs23 q61 q986) rfl rfl rfl (by decide +kernel) ⟨Nat.le_of_ble_eq_true rfl, Nat.le_of_ble_eq_true rfl⟩) (cc_pV hW0 (cc_re hK hR.mo (show gcl[10]? = _ from rfl))) rfl rfl hl.1 rfl (lv_room (Nat.le_of_ble_eq_true rfl)) dX11_addTold_51 ⟨Nat.le_of_ble_eq_true rfl, Nat.le_of_ble_eq_true rfl⟩) hL (fun H locs hP1 hL => ?_)
          obtain ⟨Y, hR⟩ := hP1
          refine lv_if_eq (tgt := 59) hx hb dX11_addTold_54 (by decide) (fun c54 => ?_) (fun c54 => ?_)
          · exact absurd c54 (by decide)
          · refine lv_iconst (v := 0) hx hb dX11_addTold_57 (by decide) ?_
            exact W.iret (v := 0) hx hb hr (fun t ht hW => ⟨ovI (m_addT_3 (by rw [in12_n hk, bZ_1.mp c12]; rfl) (bZ_1.mp c28) c43).2.symm, by rw [ht]; exact (RR_M ((m_addT_3 (by rw [in12_n hk, bZ_1.mp c12]; rfl) (bZ_1.mp c28) c43).1) ⟨_, hR⟩)⟩) hL dX11_addTold_58
      · refine lv_iconst (v := 2) hx hb dX11_addTold_31 (by decide) ?_
        refine lv_goto (tgt := 51) hx hb dX11_addTold_32 (by decide) ?_
        refine cc_v (va_runV (b := s0.heap.size + 104) (As := [.int 2]) (rest := []) ⟨hx, hb, hml, hown, hts⟩ (ct_X11_refused hE ⟨_, hR⟩ 2) (cwV 1 hts (lw_V q983 q985 qs23 q61 q986) rfl rfl rfl (by decide +kernel) ⟨Nat.le_of_ble_eq_true rfl, Nat.le_of_ble_eq_true rfl⟩) (cc_pV hW0 (cc_re hK hR.mo (show gcl[10]? = _ from rfl))) rfl rfl hl.1 rfl (lv_room (Nat.le_of_ble_eq_true rfl)) dX11_addTold_51 ⟨Nat.le_of_ble_eq_true rfl, Nat.le_of_ble_eq_true rfl⟩) hL (fun H locs hP1 hL => ?_)
        obtain ⟨Y, hR⟩ := hP1
        refine lv_if_eq (tgt := 59) hx hb dX11_addTold_54 (by decide) (fun c54 => ?_) (fun c54 => ?_)
        · exact absurd c54 (by decide)
        · refine lv_iconst (v := 0) hx hb dX11_addTold_57 (by decide) ?_
          exact W.iret (v := 0) hx hb hr (fun t ht hW => ⟨ovI (m_addT_2 (by rw [in12_n hk, bZ_1.mp c12]; rfl) (bZ_0.mp c28)).2.symm, by rw [ht]; exact (RR_M ((m_addT_2 (by rw [in12_n hk, bZ_1.mp c12]; rfl) (bZ_0.mp c28)).1) ⟨_, hR⟩)⟩) hL dX11_addTold_58
    · refine lv_iconst (v := 1) hx hb dX11_addTold_15 (by decide) ?_
      refine lv_goto (tgt := 51) hx hb dX11_addTold_16 (by decide) ?_
      refine cc_v (va_runV (b := s0.heap.size + 104) (As := [.int 1]) (rest := []) ⟨hx, hb, hml, hown, hts⟩ (ct_X11_refused hE ⟨_, hR⟩ 1) (cwV 1 hts (lw_V q983 q985 qs23 q61 q986) rfl rfl rfl (by decide +kernel) ⟨Nat.le_of_ble_eq_true rfl, Nat.le_of_ble_eq_true rfl⟩) (cc_pV hW0 (cc_re hK hR.mo (show gcl[10]? = _ from rfl))) rfl rfl hl.1 rfl (lv_room (Nat.le_of_ble_eq_true rfl)) dX11_addTold_51 ⟨Nat.le_of_ble_eq_true rfl, Nat.le_of_ble_eq_true rfl⟩) hL (fun H locs hP1 hL => ?_)
      obtain ⟨Y, hR⟩ := hP1
      refine lv_if_eq (tgt := 59) hx hb dX11_addTold_54 (by decide) (fun c54 => ?_) (fun c54 => ?_)
      · exact absurd c54 (by decide)
      · refine lv_iconst (v := 0) hx hb dX11_addTold_57 (by decide) ?_
        exact W.iret (v := 0) hx hb hr (fun t ht hW => ⟨ovI (m_addT_1 (by rw [bZ_0.mp c12, Bool.and_false])).2.symm, by rw [ht]; exact (RR_M ((m_addT_1 (by rw [bZ_0.mp c12, Bool.and_false])).1) ⟨_, hR⟩)⟩) hL dX11_addTold_58
set_option maxHeartbeats 4000000 in
set_option maxRecDepth 100000 in
/-- demand -/
theorem ct_X11_demand {l : Launch} {s0 : State} {D : va_G} {DA : Nat → ClassId} {z0 : Nat} {C : CS} {M : MS} {o : Int64} {H : Heap} (hE : G0 l s0 D DA z0) (hR : RR s0 D DA z0 C M o H) (i w n : Int32) (hC : MC M) : Met l yX11_demand (ws_ yX11_demand cX11_demand 4 (some .int)) ({ frames := 3, cells := 0, slots := 0, locals := 66 }) (cP s0 [.ref (s0.heap.size + 104), .int i, .int w, .int n] H) (cQv (.int (m_addTr M 0 i w n)) (fun H1 => RR s0 D DA z0 C (m_addT M 0 i w n) o H1)) 0 0 (cF s0) := by
  refine Met.ofW (cc := cX11_demand) (maxL := 4) (ret := (some .int)) (by decide) rfl ?_
  intro p e s m args below meth c s₁ Bd hml hv
  obtain ⟨rfl, rfl, hW0⟩ := hv
  have hx := Bd.exec
  have hb := Bd.bytes
  have hr := Bd.returns
  have hts := atoms_spec (ws := (ws_ yX11_demand cX11_demand 4 (some .int))) Bd.pre
  have hts : ∀ w ∈ lw_all, w.before _ s = true := fun w h => hts w (List.mem_cons_of_mem _ h)
  have hown : s.vm.findClass RX11 = some m.cls := findClass_of_methodNamed Bd.named
  have hlocks := Bd.notSynchronized
  have hK := va_K.moved hW0.alike hE.K
  have hL : gx_L s0.heap.size ([] : List Loc) := gx_L0
  obtain ⟨Y, hR⟩ := hR
  have hl := lv_entry ([.ref (s0.heap.size + 104), .int i, .int w, .int n]) (n := 4) (Nat.le_of_ble_eq_true rfl)
  rw [lg_entry_eq]
  generalize (lg_sl ([.ref (s0.heap.size + 104), .int i, .int w, .int n]) ++ List.replicate (4 - (lg_sl ([.ref (s0.heap.size + 104), .int i, .int w, .int n])).length) Slot.unset).toArray = ls at hl ⊢
  have hl : lv_has ls 4 [(0, .ref (s0.heap.size + 104)), (1, .int i), (2, .int w), (3, .int n)] := hl
  refine lv_aload_n hx hb dX11_demand_0 rfl (lv_at hl 0 rfl) ?_
  refine lv_iconst (v := 0) hx hb dX11_demand_1 (by decide) ?_
  refine gx_ti (nI 0) (by decide) ?_
  refine lv_iload_n hx hb dX11_demand_2 rfl (lv_at hl 1 rfl) ?_
  refine lv_iload_n hx hb dX11_demand_3 rfl (lv_at hl 2 rfl) ?_
  refine lv_iload_n hx hb dX11_demand_4 rfl (lv_at hl 3 rfl) ?_
  refine cc_v (va_runV (b := s0.heap.size + 104) (As := [.int (nI 0), .int i, .int w, .int n]) (rest := []) ⟨hx, hb, hml, hown, hts⟩ (ct_X11_addTold (K := 0) hE ⟨_, hR⟩ (by decide) i w n hC) (cwV 4 hts (lw_V q1024 q1026 qs28 q61 q1027) rfl rfl rfl (by decide +kernel) ⟨Nat.le_of_ble_eq_true rfl, Nat.le_of_ble_eq_true rfl⟩) (cc_pV hW0 (cc_re hK hR.mo (show gcl[10]? = _ from rfl))) rfl rfl hl.1 rfl (lv_room (Nat.le_of_ble_eq_true rfl)) dX11_demand_5 ⟨Nat.le_of_ble_eq_true rfl, Nat.le_of_ble_eq_true rfl⟩) hL (fun H locs hP1 hL => ?_)
  obtain ⟨Y, hR⟩ := hP1
  exact W.iret (v := (m_addTr M 0 i w n)) hx hb hr (fun t ht hW => ⟨rfl, by rw [ht]; exact ⟨_, hR⟩⟩) hL dX11_demand_8
set_option maxHeartbeats 4000000 in
set_option maxRecDepth 100000 in
/-- order -/
theorem ct_X11_order {l : Launch} {s0 : State} {D : va_G} {DA : Nat → ClassId} {z0 : Nat} {C : CS} {M : MS} {o : Int64} {H : Heap} (hE : G0 l s0 D DA z0) (hR : RR s0 D DA z0 C M o H) (i w n : Int32) (hC : MC M) : Met l yX11_order (ws_ yX11_order cX11_order 4 (some .int)) ({ frames := 3, cells := 0, slots := 0, locals := 66 }) (cP s0 [.ref (s0.heap.size + 104), .int i, .int w, .int n] H) (cQv (.int (m_addTr M 1 i w n)) (fun H1 => RR s0 D DA z0 C (m_addT M 1 i w n) o H1)) 0 0 (cF s0) := by
  refine Met.ofW (cc := cX11_order) (maxL := 4) (ret := (some .int)) (by decide) rfl ?_
  intro p e s m args below meth c s₁ Bd hml hv
  obtain ⟨rfl, rfl, hW0⟩ := hv
  have hx := Bd.exec
  have hb := Bd.bytes
  have hr := Bd.returns
  have hts := atoms_spec (ws := (ws_ yX11_order cX11_order 4 (some .int))) Bd.pre
  have hts : ∀ w ∈ lw_all, w.before _ s = true := fun w h => hts w (List.mem_cons_of_mem _ h)
  have hown : s.vm.findClass RX11 = some m.cls := findClass_of_methodNamed Bd.named
  have hlocks := Bd.notSynchronized
  have hK := va_K.moved hW0.alike hE.K
  have hL : gx_L s0.heap.size ([] : List Loc) := gx_L0
  obtain ⟨Y, hR⟩ := hR
  have hl := lv_entry ([.ref (s0.heap.size + 104), .int i, .int w, .int n]) (n := 4) (Nat.le_of_ble_eq_true rfl)
  rw [lg_entry_eq]
  generalize (lg_sl ([.ref (s0.heap.size + 104), .int i, .int w, .int n]) ++ List.replicate (4 - (lg_sl ([.ref (s0.heap.size + 104), .int i, .int w, .int n])).length) Slot.unset).toArray = ls at hl ⊢
  have hl : lv_has ls 4 [(0, .ref (s0.heap.size + 104)), (1, .int i), (2, .int w), (3, .int n)] := hl
  refine lv_aload_n hx hb dX11_order_0 rfl (lv_at hl 0 rfl) ?_
  refine lv_iconst (v := 1) hx hb dX11_order_1 (by decide) ?_
  refine gx_ti (nI 1) (by decide) ?_
  refine lv_iload_n hx hb dX11_order_2 rfl (lv_at hl 1 rfl) ?_
  refine lv_iload_n hx hb dX11_order_3 rfl (lv_at hl 2 rfl) ?_
  refine lv_iload_n hx hb dX11_order_4 rfl (lv_at hl 3 rfl) ?_
  refine cc_v (va_runV (b := s0.heap.size + 104) (As := [.int (nI 1), .int i, .int w, .int n]) (rest := []) ⟨hx, hb, hml, hown, hts⟩ (ct_X11_addTold (K := 1) hE ⟨_, hR⟩ (by decide) i w n hC) (cwV 4 hts (lw_V q1024 q1026 qs28 q61 q1027) rfl rfl rfl (by decide +kernel) ⟨Nat.le_of_ble_eq_true rfl, Nat.le_of_ble_eq_true rfl⟩) (cc_pV hW0 (cc_re hK hR.mo (show gcl[10]? = _ from rfl))) rfl rfl hl.1 rfl (lv_room (Nat.le_of_ble_eq_true rfl)) dX11_order_5 ⟨Nat.le_of_ble_eq_true rfl, Nat.le_of_ble_eq_true rfl⟩) hL (fun H locs hP1 hL => ?_)
  obtain ⟨Y, hR⟩ := hP1
  exact W.iret (v := (m_addTr M 1 i w n)) hx hb hr (fun t ht hW => ⟨rfl, by rw [ht]; exact ⟨_, hR⟩⟩) hL dX11_order_8
set_option maxHeartbeats 4000000 in
set_option maxRecDepth 100000 in
/-- change -/
theorem ct_X11_change {l : Launch} {s0 : State} {D : va_G} {DA : Nat → ClassId} {z0 : Nat} {C : CS} {M : MS} {o : Int64} {H : Heap} (hE : G0 l s0 D DA z0) (hR : RR s0 D DA z0 C M o H) (kd nu n : Int32) (hC : MC M) : Met l yX11_change (ws_ yX11_change cX11_change 7 (some .int)) ({ frames := 1, cells := 0, slots := 0, locals := 22 }) (cP s0 [.ref (s0.heap.size + 104), .int kd, .int nu, .int n] H) (cQv (.int (m_changer M kd nu n)) (fun H1 => RR s0 D DA z0 C (m_change M kd nu n) o H1)) 0 0 (cF s0) := by
  refine Met.ofW (cc := cX11_change) (maxL := 7) (ret := (some .int)) (by decide) rfl ?_
  intro p e s m args below meth c s₁ Bd hml hv
  obtain ⟨rfl, rfl, hW0⟩ := hv
  have hx := Bd.exec
  have hb := Bd.bytes
  have hr := Bd.returns
  have hts := atoms_spec (ws := (ws_ yX11_change cX11_change 7 (some .int))) Bd.pre
  have hts : ∀ w ∈ lw_all, w.before _ s = true := fun w h => hts w (List.mem_cons_of_mem _ h)
  have hown : s.vm.findClass RX11 = some m.cls := findClass_of_methodNamed Bd.named
  have hlocks := Bd.notSynchronized
  have hK := va_K.moved hW0.alike hE.K
  have hL : gx_L s0.heap.size ([] : List Loc) := gx_L0
  obtain ⟨Y, hR⟩ := hR
  have hl := lv_entry ([.ref (s0.heap.size + 104), .int kd, .int nu, .int n]) (n := 7) (Nat.le_of_ble_eq_true rfl)
  rw [lg_entry_eq]
  generalize (lg_sl ([.ref (s0.heap.size + 104), .int kd, .int nu, .int n]) ++ List.replicate (7 - (lg_sl ([.ref (s0.heap.size + 104), .int kd, .int nu, .int n])).length) Slot.unset).toArray = ls at hl ⊢
  have hl : lv_has ls 7 [(0, .ref (s0.heap.size + 104)), (1, .int kd), (2, .int nu), (3, .int n)] := hl
  refine lv_iload_n hx hb dX11_change_0 rfl (lv_at hl 1 rfl) ?_
  refine lv_if_eq (tgt := 9) hx hb dX11_change_1 (by decide) (fun c1 => ?_) (fun c1 => ?_)
  · obtain rfl : kd = nI 0 := c1.trans (by decide)
    refine lv_iconst (v := 1) hx hb dX11_change_9 (by decide) ?_
    refine lv_goto (tgt := 14) hx hb dX11_change_10 (by decide) ?_
    refine lv_istore (lv' := [(4, .int 1), (0, .ref (s0.heap.size + 104)), (1, .int (nI 0)), (2, .int nu), (3, .int n)]) hx hb dX11_change_14 hl (by decide) rfl (fun ls hl => ?_)
    refine lv_aload_n hx hb dX11_change_16 rfl (lv_at hl 1 rfl) ?_
    refine lv_iload hx hb dX11_change_17 (lv_at hl 0 rfl) ?_
    refine lv_if_ne (tgt := 26) hx hb dX11_change_19 (by decide) (fun c19 => ?_) (fun c19 => ?_)
    · refine lv_iload_n hx hb dX11_change_26 rfl (lv_at hl 3 rfl) ?_
      refine lv_iconst (v := 0) hx hb dX11_change_27 (by decide) ?_
      refine lv_aload_n hx hb dX11_change_28 rfl (lv_at hl 1 rfl) ?_
      refine gx_get (D := D) (cl := gcl) (ci := 10) (v := .ref (mad s0.heap.size 13)) (C := RX11) (T := TX11) (N := 27) hx hb hts in_X11 hown hK hR.mo rfl 15 (by decide) (hts _ q901) (fun _ h9 => h9) rfl dX11_change_29 ?_
      refine lv_iload_n hx hb dX11_change_32 rfl (lv_at hl 2 rfl) ?_
      refine gx_iald (n := 3) hx hb hK 1 (hR.mia 13 (by decide)) rfl 0 (by decide) (by decide) (by decide) dX11_change_33 ?_
      refine lv_iconst (v := 1) hx hb dX11_change_34 (by decide) ?_
      refine lv_isub hx hb dX11_change_35 ?_
      refine cc_v (va_runS (As := [.int nu, .int 0, .int ((mI M 13 0) - 1)]) (rest := [.ref (s0.heap.size + 104)]) ⟨hx, hb, hml, hown, hts⟩ (ct_X11_isIn hE nu 0 ((mI M 13 0) - 1)) (va_cwS 3 hts (lw_S q977 q978 q61 q979) rfl rfl rfl (by decide +kernel) ⟨Nat.le_of_ble_eq_true rfl, Nat.le_of_ble_eq_true rfl⟩) (cc_pS hW0) rfl rfl hl.1 rfl (lv_room (Nat.le_of_ble_eq_true rfl)) dX11_change_36 ⟨Nat.le_of_ble_eq_true rfl, Nat.le_of_ble_eq_true rfl⟩) hL (fun H locs hP1 hL => ?_)
      subst hP1
      refine lv_if_ne (tgt := 46) hx hb dX11_change_39 (by decide) (fun c39 => ?_) (fun c39 => ?_)
      · have h9 := bZ_1.mp c39
        rw [hC.ct (K := 0) (by decide)] at h9
        have c24 := hC.c24 (K := 0) (by decide)
        obtain ⟨u, hu, rfl⟩ := inR_in (by omega) h9
        refine lv_iload_n hx hb dX11_change_46 rfl (lv_at hl 4 rfl) ?_
        refine lv_iconst (v := 0) hx hb dX11_change_47 (by decide) ?_
        refine lv_sipush (v := 1000) hx hb dX11_change_48 (by decide) ?_
        refine cc_v (va_runS (As := [.int n, .int 0, .int 1000]) (rest := [.ref (s0.heap.size + 104)]) ⟨hx, hb, hml, hown, hts⟩ (ct_X11_isIn hE n 0 1000) (va_cwS 3 hts (lw_S q977 q978 q61 q979) rfl rfl rfl (by decide +kernel) ⟨Nat.le_of_ble_eq_true rfl, Nat.le_of_ble_eq_true rfl⟩) (cc_pS hW0) rfl rfl hl.1 rfl (lv_room (Nat.le_of_ble_eq_true rfl)) dX11_change_51 ⟨Nat.le_of_ble_eq_true rfl, Nat.le_of_ble_eq_true rfl⟩) hL (fun H locs hP1 hL => ?_)
        subst hP1
        refine lv_if_ne (tgt := 61) hx hb dX11_change_54 (by decide) (fun c54 => ?_) (fun c54 => ?_)
        · obtain ⟨a, ha, ea⟩ := (hC.2.2.2 0 (by decide) u hu).1
          refine lv_iconst (v := 0) hx hb dX11_change_61 (by decide) ?_
          refine cc_v (va_runV (b := s0.heap.size + 104) (As := [.int 0]) (rest := []) ⟨hx, hb, hml, hown, hts⟩ (ct_X11_refused hE ⟨_, hR⟩ 0) (cwV 1 hts (lw_V q983 q985 qs23 q61 q986) rfl rfl rfl (by decide +kernel) ⟨Nat.le_of_ble_eq_true rfl, Nat.le_of_ble_eq_true rfl⟩) (cc_pV hW0 (cc_re hK hR.mo (show gcl[10]? = _ from rfl))) rfl rfl hl.1 rfl (lv_room (Nat.le_of_ble_eq_true rfl)) dX11_change_62 ⟨Nat.le_of_ble_eq_true rfl, Nat.le_of_ble_eq_true rfl⟩) hL (fun H locs hP1 hL => ?_)
          obtain ⟨Y, hR⟩ := hP1
          refine lv_if_eq (tgt := 70) hx hb dX11_change_65 (by decide) (fun c65 => ?_) (fun c65 => ?_)
          · refine lv_bipush (v := 24) hx hb dX11_change_70 (by decide) ?_
            refine lv_iload_n hx hb dX11_change_72 rfl (lv_at hl 2 rfl) ?_
            refine lv_imul hx hb dX11_change_73 ?_
            refine gx_ti (nI 0) (pk_mul 24 0) ?_
            refine lv_iload_n hx hb dX11_change_74 rfl (lv_at hl 3 rfl) ?_
            refine lv_iadd hx hb dX11_change_75 ?_
            refine gx_ti (nI (24 * 0 + u)) (nI_add (24 * 0) u) ?_
            refine lv_istore (lv' := [(5, .int (nI (24 * 0 + u))), (4, .int 1), (0, .ref (s0.heap.size + 104)), (1, .int (nI 0)), (2, .int (nI u)), (3, .int n)]) hx hb dX11_change_76 hl (by decide) rfl (fun ls hl => ?_)
            refine lv_aload_n hx hb dX11_change_78 rfl (lv_at hl 2 rfl) ?_
            refine gx_get (D := D) (cl := gcl) (ci := 10) (v := .ref (mad s0.heap.size 16)) (C := RX11) (T := TX11) (N := 27) hx hb hts in_X11 hown hK hR.mo rfl 18 (by decide) (hts _ q904) (fun _ h9 => h9) rfl dX11_change_79 ?_
            refine lv_iload hx hb dX11_change_82 (lv_at hl 0 rfl) ?_
            refine gx_iald (n := 72) hx hb hK 1 (hR.mia 16 (by decide)) rfl (24 * 0 + u) (rfl) (by omega) (by decide) dX11_change_84 ?_
            refine lv_istore (lv' := [(6, .int (mI (mz M 0 0) 16 (24 * 0 + u))), (5, .int (nI (24 * 0 + u))), (4, .int 1), (0, .ref (s0.heap.size + 104)), (1, .int (nI 0)), (2, .int (nI u)), (3, .int n)]) hx hb dX11_change_85 hl (by decide) rfl (fun ls hl => ?_)
            refine lv_aload_n hx hb dX11_change_87 rfl (lv_at hl 3 rfl) ?_
            refine gx_get (D := D) (cl := gcl) (ci := 10) (v := .ref (mad s0.heap.size 16)) (C := RX11) (T := TX11) (N := 27) hx hb hts in_X11 hown hK hR.mo rfl 18 (by decide) (hts _ q904) (fun _ h9 => h9) rfl dX11_change_88 ?_
            refine lv_iload hx hb dX11_change_91 (lv_at hl 1 rfl) ?_
            refine lv_iload_n hx hb dX11_change_93 rfl (lv_at hl 6 rfl) ?_
            refine gx_iast (n := 72) hx hb hK 1 (hR.mia 16 (by decide)) rfl (24 * 0 + u) (rfl) (by omega) (by decide) hL (by (try simp only [aI, aA, aT, aB, aL, mad]); omega) dX11_change_94 (fun H locs hU hA hL => ?_)
            have hR := GRb.pMI (j := 16) (by decide) hR hU hA
            refine lv_aload_n hx hb dX11_change_95 rfl (lv_at hl 3 rfl) ?_
            refine lv_aload_n hx hb dX11_change_96 rfl (lv_at hl 3 rfl) ?_
            refine gx_get (D := D) (cl := gcl) (ci := 10) (v := .ref (mad s0.heap.size 14)) (C := RX11) (T := TX11) (N := 27) hx hb hts in_X11 hown hK hR.mo rfl 16 (by decide) (hts _ q902) (fun _ h9 => h9) rfl dX11_change_97 ?_
            refine lv_iload hx hb dX11_change_100 (lv_at hl 1 rfl) ?_
            refine gx_iald (n := 72) hx hb hK 1 (hR.mia 14 (by decide)) rfl (24 * 0 + u) (rfl) (by omega) (by decide) dX11_change_102 ?_
            refine gx_ti (nI a) (ea) ?_
            refine cc_0 (va_runV (b := s0.heap.size + 104) (As := [.int (nI a)]) (rest := []) ⟨hx, hb, hml, hown, hts⟩ (ct_X11_tell hE ⟨_, hR⟩ a ha) (cwV 1 hts (lw_V q987 q989 qs24 q61 q990) rfl rfl rfl (by decide +kernel) ⟨Nat.le_of_ble_eq_true rfl, Nat.le_of_ble_eq_true rfl⟩) (cc_pV hW0 (cc_re hK hR.mo (show gcl[10]? = _ from rfl))) rfl rfl hl.1 rfl (lv_room (Nat.le_of_ble_eq_true rfl)) dX11_change_103 ⟨Nat.le_of_ble_eq_true rfl, Nat.le_of_ble_eq_true rfl⟩) hL (fun H locs hP1 hL => ?_)
            obtain ⟨Y, hR⟩ := hP1
            refine lv_iload hx hb dX11_change_106 (lv_at hl 0 rfl) ?_
            exact W.iret (v := (mI (mz M 0 0) 16 (24 * 0 + u))) hx hb hr (fun t ht hW => ⟨ovI (m_change_0 (K := 0) (by decide) hu hC (bZ_1.mp c54) ha ea).2.symm, by rw [ht]; exact (RR_M ((m_change_0 (K := 0) (by decide) hu hC (bZ_1.mp c54) ha ea).1) ⟨_, hR⟩)⟩) hL dX11_change_108
          · exact absurd c65 (by decide)
        · refine lv_iconst (v := 1) hx hb dX11_change_57 (by decide) ?_
          refine lv_goto (tgt := 62) hx hb dX11_change_58 (by decide) ?_
          refine cc_v (va_runV (b := s0.heap.size + 104) (As := [.int 1]) (rest := []) ⟨hx, hb, hml, hown, hts⟩ (ct_X11_refused hE ⟨_, hR⟩ 1) (cwV 1 hts (lw_V q983 q985 qs23 q61 q986) rfl rfl rfl (by decide +kernel) ⟨Nat.le_of_ble_eq_true rfl, Nat.le_of_ble_eq_true rfl⟩) (cc_pV hW0 (cc_re hK hR.mo (show gcl[10]? = _ from rfl))) rfl rfl hl.1 rfl (lv_room (Nat.le_of_ble_eq_true rfl)) dX11_change_62 ⟨Nat.le_of_ble_eq_true rfl, Nat.le_of_ble_eq_true rfl⟩) hL (fun H locs hP1 hL => ?_)
          obtain ⟨Y, hR⟩ := hP1
          refine lv_if_eq (tgt := 70) hx hb dX11_change_65 (by decide) (fun c65 => ?_) (fun c65 => ?_)
          · exact absurd c65 (by decide)
          · refine lv_iconst (v := 0) hx hb dX11_change_68 (by decide) ?_
            exact W.iret (v := 0) hx hb hr (fun t ht hW => ⟨ovI (m_change_3 (K := 0) (by decide) (bZ_1.mp c39) (bZ_0.mp c54)).2.symm, by rw [ht]; exact (RR_M ((m_change_3 (K := 0) (by decide) (bZ_1.mp c39) (bZ_0.mp c54)).1) ⟨_, hR⟩)⟩) hL dX11_change_69
      · refine lv_iconst (v := 2) hx hb dX11_change_42 (by decide) ?_
        refine lv_goto (tgt := 62) hx hb dX11_change_43 (by decide) ?_
        refine cc_v (va_runV (b := s0.heap.size + 104) (As := [.int 2]) (rest := []) ⟨hx, hb, hml, hown, hts⟩ (ct_X11_refused hE ⟨_, hR⟩ 2) (cwV 1 hts (lw_V q983 q985 qs23 q61 q986) rfl rfl rfl (by decide +kernel) ⟨Nat.le_of_ble_eq_true rfl, Nat.le_of_ble_eq_true rfl⟩) (cc_pV hW0 (cc_re hK hR.mo (show gcl[10]? = _ from rfl))) rfl rfl hl.1 rfl (lv_room (Nat.le_of_ble_eq_true rfl)) dX11_change_62 ⟨Nat.le_of_ble_eq_true rfl, Nat.le_of_ble_eq_true rfl⟩) hL (fun H locs hP1 hL => ?_)
        obtain ⟨Y, hR⟩ := hP1
        refine lv_if_eq (tgt := 70) hx hb dX11_change_65 (by decide) (fun c65 => ?_) (fun c65 => ?_)
        · exact absurd c65 (by decide)
        · refine lv_iconst (v := 0) hx hb dX11_change_68 (by decide) ?_
          exact W.iret (v := 0) hx hb hr (fun t ht hW => ⟨ovI (m_change_2 (K := 0) (by decide) (bZ_0.mp c39)).2.symm, by rw [ht]; exact (RR_M ((m_change_2 (K := 0) (by decide) (bZ_0.mp c39)).1) ⟨_, hR⟩)⟩) hL dX11_change_69
    · exact absurd c19 (by decide)
  · refine lv_iload_n hx hb dX11_change_4 rfl (lv_at hl 1 rfl) ?_
    refine lv_iconst (v := 1) hx hb dX11_change_5 (by decide) ?_
    refine lv_icmp_ne (tgt := 13) hx hb dX11_change_6 (by decide) (fun c6 => ?_) (fun c6 => ?_)
    · refine lv_iconst (v := 0) hx hb dX11_change_13 (by decide) ?_
      refine lv_istore (lv' := [(4, .int 0), (0, .ref (s0.heap.size + 104)), (1, .int kd), (2, .int nu), (3, .int n)]) hx hb dX11_change_14 hl (by decide) rfl (fun ls hl => ?_)
      refine lv_aload_n hx hb dX11_change_16 rfl (lv_at hl 1 rfl) ?_
      refine lv_iload hx hb dX11_change_17 (lv_at hl 0 rfl) ?_
      refine lv_if_ne (tgt := 26) hx hb dX11_change_19 (by decide) (fun c19 => ?_) (fun c19 => ?_)
      · exact absurd c19 (by decide)
      · refine lv_iconst (v := 1) hx hb dX11_change_22 (by decide) ?_
        refine lv_goto (tgt := 62) hx hb dX11_change_23 (by decide) ?_
        refine cc_v (va_runV (b := s0.heap.size + 104) (As := [.int 1]) (rest := []) ⟨hx, hb, hml, hown, hts⟩ (ct_X11_refused hE ⟨_, hR⟩ 1) (cwV 1 hts (lw_V q983 q985 qs23 q61 q986) rfl rfl rfl (by decide +kernel) ⟨Nat.le_of_ble_eq_true rfl, Nat.le_of_ble_eq_true rfl⟩) (cc_pV hW0 (cc_re hK hR.mo (show gcl[10]? = _ from rfl))) rfl rfl hl.1 rfl (lv_room (Nat.le_of_ble_eq_true rfl)) dX11_change_62 ⟨Nat.le_of_ble_eq_true rfl, Nat.le_of_ble_eq_true rfl⟩) hL (fun H locs hP1 hL => ?_)
        obtain ⟨Y, hR⟩ := hP1
        refine lv_if_eq (tgt := 70) hx hb dX11_change_65 (by decide) (fun c65 => ?_) (fun c65 => ?_)
        · exact absurd c65 (by decide)
        · refine lv_iconst (v := 0) hx hb dX11_change_68 (by decide) ?_
          exact W.iret (v := 0) hx hb hr (fun t ht hW => ⟨ovI (m_change_1 (fun q => q.elim c1 c6)).2.symm, by rw [ht]; exact (RR_M ((m_change_1 (fun q => q.elim c1 c6)).1) ⟨_, hR⟩)⟩) hL dX11_change_69
    · obtain rfl : kd = nI 1 := c6.trans (by decide)
      refine lv_iconst (v := 1) hx hb dX11_change_9 (by decide) ?_
      refine lv_goto (tgt := 14) hx hb dX11_change_10 (by decide) ?_
      refine lv_istore (lv' := [(4, .int 1), (0, .ref (s0.heap.size + 104)), (1, .int (nI 1)), (2, .int nu), (3, .int n)]) hx hb dX11_change_14 hl (by decide) rfl (fun ls hl => ?_)
      refine lv_aload_n hx hb dX11_change_16 rfl (lv_at hl 1 rfl) ?_
      refine lv_iload hx hb dX11_change_17 (lv_at hl 0 rfl) ?_
      refine lv_if_ne (tgt := 26) hx hb dX11_change_19 (by decide) (fun c19 => ?_) (fun c19 => ?_)
      · refine lv_iload_n hx hb dX11_change_26 rfl (lv_at hl 3 rfl) ?_
        refine lv_iconst (v := 0) hx hb dX11_change_27 (by decide) ?_
        refine lv_aload_n hx hb dX11_change_28 rfl (lv_at hl 1 rfl) ?_
        refine gx_get (D := D) (cl := gcl) (ci := 10) (v := .ref (mad s0.heap.size 13)) (C := RX11) (T := TX11) (N := 27) hx hb hts in_X11 hown hK hR.mo rfl 15 (by decide) (hts _ q901) (fun _ h9 => h9) rfl dX11_change_29 ?_
        refine lv_iload_n hx hb dX11_change_32 rfl (lv_at hl 2 rfl) ?_
        refine gx_iald (n := 3) hx hb hK 1 (hR.mia 13 (by decide)) rfl 1 (by decide) (by decide) (by decide) dX11_change_33 ?_
        refine lv_iconst (v := 1) hx hb dX11_change_34 (by decide) ?_
        refine lv_isub hx hb dX11_change_35 ?_
        refine cc_v (va_runS (As := [.int nu, .int 0, .int ((mI M 13 1) - 1)]) (rest := [.ref (s0.heap.size + 104)]) ⟨hx, hb, hml, hown, hts⟩ (ct_X11_isIn hE nu 0 ((mI M 13 1) - 1)) (va_cwS 3 hts (lw_S q977 q978 q61 q979) rfl rfl rfl (by decide +kernel) ⟨Nat.le_of_ble_eq_true rfl, Nat.le_of_ble_eq_true rfl⟩) (cc_pS hW0) rfl rfl hl.1 rfl (lv_room (Nat.le_of_ble_eq_true rfl)) dX11_change_36 ⟨Nat.le_of_ble_eq_true rfl, Nat.le_of_ble_eq_true rfl⟩) hL (fun H locs hP1 hL => ?_)
        subst hP1
        refine lv_if_ne (tgt := 46) hx hb dX11_change_39 (by decide) (fun c39 => ?_) (fun c39 => ?_)
        · have h9 := bZ_1.mp c39
          rw [hC.ct (K := 1) (by decide)] at h9
          have c24 := hC.c24 (K := 1) (by decide)
          obtain ⟨u, hu, rfl⟩ := inR_in (by omega) h9
          refine lv_iload_n hx hb dX11_change_46 rfl (lv_at hl 4 rfl) ?_
          refine lv_iconst (v := 0) hx hb dX11_change_47 (by decide) ?_
          refine lv_sipush (v := 1000) hx hb dX11_change_48 (by decide) ?_
          refine cc_v (va_runS (As := [.int n, .int 0, .int 1000]) (rest := [.ref (s0.heap.size + 104)]) ⟨hx, hb, hml, hown, hts⟩ (ct_X11_isIn hE n 0 1000) (va_cwS 3 hts (lw_S q977 q978 q61 q979) rfl rfl rfl (by decide +kernel) ⟨Nat.le_of_ble_eq_true rfl, Nat.le_of_ble_eq_true rfl⟩) (cc_pS hW0) rfl rfl hl.1 rfl (lv_room (Nat.le_of_ble_eq_true rfl)) dX11_change_51 ⟨Nat.le_of_ble_eq_true rfl, Nat.le_of_ble_eq_true rfl⟩) hL (fun H locs hP1 hL => ?_)
          subst hP1
          refine lv_if_ne (tgt := 61) hx hb dX11_change_54 (by decide) (fun c54 => ?_) (fun c54 => ?_)
          · obtain ⟨a, ha, ea⟩ := (hC.2.2.2 1 (by decide) u hu).1
            refine lv_iconst (v := 0) hx hb dX11_change_61 (by decide) ?_
            refine cc_v (va_runV (b := s0.heap.size + 104) (As := [.int 0]) (rest := []) ⟨hx, hb, hml, hown, hts⟩ (ct_X11_refused hE ⟨_, hR⟩ 0) (cwV 1 hts (lw_V q983 q985 qs23 q61 q986) rfl rfl rfl (by decide +kernel) ⟨Nat.le_of_ble_eq_true rfl, Nat.le_of_ble_eq_true rfl⟩) (cc_pV hW0 (cc_re hK hR.mo (show gcl[10]? = _ from rfl))) rfl rfl hl.1 rfl (lv_room (Nat.le_of_ble_eq_true rfl)) dX11_change_62 ⟨Nat.le_of_ble_eq_true rfl, Nat.le_of_ble_eq_true rfl⟩) hL (fun H locs hP1 hL => ?_)
            obtain ⟨Y, hR⟩ := hP1
            refine lv_if_eq (tgt := 70) hx hb dX11_change_65 (by decide) (fun c65 => ?_) (fun c65 => ?_)
            · refine lv_bipush (v := 24) hx hb dX11_change_70 (by decide) ?_
              refine lv_iload_n hx hb dX11_change_72 rfl (lv_at hl 2 rfl) ?_
              refine lv_imul hx hb dX11_change_73 ?_
              refine gx_ti (nI 24) (pk_mul 24 1) ?_
              refine lv_iload_n hx hb dX11_change_74 rfl (lv_at hl 3 rfl) ?_
              refine lv_iadd hx hb dX11_change_75 ?_
              refine gx_ti (nI (24 * 1 + u)) (nI_add (24 * 1) u) ?_
              refine lv_istore (lv' := [(5, .int (nI (24 * 1 + u))), (4, .int 1), (0, .ref (s0.heap.size + 104)), (1, .int (nI 1)), (2, .int (nI u)), (3, .int n)]) hx hb dX11_change_76 hl (by decide) rfl (fun ls hl => ?_)
              refine lv_aload_n hx hb dX11_change_78 rfl (lv_at hl 2 rfl) ?_
              refine gx_get (D := D) (cl := gcl) (ci := 10) (v := .ref (mad s0.heap.size 16)) (C := RX11) (T := TX11) (N := 27) hx hb hts in_X11 hown hK hR.mo rfl 18 (by decide) (hts _ q904) (fun _ h9 => h9) rfl dX11_change_79 ?_
              refine lv_iload hx hb dX11_change_82 (lv_at hl 0 rfl) ?_
              refine gx_iald (n := 72) hx hb hK 1 (hR.mia 16 (by decide)) rfl (24 * 1 + u) (rfl) (by omega) (by decide) dX11_change_84 ?_
              refine lv_istore (lv' := [(6, .int (mI (mz M 0 0) 16 (24 * 1 + u))), (5, .int (nI (24 * 1 + u))), (4, .int 1), (0, .ref (s0.heap.size + 104)), (1, .int (nI 1)), (2, .int (nI u)), (3, .int n)]) hx hb dX11_change_85 hl (by decide) rfl (fun ls hl => ?_)
              refine lv_aload_n hx hb dX11_change_87 rfl (lv_at hl 3 rfl) ?_
              refine gx_get (D := D) (cl := gcl) (ci := 10) (v := .ref (mad s0.heap.size 16)) (C := RX11) (T := TX11) (N := 27) hx hb hts in_X11 hown hK hR.mo rfl 18 (by decide) (hts _ q904) (fun _ h9 => h9) rfl dX11_change_88 ?_
              refine lv_iload hx hb dX11_change_91 (lv_at hl 1 rfl) ?_
              refine lv_iload_n hx hb dX11_change_93 rfl (lv_at hl 6 rfl) ?_
              refine gx_iast (n := 72) hx hb hK 1 (hR.mia 16 (by decide)) rfl (24 * 1 + u) (rfl) (by omega) (by decide) hL (by (try simp only [aI, aA, aT, aB, aL, mad]); omega) dX11_change_94 (fun H locs hU hA hL => ?_)
              have hR := GRb.pMI (j := 16) (by decide) hR hU hA
              refine lv_aload_n hx hb dX11_change_95 rfl (lv_at hl 3 rfl) ?_
              refine lv_aload_n hx hb dX11_change_96 rfl (lv_at hl 3 rfl) ?_
              refine gx_get (D := D) (cl := gcl) (ci := 10) (v := .ref (mad s0.heap.size 14)) (C := RX11) (T := TX11) (N := 27) hx hb hts in_X11 hown hK hR.mo rfl 16 (by decide) (hts _ q902) (fun _ h9 => h9) rfl dX11_change_97 ?_
              refine lv_iload hx hb dX11_change_100 (lv_at hl 1 rfl) ?_
              refine gx_iald (n := 72) hx hb hK 1 (hR.mia 14 (by decide)) rfl (24 * 1 + u) (rfl) (by omega) (by decide) dX11_change_102 ?_
              refine gx_ti (nI a) (ea) ?_
              refine cc_0 (va_runV (b := s0.heap.size + 104) (As := [.int (nI a)]) (rest := []) ⟨hx, hb, hml, hown, hts⟩ (ct_X11_tell hE ⟨_, hR⟩ a ha) (cwV 1 hts (lw_V q987 q989 qs24 q61 q990) rfl rfl rfl (by decide +kernel) ⟨Nat.le_of_ble_eq_true rfl, Nat.le_of_ble_eq_true rfl⟩) (cc_pV hW0 (cc_re hK hR.mo (show gcl[10]? = _ from rfl))) rfl rfl hl.1 rfl (lv_room (Nat.le_of_ble_eq_true rfl)) dX11_change_103 ⟨Nat.le_of_ble_eq_true rfl, Nat.le_of_ble_eq_true rfl⟩) hL (fun H locs hP1 hL => ?_)
              obtain ⟨Y, hR⟩ := hP1
              refine lv_iload hx hb dX11_change_106 (lv_at hl 0 rfl) ?_
              exact W.iret (v := (mI (mz M 0 0) 16 (24 * 1 + u))) hx hb hr (fun t ht hW => ⟨ovI (m_change_0 (K := 1) (by decide) hu hC (bZ_1.mp c54) ha ea).2.symm, by rw [ht]; exact (RR_M ((m_change_0 (K := 1) (by decide) hu hC (bZ_1.mp c54) ha ea).1) ⟨_, hR⟩)⟩) hL dX11_change_108
            · exact absurd c65 (by decide)
          · refine lv_iconst (v := 1) hx hb dX11_change_57 (by decide) ?_
            refine lv_goto (tgt := 62) hx hb dX11_change_58 (by decide) ?_
            refine cc_v (va_runV (b := s0.heap.size + 104) (As := [.int 1]) (rest := []) ⟨hx, hb, hml, hown, hts⟩ (ct_X11_refused hE ⟨_, hR⟩ 1) (cwV 1 hts (lw_V q983 q985 qs23 q61 q986) rfl rfl rfl (by decide +kernel) ⟨Nat.le_of_ble_eq_true rfl, Nat.le_of_ble_eq_true rfl⟩) (cc_pV hW0 (cc_re hK hR.mo (show gcl[10]? = _ from rfl))) rfl rfl hl.1 rfl (lv_room (Nat.le_of_ble_eq_true rfl)) dX11_change_62 ⟨Nat.le_of_ble_eq_true rfl, Nat.le_of_ble_eq_true rfl⟩) hL (fun H locs hP1 hL => ?_)
            obtain ⟨Y, hR⟩ := hP1
            refine lv_if_eq (tgt := 70) hx hb dX11_change_65 (by decide) (fun c65 => ?_) (fun c65 => ?_)
            · exact absurd c65 (by decide)
            · refine lv_iconst (v := 0) hx hb dX11_change_68 (by decide) ?_
              exact W.iret (v := 0) hx hb hr (fun t ht hW => ⟨ovI (m_change_3 (K := 1) (by decide) (bZ_1.mp c39) (bZ_0.mp c54)).2.symm, by rw [ht]; exact (RR_M ((m_change_3 (K := 1) (by decide) (bZ_1.mp c39) (bZ_0.mp c54)).1) ⟨_, hR⟩)⟩) hL dX11_change_69
        · refine lv_iconst (v := 2) hx hb dX11_change_42 (by decide) ?_
          refine lv_goto (tgt := 62) hx hb dX11_change_43 (by decide) ?_
          refine cc_v (va_runV (b := s0.heap.size + 104) (As := [.int 2]) (rest := []) ⟨hx, hb, hml, hown, hts⟩ (ct_X11_refused hE ⟨_, hR⟩ 2) (cwV 1 hts (lw_V q983 q985 qs23 q61 q986) rfl rfl rfl (by decide +kernel) ⟨Nat.le_of_ble_eq_true rfl, Nat.le_of_ble_eq_true rfl⟩) (cc_pV hW0 (cc_re hK hR.mo (show gcl[10]? = _ from rfl))) rfl rfl hl.1 rfl (lv_room (Nat.le_of_ble_eq_true rfl)) dX11_change_62 ⟨Nat.le_of_ble_eq_true rfl, Nat.le_of_ble_eq_true rfl⟩) hL (fun H locs hP1 hL => ?_)
          obtain ⟨Y, hR⟩ := hP1
          refine lv_if_eq (tgt := 70) hx hb dX11_change_65 (by decide) (fun c65 => ?_) (fun c65 => ?_)
          · exact absurd c65 (by decide)
          · refine lv_iconst (v := 0) hx hb dX11_change_68 (by decide) ?_
            exact W.iret (v := 0) hx hb hr (fun t ht hW => ⟨ovI (m_change_2 (K := 1) (by decide) (bZ_0.mp c39)).2.symm, by rw [ht]; exact (RR_M ((m_change_2 (K := 1) (by decide) (bZ_0.mp c39)).1) ⟨_, hR⟩)⟩) hL dX11_change_69
      · exact absurd c19 (by decide)
