theorem in09 {x : Int32} (h : inR x 0 9 = true) (h0 : ¬ x = 0) : 0 < x := by
  unfold inR at h
  have h1 : (0 : Int32) ≤ x := of_decide_eq_true (Bool.and_eq_true_iff.mp h).1
  refine Classical.byContradiction (fun q => h0 ?_)
  exact Int32.le_antisymm (Int32.not_lt.mp q) h1
theorem nI_ne1 {i : Nat} (h : i < 2 ^ 31) : ¬ nI i = -1 := fun q => by
  have h1 : ¬ nI i < (0 : Int32) := nI_pos h
  rw [q] at h1
  exact h1 (by decide)
set_option maxHeartbeats 4000000 in
set_option maxRecDepth 100000 in
/-- line -/
theorem ct_X1_line {l : Launch} {s0 : State} {D : va_G} {DA : Nat → ClassId} {z0 : Nat} {C : CS} {M : MS} {o : Int64} {H : Heap} (hE : G0 l s0 D DA z0) (hR : RR s0 D DA z0 C M o H) {pa ch : Nat} (hpa : pa < 12) (hch : ch < 12) (nn xf xt : Int32) (h1 : inR nn 0 9 = true) (h2 : c_wks nn xf xt = true) (h3 : 0 < nn → (c_lev C (some (pa, ch))).2 = true ∧ (¬ c_fd C pa ch (kN C 0) = -1 ∨ kN C 0 < 24)) : Met l yX1_line (ws_ yX1_line cX1_line 9 none) ({ frames := 7, cells := 2, slots := 41, locals := 171 }) (cP s0 [.ref s0.heap.size, .int (nI pa), .int (nI ch), .int nn, .int xf, .int xt] H) (cQ0 (fun H1 => RR s0 D DA z0 (c_line C pa ch nn xf xt) M o H1)) 2 41 (cF s0) := by
  refine Met.ofW (cc := cX1_line) (maxL := 9) (ret := none) (by decide) rfl ?_
  intro p e s m args below meth c s₁ Bd hml hv
  obtain ⟨rfl, rfl, hW0⟩ := hv
  have hx := Bd.exec
  have hb := Bd.bytes
  have hr := Bd.returns
  have hts := atoms_spec (ws := (ws_ yX1_line cX1_line 9 none)) Bd.pre
  have hts : ∀ w ∈ lw_all, w.before _ s = true := fun w h => hts w (List.mem_cons_of_mem _ h)
  have hown : s.vm.findClass RX1 = some m.cls := findClass_of_methodNamed Bd.named
  have hlocks := Bd.notSynchronized
  have hK := va_K.moved hW0.alike hE.K
  have hL : gx_L s0.heap.size ([] : List Loc) := gx_L0
  obtain ⟨Y, hR⟩ := hR
  have hl := lv_entry ([.ref s0.heap.size, .int (nI pa), .int (nI ch), .int nn, .int xf, .int xt]) (n := 9) (Nat.le_of_ble_eq_true rfl)
  rw [lg_entry_eq]
  generalize (lg_sl ([.ref s0.heap.size, .int (nI pa), .int (nI ch), .int nn, .int xf, .int xt]) ++ List.replicate (9 - (lg_sl ([.ref s0.heap.size, .int (nI pa), .int (nI ch), .int nn, .int xf, .int xt])).length) Slot.unset).toArray = ls at hl ⊢
  have hl : lv_has ls 9 [(0, .ref s0.heap.size), (1, .int (nI pa)), (2, .int (nI ch)), (3, .int nn), (4, .int xf), (5, .int xt)] := hl
  have h24 := hR.lay.2.2.2.2.2.2.1.1
  have h36 := hR.lay.1 0 (by omega)
  refine lv_aload_n hx hb dX1_line_0 rfl (lv_at hl 0 rfl) ?_
  refine lv_iload_n hx hb dX1_line_1 rfl (lv_at hl 1 rfl) ?_
  refine cc_v (va_runV (b := s0.heap.size) (As := [.int (nI pa)]) (rest := []) ⟨hx, hb, hml, hown, hts⟩ (ct_X1_of hE hR hpa) (cwV 1 hts (lw_V q536 q538 qs11 q47 q539) rfl rfl rfl (by decide +kernel) ⟨Nat.le_of_ble_eq_true rfl, Nat.le_of_ble_eq_true rfl⟩) (cc_pV hW0 (cc_re hK hR.np (show gcl[0]? = _ from rfl))) rfl rfl hl.1 rfl (lv_room (Nat.le_of_ble_eq_true rfl)) dX1_line_2 ⟨Nat.le_of_ble_eq_true rfl, Nat.le_of_ble_eq_true rfl⟩) hL (fun H locs hP1 hL => ?_)
  subst hP1
  refine lv_astore (lv' := [(6, .ref (aI s0.heap.size pa)), (0, .ref s0.heap.size), (1, .int (nI pa)), (2, .int (nI ch)), (3, .int nn), (4, .int xf), (5, .int xt)]) hx hb dX1_line_5 hl (by decide) rfl (fun ls hl => ?_)
  refine lv_aload_n hx hb dX1_line_7 rfl (lv_at hl 1 rfl) ?_
  refine lv_iload_n hx hb dX1_line_8 rfl (lv_at hl 3 rfl) ?_
  refine cc_v (va_runV (b := s0.heap.size) (As := [.int (nI ch)]) (rest := []) ⟨hx, hb, hml, hown, hts⟩ (ct_X1_of hE hR hch) (cwV 1 hts (lw_V q536 q538 qs11 q47 q539) rfl rfl rfl (by decide +kernel) ⟨Nat.le_of_ble_eq_true rfl, Nat.le_of_ble_eq_true rfl⟩) (cc_pV hW0 (cc_re hK hR.np (show gcl[0]? = _ from rfl))) rfl rfl hl.1 rfl (lv_room (Nat.le_of_ble_eq_true rfl)) dX1_line_9 ⟨Nat.le_of_ble_eq_true rfl, Nat.le_of_ble_eq_true rfl⟩) hL (fun H locs hP1 hL => ?_)
  subst hP1
  refine lv_astore (lv' := [(7, .ref (aI s0.heap.size ch)), (6, .ref (aI s0.heap.size pa)), (0, .ref s0.heap.size), (1, .int (nI pa)), (2, .int (nI ch)), (3, .int nn), (4, .int xf), (5, .int xt)]) hx hb dX1_line_12 hl (by decide) rfl (fun ls hl => ?_)
  refine lv_iload_n hx hb dX1_line_14 rfl (lv_at hl 5 rfl) ?_
  refine lv_iconst (v := 0) hx hb dX1_line_15 (by decide) ?_
  refine lv_bipush (v := 9) hx hb dX1_line_16 (by decide) ?_
  refine cc_v (va_runS (As := [.int nn, .int 0, .int 9]) (rest := []) ⟨hx, hb, hml, hown, hts⟩ (ct_X1_isIn hE nn 0 9) (va_cwS 3 hts (lw_S q540 q541 q47 q542) rfl rfl rfl (by decide +kernel) ⟨Nat.le_of_ble_eq_true rfl, Nat.le_of_ble_eq_true rfl⟩) (cc_pS hW0) rfl rfl hl.1 rfl (lv_room (Nat.le_of_ble_eq_true rfl)) dX1_line_18 ⟨Nat.le_of_ble_eq_true rfl, Nat.le_of_ble_eq_true rfl⟩) hL (fun H locs hP1 hL => ?_)
  subst hP1
  refine lv_if_eq (tgt := 50) hx hb dX1_line_21 (by decide) (fun c21 => ?_) (fun c21 => ?_)
  · exact absurd h1 (by rw [bZ_0.mp c21]; decide)
  · refine lv_iload_n hx hb dX1_line_24 rfl (lv_at hl 5 rfl) ?_
    refine lv_if_eq (tgt := 46) hx hb dX1_line_25 (by decide) (fun c25 => ?_) (fun c25 => ?_)
    · have hn0 : ¬ 0 < nn := by rw [c25]; decide
      refine lv_iconst (v := 1) hx hb dX1_line_46 (by decide) ?_
      refine lv_goto (tgt := 51) hx hb dX1_line_47 (by decide) ?_
      refine cc_0 (va_runS (As := [.int 1]) (rest := []) ⟨hx, hb, hml, hown, hts⟩ (ct_X1_argue hE (x := 1) (by decide)) (va_cwS 1 hts (lw_S q609 q610 q47 q611) rfl rfl rfl (by decide +kernel) ⟨Nat.le_of_ble_eq_true rfl, Nat.le_of_ble_eq_true rfl⟩) (cc_pS hW0) rfl rfl hl.1 rfl (lv_room (Nat.le_of_ble_eq_true rfl)) dX1_line_51 ⟨Nat.le_of_ble_eq_true rfl, Nat.le_of_ble_eq_true rfl⟩) hL (fun H locs hP1 hL => ?_)
      subst hP1
      refine lv_aload_n hx hb dX1_line_54 rfl (lv_at hl 2 rfl) ?_
      refine lv_aload hx hb dX1_line_55 (lv_at hl 1 rfl) ?_
      refine lv_aload hx hb dX1_line_57 (lv_at hl 0 rfl) ?_
      refine cc_v (va_runV (b := s0.heap.size) (As := [.ref (aI s0.heap.size pa), .ref (aI s0.heap.size ch)]) (rest := []) ⟨hx, hb, hml, hown, hts⟩ (ct_X1_find hE hR hpa hch) (cwV 2 hts (lw_V q654 q656 qs14 q47 q657) rfl rfl rfl (by decide +kernel) ⟨Nat.le_of_ble_eq_true rfl, Nat.le_of_ble_eq_true rfl⟩) (cc_pV hW0 (cc_re hK hR.np (show gcl[0]? = _ from rfl))) rfl rfl hl.1 rfl (lv_room (Nat.le_of_ble_eq_true rfl)) dX1_line_59 ⟨Nat.le_of_ble_eq_true rfl, Nat.le_of_ble_eq_true rfl⟩) hL (fun H locs hP1 hL => ?_)
      subst hP1
      rcases c_fd_or C pa ch (kN C 0) with hfd | ⟨i, hi, hfd⟩
      · refine gx_ti ((-1)) (hfd) ?_
        refine lv_istore (lv' := [(8, .int (-1)), (7, .ref (aI s0.heap.size ch)), (6, .ref (aI s0.heap.size pa)), (0, .ref s0.heap.size), (1, .int (nI pa)), (2, .int (nI ch)), (3, .int nn), (4, .int xf), (5, .int xt)]) hx hb dX1_line_62 hl (by decide) rfl (fun ls hl => ?_)
        refine lv_iload_n hx hb dX1_line_64 rfl (lv_at hl 6 rfl) ?_
        refine lv_if_le (tgt := 104) hx hb dX1_line_65 (by decide) (fun c65 => ?_) (fun c65 => ?_)
        · refine lv_iload hx hb dX1_line_104 (lv_at hl 0 rfl) ?_
          refine lv_if_lt (tgt := 119) hx hb dX1_line_106 (by decide) (fun c106 => ?_) (fun c106 => ?_)
          · refine lv_iload_n hx hb dX1_line_119 rfl (lv_at hl 6 rfl) ?_
            refine lv_if_le (tgt := 147) hx hb dX1_line_120 (by decide) (fun c120 => ?_) (fun c120 => ?_)
            · refine W.widen (k := 2) (n := 41) (by omega) (by omega) ?_
              refine lv_aload_n hx hb dX1_line_147 rfl (lv_at hl 3 rfl) ?_
              refine lv_null hx hb dX1_line_148 ?_
              refine lv_null hx hb dX1_line_149 ?_
              refine cc_v (va_runV (b := s0.heap.size) (As := [.null, .null]) (rest := []) ⟨hx, hb, hml, hown, hts⟩ (ct_X1_levelled_0 hE ⟨_, hR⟩) (cwV 2 hts (lw_V q658 q660 qs15 q47 q661) rfl rfl rfl (by decide +kernel) ⟨Nat.le_of_ble_eq_true rfl, Nat.le_of_ble_eq_true rfl⟩) (cc_pV hW0 (cc_re hK hR.np (show gcl[0]? = _ from rfl))) rfl rfl hl.1 rfl (lv_room (Nat.le_of_ble_eq_true rfl)) dX1_line_150 ⟨Nat.le_of_ble_eq_true rfl, Nat.le_of_ble_eq_true rfl⟩) hL (fun H locs hP1 hL => ?_)
              obtain ⟨Y, hR⟩ := hP1
              refine lv_pop hx hb dX1_line_153 rfl ?_
              refine lv_aload_n hx hb dX1_line_154 rfl (lv_at hl 3 rfl) ?_
              refine cc_0 (va_runV (b := s0.heap.size) (As := []) (rest := []) ⟨hx, hb, hml, hown, hts⟩ (ct_X1_keepLevels hE ⟨_, hR⟩) (cwV 0 hts (lw_V q707 q709 qs17 q47 q710) rfl rfl rfl (by decide +kernel) ⟨Nat.le_of_ble_eq_true rfl, Nat.le_of_ble_eq_true rfl⟩) (cc_pV hW0 (cc_re hK hR.np (show gcl[0]? = _ from rfl))) rfl rfl hl.1 rfl (lv_room (Nat.le_of_ble_eq_true rfl)) dX1_line_155 ⟨Nat.le_of_ble_eq_true rfl, Nat.le_of_ble_eq_true rfl⟩) hL (fun H locs hP1 hL => ?_)
              obtain ⟨Y, hR⟩ := hP1
              refine lv_aload_n hx hb dX1_line_158 rfl (lv_at hl 3 rfl) ?_
              refine lv_aload hx hb dX1_line_159 (lv_at hl 1 rfl) ?_
              refine cc_0 (va_runV (b := s0.heap.size) (As := [.ref (aI s0.heap.size ch)]) (rest := []) ⟨hx, hb, hml, hown, hts⟩ (ct_X1_tell hE ⟨_, hR⟩ hch) (cwV 1 hts (lw_V q627 q629 qs13 q47 q630) rfl rfl rfl (by decide +kernel) ⟨Nat.le_of_ble_eq_true rfl, Nat.le_of_ble_eq_true rfl⟩) (cc_pV hW0 (cc_re hK hR.np (show gcl[0]? = _ from rfl))) rfl rfl hl.1 rfl (lv_room (Nat.le_of_ble_eq_true rfl)) dX1_line_161 ⟨Nat.le_of_ble_eq_true rfl, Nat.le_of_ble_eq_true rfl⟩) hL (fun H locs hP1 hL => ?_)
              obtain ⟨Y, hR⟩ := hP1
              exact W.vret hx hb hr (fun t ht hW => ⟨rfl, by rw [ht]; exact (RR_C (by unfold c_line c_ln4 c_ln3 c_ln2 c_ln1; rw [if_neg hn0, if_neg hn0, hfd, if_pos rfl]) ⟨_, hR⟩)⟩) hL dX1_line_164
            · exact absurd (i_nle c120) hn0
          · exact c106 (by decide) |>.elim
        · exact absurd (i_nle c65) hn0
      · refine gx_ti (nI i) (hfd) ?_
        refine lv_istore (lv' := [(8, .int (nI i)), (7, .ref (aI s0.heap.size ch)), (6, .ref (aI s0.heap.size pa)), (0, .ref s0.heap.size), (1, .int (nI pa)), (2, .int (nI ch)), (3, .int nn), (4, .int xf), (5, .int xt)]) hx hb dX1_line_62 hl (by decide) rfl (fun ls hl => ?_)
        refine lv_iload_n hx hb dX1_line_64 rfl (lv_at hl 6 rfl) ?_
        refine lv_if_le (tgt := 104) hx hb dX1_line_65 (by decide) (fun c65 => ?_) (fun c65 => ?_)
        · refine lv_iload hx hb dX1_line_104 (lv_at hl 0 rfl) ?_
          refine lv_if_lt (tgt := 119) hx hb dX1_line_106 (by decide) (fun c106 => ?_) (fun c106 => ?_)
          · exact absurd c106 (nI_pos (by omega))
          · refine lv_aload_n hx hb dX1_line_109 rfl (lv_at hl 3 rfl) ?_
            refine gx_get (D := D) (cl := gcl) (ci := 0) (v := .ref (aL s0.heap.size 0)) (C := RX1) (T := TX1) (N := 10) hx hb hts in_X1 hown hK hR.np rfl 1 (by decide) (hts _ q273) (fun _ h9 => h9) rfl dX1_line_110 ?_
            refine lv_iload hx hb dX1_line_113 (lv_at hl 0 rfl) ?_
            refine cc_v (va_runV (b := aL s0.heap.size 0) (As := [.int (nI i)]) (rest := []) ⟨hx, hb, hml, hown, hts⟩ (ct_J2_remove (i := i) hE (hR.lob 0 (by omega)) (hR.lda 0 (by omega) (Nat.lt_of_lt_of_le (Nat.lt_of_le_of_lt (Nat.zero_le _) hi) (hR.lay.1 0 (by omega)).1)) (aL_in _ (by omega)).1 (by have := (yD_far hR.lay (j := 0) (by omega) (by have := hR.lay.1 0 (by omega); have h8 : i < kN C 0 := hi; omega)).1; omega) (hR.lay.1 0 (by omega)).1 (hR.lay.1 0 (by omega)).2 (aL_ne_yD hR.lay (by omega)) (fun i hi y hy => hR.elL hi hy) hi (hR.lay.2.1 0 (by omega) i hi)) (cwV 1 hts (lw_V q684 q428 q429 q50 q430) rfl rfl rfl (by decide +kernel) ⟨Nat.le_of_ble_eq_true rfl, Nat.le_of_ble_eq_true rfl⟩) (cc_pV hW0 (cc_re hK (hR.lob 0 (by omega)) (show gcl[1]? = _ from rfl))) rfl rfl hl.1 rfl (lv_room (Nat.le_of_ble_eq_true rfl)) dX1_line_115 ⟨Nat.le_of_ble_eq_true rfl, Nat.le_of_ble_eq_true rfl⟩) hL (fun H locs hP1 hL => ?_)
            obtain ⟨Y, hR⟩ := hR.remL (C := C) hi hP1
            refine lv_pop hx hb dX1_line_118 rfl ?_
            refine lv_iload_n hx hb dX1_line_119 rfl (lv_at hl 6 rfl) ?_
            refine lv_if_le (tgt := 147) hx hb dX1_line_120 (by decide) (fun c120 => ?_) (fun c120 => ?_)
            · refine W.widen (k := 2) (n := 41) (by omega) (by omega) ?_
              refine lv_aload_n hx hb dX1_line_147 rfl (lv_at hl 3 rfl) ?_
              refine lv_null hx hb dX1_line_148 ?_
              refine lv_null hx hb dX1_line_149 ?_
              refine cc_v (va_runV (b := s0.heap.size) (As := [.null, .null]) (rest := []) ⟨hx, hb, hml, hown, hts⟩ (ct_X1_levelled_0 hE ⟨_, hR⟩) (cwV 2 hts (lw_V q658 q660 qs15 q47 q661) rfl rfl rfl (by decide +kernel) ⟨Nat.le_of_ble_eq_true rfl, Nat.le_of_ble_eq_true rfl⟩) (cc_pV hW0 (cc_re hK hR.np (show gcl[0]? = _ from rfl))) rfl rfl hl.1 rfl (lv_room (Nat.le_of_ble_eq_true rfl)) dX1_line_150 ⟨Nat.le_of_ble_eq_true rfl, Nat.le_of_ble_eq_true rfl⟩) hL (fun H locs hP1 hL => ?_)
              obtain ⟨Y, hR⟩ := hP1
              refine lv_pop hx hb dX1_line_153 rfl ?_
              refine lv_aload_n hx hb dX1_line_154 rfl (lv_at hl 3 rfl) ?_
              refine cc_0 (va_runV (b := s0.heap.size) (As := []) (rest := []) ⟨hx, hb, hml, hown, hts⟩ (ct_X1_keepLevels hE ⟨_, hR⟩) (cwV 0 hts (lw_V q707 q709 qs17 q47 q710) rfl rfl rfl (by decide +kernel) ⟨Nat.le_of_ble_eq_true rfl, Nat.le_of_ble_eq_true rfl⟩) (cc_pV hW0 (cc_re hK hR.np (show gcl[0]? = _ from rfl))) rfl rfl hl.1 rfl (lv_room (Nat.le_of_ble_eq_true rfl)) dX1_line_155 ⟨Nat.le_of_ble_eq_true rfl, Nat.le_of_ble_eq_true rfl⟩) hL (fun H locs hP1 hL => ?_)
              obtain ⟨Y, hR⟩ := hP1
              refine lv_aload_n hx hb dX1_line_158 rfl (lv_at hl 3 rfl) ?_
              refine lv_aload hx hb dX1_line_159 (lv_at hl 1 rfl) ?_
              refine cc_0 (va_runV (b := s0.heap.size) (As := [.ref (aI s0.heap.size ch)]) (rest := []) ⟨hx, hb, hml, hown, hts⟩ (ct_X1_tell hE ⟨_, hR⟩ hch) (cwV 1 hts (lw_V q627 q629 qs13 q47 q630) rfl rfl rfl (by decide +kernel) ⟨Nat.le_of_ble_eq_true rfl, Nat.le_of_ble_eq_true rfl⟩) (cc_pV hW0 (cc_re hK hR.np (show gcl[0]? = _ from rfl))) rfl rfl hl.1 rfl (lv_room (Nat.le_of_ble_eq_true rfl)) dX1_line_161 ⟨Nat.le_of_ble_eq_true rfl, Nat.le_of_ble_eq_true rfl⟩) hL (fun H locs hP1 hL => ?_)
              obtain ⟨Y, hR⟩ := hP1
              exact W.vret hx hb hr (fun t ht hW => ⟨rfl, by rw [ht]; exact (RR_C (by unfold c_line c_ln4 c_ln3 c_ln2 c_ln1; rw [if_neg hn0, if_neg hn0, hfd, if_neg (nI_ne1 (by omega)), nI_clamp (by omega)]) ⟨_, hR⟩)⟩) hL dX1_line_164
            · exact absurd (i_nle c120) hn0
        · exact absurd (i_nle c65) hn0
    · have hn1 : 0 < nn := in09 h1 c25
      refine lv_iload hx hb dX1_line_28 (lv_at hl 6 rfl) ?_
      refine lv_iconst (v := 0) hx hb dX1_line_30 (by decide) ?_
      refine lv_iload hx hb dX1_line_31 (lv_at hl 7 rfl) ?_
      refine cc_v (va_runS (As := [.int xf, .int 0, .int xt]) (rest := []) ⟨hx, hb, hml, hown, hts⟩ (ct_X1_isIn hE xf 0 xt) (va_cwS 3 hts (lw_S q540 q541 q47 q542) rfl rfl rfl (by decide +kernel) ⟨Nat.le_of_ble_eq_true rfl, Nat.le_of_ble_eq_true rfl⟩) (cc_pS hW0) rfl rfl hl.1 rfl (lv_room (Nat.le_of_ble_eq_true rfl)) dX1_line_33 ⟨Nat.le_of_ble_eq_true rfl, Nat.le_of_ble_eq_true rfl⟩) hL (fun H locs hP1 hL => ?_)
      subst hP1
      refine lv_if_eq (tgt := 50) hx hb dX1_line_36 (by decide) (fun c36 => ?_) (fun c36 => ?_)
      · exact absurd h2 (by unfold c_wks; rw [decide_eq_false c25, bZ_0.mp c36]; simp)
      · refine lv_iload hx hb dX1_line_39 (lv_at hl 7 rfl) ?_
        refine lv_bipush (v := 12) hx hb dX1_line_41 (by decide) ?_
        refine lv_icmp_ge (tgt := 50) hx hb dX1_line_43 (by decide) (fun c43 => ?_) (fun c43 => ?_)
        · exact absurd h2 (by unfold c_wks; rw [decide_eq_false c25, decide_eq_false (Int32.not_lt.mpr c43), Bool.and_false]; decide)
        · refine lv_iconst (v := 1) hx hb dX1_line_46 (by decide) ?_
          refine lv_goto (tgt := 51) hx hb dX1_line_47 (by decide) ?_
          refine cc_0 (va_runS (As := [.int 1]) (rest := []) ⟨hx, hb, hml, hown, hts⟩ (ct_X1_argue hE (x := 1) (by decide)) (va_cwS 1 hts (lw_S q609 q610 q47 q611) rfl rfl rfl (by decide +kernel) ⟨Nat.le_of_ble_eq_true rfl, Nat.le_of_ble_eq_true rfl⟩) (cc_pS hW0) rfl rfl hl.1 rfl (lv_room (Nat.le_of_ble_eq_true rfl)) dX1_line_51 ⟨Nat.le_of_ble_eq_true rfl, Nat.le_of_ble_eq_true rfl⟩) hL (fun H locs hP1 hL => ?_)
          subst hP1
          refine lv_aload_n hx hb dX1_line_54 rfl (lv_at hl 2 rfl) ?_
          refine lv_aload hx hb dX1_line_55 (lv_at hl 1 rfl) ?_
          refine lv_aload hx hb dX1_line_57 (lv_at hl 0 rfl) ?_
          refine cc_v (va_runV (b := s0.heap.size) (As := [.ref (aI s0.heap.size pa), .ref (aI s0.heap.size ch)]) (rest := []) ⟨hx, hb, hml, hown, hts⟩ (ct_X1_find hE hR hpa hch) (cwV 2 hts (lw_V q654 q656 qs14 q47 q657) rfl rfl rfl (by decide +kernel) ⟨Nat.le_of_ble_eq_true rfl, Nat.le_of_ble_eq_true rfl⟩) (cc_pV hW0 (cc_re hK hR.np (show gcl[0]? = _ from rfl))) rfl rfl hl.1 rfl (lv_room (Nat.le_of_ble_eq_true rfl)) dX1_line_59 ⟨Nat.le_of_ble_eq_true rfl, Nat.le_of_ble_eq_true rfl⟩) hL (fun H locs hP1 hL => ?_)
          subst hP1
          rcases c_fd_or C pa ch (kN C 0) with hfd | ⟨i, hi, hfd⟩
          · refine gx_ti ((-1)) (hfd) ?_
            refine lv_istore (lv' := [(8, .int (-1)), (7, .ref (aI s0.heap.size ch)), (6, .ref (aI s0.heap.size pa)), (0, .ref s0.heap.size), (1, .int (nI pa)), (2, .int (nI ch)), (3, .int nn), (4, .int xf), (5, .int xt)]) hx hb dX1_line_62 hl (by decide) rfl (fun ls hl => ?_)
            refine lv_iload_n hx hb dX1_line_64 rfl (lv_at hl 6 rfl) ?_
            refine lv_if_le (tgt := 104) hx hb dX1_line_65 (by decide) (fun c65 => ?_) (fun c65 => ?_)
            · exact absurd hn1 (Int32.not_lt.mpr c65)
            · refine lv_aload_n hx hb dX1_line_68 rfl (lv_at hl 3 rfl) ?_
              refine lv_aload hx hb dX1_line_69 (lv_at hl 2 rfl) ?_
              refine lv_aload hx hb dX1_line_71 (lv_at hl 1 rfl) ?_
              refine cc_v (va_runV (b := s0.heap.size) (As := [.ref (aI s0.heap.size pa), .ref (aI s0.heap.size ch)]) (rest := []) ⟨hx, hb, hml, hown, hts⟩ (ct_X1_levelled_1 hE ⟨_, hR⟩ hpa hch) (cwV 2 hts (lw_V q658 q660 qs15 q47 q661) rfl rfl rfl (by decide +kernel) ⟨Nat.le_of_ble_eq_true rfl, Nat.le_of_ble_eq_true rfl⟩) (cc_pV hW0 (cc_re hK hR.np (show gcl[0]? = _ from rfl))) rfl rfl hl.1 rfl (lv_room (Nat.le_of_ble_eq_true rfl)) dX1_line_73 ⟨Nat.le_of_ble_eq_true rfl, Nat.le_of_ble_eq_true rfl⟩) hL (fun H locs hP1 hL => ?_)
              obtain ⟨Y, hR⟩ := hP1
              refine lv_if_eq (tgt := 100) hx hb dX1_line_76 (by decide) (fun c76 => ?_) (fun c76 => ?_)
              · exact absurd (h3 hn1).1 (by rw [bZ_0.mp c76]; decide)
              · refine lv_iload hx hb dX1_line_79 (lv_at hl 0 rfl) ?_
                refine lv_if_ge (tgt := 96) hx hb dX1_line_81 (by decide) (fun c81 => ?_) (fun c81 => ?_)
                · exact absurd c81 (by decide)
                · refine lv_aload_n hx hb dX1_line_84 rfl (lv_at hl 3 rfl) ?_
                  refine gx_get (D := D) (cl := gcl) (ci := 0) (v := .ref (aL s0.heap.size 0)) (C := RX1) (T := TX1) (N := 10) hx hb hts in_X1 hown hK hR.np rfl 1 (by decide) (hts _ q273) (fun _ h9 => h9) rfl dX1_line_85 ?_
                  refine cc_v (va_runV (b := aL s0.heap.size 0) (As := []) (rest := []) ⟨hx, hb, hml, hown, hts⟩ (ct_J2_size hE (hR.lob 0 (by omega))) (cwV 0 hts (lw_V q459 q379 q380 q50 q381) rfl rfl rfl (by decide +kernel) ⟨Nat.le_of_ble_eq_true rfl, Nat.le_of_ble_eq_true rfl⟩) (cc_pV hW0 (cc_re hK (hR.lob 0 (by omega)) (show gcl[1]? = _ from rfl))) rfl rfl hl.1 rfl (lv_room (Nat.le_of_ble_eq_true rfl)) dX1_line_88 ⟨Nat.le_of_ble_eq_true rfl, Nat.le_of_ble_eq_true rfl⟩) hL (fun H locs hP1 hL => ?_)
                  subst hP1
                  refine lv_bipush (v := 24) hx hb dX1_line_91 (by decide) ?_
                  refine lv_icmp_ge (tgt := 100) hx hb dX1_line_93 (by decide) (fun c93 => ?_) (fun c93 => ?_)
                  · exact absurd ((h3 hn1).2.resolve_left (fun q => q hfd)) (by have := n_ge (a := kN C 0) (b := 24) c93 (by omega) (by omega); omega)
                  · refine lv_iconst (v := 1) hx hb dX1_line_96 (by decide) ?_
                    refine lv_goto (tgt := 101) hx hb dX1_line_97 (by decide) ?_
                    refine cc_0 (va_runS (As := [.int 1]) (rest := []) ⟨hx, hb, hml, hown, hts⟩ (ct_X1_allow hE (x := 1) (by decide)) (va_cwS 1 hts (lw_S q666 q667 q47 q668) rfl rfl rfl (by decide +kernel) ⟨Nat.le_of_ble_eq_true rfl, Nat.le_of_ble_eq_true rfl⟩) (cc_pS hW0) rfl rfl hl.1 rfl (lv_room (Nat.le_of_ble_eq_true rfl)) dX1_line_101 ⟨Nat.le_of_ble_eq_true rfl, Nat.le_of_ble_eq_true rfl⟩) hL (fun H locs hP1 hL => ?_)
                    subst hP1
                    refine lv_iload hx hb dX1_line_104 (lv_at hl 0 rfl) ?_
                    refine lv_if_lt (tgt := 119) hx hb dX1_line_106 (by decide) (fun c106 => ?_) (fun c106 => ?_)
                    · refine lv_iload_n hx hb dX1_line_119 rfl (lv_at hl 6 rfl) ?_
                      refine lv_if_le (tgt := 147) hx hb dX1_line_120 (by decide) (fun c120 => ?_) (fun c120 => ?_)
                      · exact absurd hn1 (Int32.not_lt.mpr c120)
                      · refine lv_aload_n hx hb dX1_line_123 rfl (lv_at hl 3 rfl) ?_
                        refine gx_get (D := D) (cl := gcl) (ci := 0) (v := .ref (aL s0.heap.size 0)) (C := RX1) (T := TX1) (N := 10) hx hb hts in_X1 hown hK hR.np rfl 1 (by decide) (hts _ q273) (fun _ h9 => h9) rfl dX1_line_124 ?_
                        refine gx_newV (ci := 11) (C := RX12) (T := TX12) (N := 5) (fs := [.null, .null, .int 0, .int 0, .int 0]) hx hb hts in_X12 tyX12 tyX12_ok hown (hts _ q461) (hts _ q685) (hts _ q71) hK rfl (by decide) (Nat.le_of_ble_eq_true rfl) (Nat.le_of_ble_eq_true rfl) dX1_line_127 (fun H v hv0 hN hQ => ?_)
                        have hfr : yFr s0.heap.size Y (rV C (c_lev C (some (pa, ch))).1) v := hR.fr (Nat.le_of_eq hv0.symm)
                        have hR := hR.ext (by rw [hN.1]; exact Nat.le_succ _) hN.2
                        refine lv_dup hx hb dX1_line_130 rfl ?_
                        refine lv_aload hx hb dX1_line_131 (lv_at hl 2 rfl) ?_
                        refine lv_aload hx hb dX1_line_133 (lv_at hl 1 rfl) ?_
                        refine lv_iload_n hx hb dX1_line_135 rfl (lv_at hl 6 rfl) ?_
                        refine lv_iload hx hb dX1_line_136 (lv_at hl 7 rfl) ?_
                        refine lv_iload hx hb dX1_line_138 (lv_at hl 8 rfl) ?_
                        refine cc_0 (va_runIN (b := v) (As := [.ref (aI s0.heap.size pa), .ref (aI s0.heap.size ch), .int nn, .int xf, .int xt]) (rest := [.ref v, .ref (aL s0.heap.size 0)]) ⟨hx, hb, hml, hown, hts⟩ (ct_X12_init hE nn xf xt hQ (by have := hfr.1; omega)) (⟨va_cnB 5 hts (lw_meth q688) rfl rfl rfl (hE.nM hW0 q686) (hts _ q71) (by decide +kernel) ⟨Nat.le_of_ble_eq_true rfl, Nat.le_of_ble_eq_true rfl⟩, rfl, hts _ q687⟩) (cc_pS hW0) rfl rfl hl.1 rfl (lv_room (Nat.le_of_ble_eq_true rfl)) dX1_line_140 ⟨Nat.le_of_ble_eq_true rfl, Nat.le_of_ble_eq_true rfl⟩) hL (fun H locs hP1 hL => ?_)
                        obtain ⟨hU9, hQ⟩ := hP1
                        have hR := hR.fre hfr hU9
                        have h25 : kN (rV C (c_lev C (some (pa, ch))).1) 0 < 24 := (by show kN C 0  < 24; exact (h3 hn1).2.resolve_left (fun q => q hfd))
                        refine cc_v (va_runV (b := aL s0.heap.size 0) (As := [.ref v]) (rest := []) ⟨hx, hb, hml, hown, hts⟩ (ct_J2_add (v := v) hE (hR.lob 0 (by omega)) (fun h => hR.lda 0 (by omega) h) hR.old (by have := hR.sz; omega) (aL_in _ (by omega)).1 (hR.lay.1 0 (by omega)).1 (by omega) (hR.lay.1 0 (by omega)).2 (yD_z hR.lay (by omega)) (aL_ne_yD hR.lay (by omega)) (fun h => by have := (yD_far hR.lay (by omega) h).1; omega) (fun h i hi y hy => hR.elL (by omega) hy) (⟨11, _, _, hQ, rfl, q1176, by have h9 := hfr.1; have h8 := aL_in s0.heap.size (j := 0) (by omega); omega⟩)) (cwV 1 hts (lw_V q706 q316 q317 q50 q318) rfl rfl rfl (by decide +kernel) ⟨Nat.le_of_ble_eq_true rfl, Nat.le_of_ble_eq_true rfl⟩) (cc_pV hW0 (cc_re hK (hR.lob 0 (by omega)) (show gcl[1]? = _ from rfl))) rfl rfl hl.1 rfl (lv_room (Nat.le_of_ble_eq_true rfl)) dX1_line_143 ⟨Nat.le_of_ble_eq_true rfl, Nat.le_of_ble_eq_true rfl⟩) hL (fun H locs hP1 hL => ?_)
                        obtain ⟨Y, hR⟩ := hR.addL hpa hch hQ hfr h25 hP1
                        refine lv_pop hx hb dX1_line_146 rfl ?_
                        refine lv_aload_n hx hb dX1_line_147 rfl (lv_at hl 3 rfl) ?_
                        refine lv_null hx hb dX1_line_148 ?_
                        refine lv_null hx hb dX1_line_149 ?_
                        refine cc_v (va_runV (b := s0.heap.size) (As := [.null, .null]) (rest := []) ⟨hx, hb, hml, hown, hts⟩ (ct_X1_levelled_0 hE ⟨_, hR⟩) (cwV 2 hts (lw_V q658 q660 qs15 q47 q661) rfl rfl rfl (by decide +kernel) ⟨Nat.le_of_ble_eq_true rfl, Nat.le_of_ble_eq_true rfl⟩) (cc_pV hW0 (cc_re hK hR.np (show gcl[0]? = _ from rfl))) rfl rfl hl.1 rfl (lv_room (Nat.le_of_ble_eq_true rfl)) dX1_line_150 ⟨Nat.le_of_ble_eq_true rfl, Nat.le_of_ble_eq_true rfl⟩) hL (fun H locs hP1 hL => ?_)
                        obtain ⟨Y, hR⟩ := hP1
                        refine lv_pop hx hb dX1_line_153 rfl ?_
                        refine lv_aload_n hx hb dX1_line_154 rfl (lv_at hl 3 rfl) ?_
                        refine cc_0 (va_runV (b := s0.heap.size) (As := []) (rest := []) ⟨hx, hb, hml, hown, hts⟩ (ct_X1_keepLevels hE ⟨_, hR⟩) (cwV 0 hts (lw_V q707 q709 qs17 q47 q710) rfl rfl rfl (by decide +kernel) ⟨Nat.le_of_ble_eq_true rfl, Nat.le_of_ble_eq_true rfl⟩) (cc_pV hW0 (cc_re hK hR.np (show gcl[0]? = _ from rfl))) rfl rfl hl.1 rfl (lv_room (Nat.le_of_ble_eq_true rfl)) dX1_line_155 ⟨Nat.le_of_ble_eq_true rfl, Nat.le_of_ble_eq_true rfl⟩) hL (fun H locs hP1 hL => ?_)
                        obtain ⟨Y, hR⟩ := hP1
                        refine lv_aload_n hx hb dX1_line_158 rfl (lv_at hl 3 rfl) ?_
                        refine lv_aload hx hb dX1_line_159 (lv_at hl 1 rfl) ?_
                        refine cc_0 (va_runV (b := s0.heap.size) (As := [.ref (aI s0.heap.size ch)]) (rest := []) ⟨hx, hb, hml, hown, hts⟩ (ct_X1_tell hE ⟨_, hR⟩ hch) (cwV 1 hts (lw_V q627 q629 qs13 q47 q630) rfl rfl rfl (by decide +kernel) ⟨Nat.le_of_ble_eq_true rfl, Nat.le_of_ble_eq_true rfl⟩) (cc_pV hW0 (cc_re hK hR.np (show gcl[0]? = _ from rfl))) rfl rfl hl.1 rfl (lv_room (Nat.le_of_ble_eq_true rfl)) dX1_line_161 ⟨Nat.le_of_ble_eq_true rfl, Nat.le_of_ble_eq_true rfl⟩) hL (fun H locs hP1 hL => ?_)
                        obtain ⟨Y, hR⟩ := hP1
                        exact W.vret hx hb hr (fun t ht hW => ⟨rfl, by rw [ht]; exact (RR_C (by unfold c_line c_ln4 c_ln3 c_ln2 c_ln1; rw [if_pos hn1, if_pos hn1, hfd, if_pos rfl]) ⟨_, hR⟩)⟩) hL dX1_line_164
                    · exact c106 (by decide) |>.elim
          · refine gx_ti (nI i) (hfd) ?_
            refine lv_istore (lv' := [(8, .int (nI i)), (7, .ref (aI s0.heap.size ch)), (6, .ref (aI s0.heap.size pa)), (0, .ref s0.heap.size), (1, .int (nI pa)), (2, .int (nI ch)), (3, .int nn), (4, .int xf), (5, .int xt)]) hx hb dX1_line_62 hl (by decide) rfl (fun ls hl => ?_)
            refine lv_iload_n hx hb dX1_line_64 rfl (lv_at hl 6 rfl) ?_
            refine lv_if_le (tgt := 104) hx hb dX1_line_65 (by decide) (fun c65 => ?_) (fun c65 => ?_)
            · exact absurd hn1 (Int32.not_lt.mpr c65)
            · refine lv_aload_n hx hb dX1_line_68 rfl (lv_at hl 3 rfl) ?_
              refine lv_aload hx hb dX1_line_69 (lv_at hl 2 rfl) ?_
              refine lv_aload hx hb dX1_line_71 (lv_at hl 1 rfl) ?_
              refine cc_v (va_runV (b := s0.heap.size) (As := [.ref (aI s0.heap.size pa), .ref (aI s0.heap.size ch)]) (rest := []) ⟨hx, hb, hml, hown, hts⟩ (ct_X1_levelled_1 hE ⟨_, hR⟩ hpa hch) (cwV 2 hts (lw_V q658 q660 qs15 q47 q661) rfl rfl rfl (by decide +kernel) ⟨Nat.le_of_ble_eq_true rfl, Nat.le_of_ble_eq_true rfl⟩) (cc_pV hW0 (cc_re hK hR.np (show gcl[0]? = _ from rfl))) rfl rfl hl.1 rfl (lv_room (Nat.le_of_ble_eq_true rfl)) dX1_line_73 ⟨Nat.le_of_ble_eq_true rfl, Nat.le_of_ble_eq_true rfl⟩) hL (fun H locs hP1 hL => ?_)
              obtain ⟨Y, hR⟩ := hP1
              refine lv_if_eq (tgt := 100) hx hb dX1_line_76 (by decide) (fun c76 => ?_) (fun c76 => ?_)
              · exact absurd (h3 hn1).1 (by rw [bZ_0.mp c76]; decide)
              · refine lv_iload hx hb dX1_line_79 (lv_at hl 0 rfl) ?_
                refine lv_if_ge (tgt := 96) hx hb dX1_line_81 (by decide) (fun c81 => ?_) (fun c81 => ?_)
                · refine lv_iconst (v := 1) hx hb dX1_line_96 (by decide) ?_
                  refine lv_goto (tgt := 101) hx hb dX1_line_97 (by decide) ?_
                  refine cc_0 (va_runS (As := [.int 1]) (rest := []) ⟨hx, hb, hml, hown, hts⟩ (ct_X1_allow hE (x := 1) (by decide)) (va_cwS 1 hts (lw_S q666 q667 q47 q668) rfl rfl rfl (by decide +kernel) ⟨Nat.le_of_ble_eq_true rfl, Nat.le_of_ble_eq_true rfl⟩) (cc_pS hW0) rfl rfl hl.1 rfl (lv_room (Nat.le_of_ble_eq_true rfl)) dX1_line_101 ⟨Nat.le_of_ble_eq_true rfl, Nat.le_of_ble_eq_true rfl⟩) hL (fun H locs hP1 hL => ?_)
                  subst hP1
                  refine lv_iload hx hb dX1_line_104 (lv_at hl 0 rfl) ?_
                  refine lv_if_lt (tgt := 119) hx hb dX1_line_106 (by decide) (fun c106 => ?_) (fun c106 => ?_)
                  · exact absurd c106 (nI_pos (by omega))
                  · refine lv_aload_n hx hb dX1_line_109 rfl (lv_at hl 3 rfl) ?_
                    refine gx_get (D := D) (cl := gcl) (ci := 0) (v := .ref (aL s0.heap.size 0)) (C := RX1) (T := TX1) (N := 10) hx hb hts in_X1 hown hK hR.np rfl 1 (by decide) (hts _ q273) (fun _ h9 => h9) rfl dX1_line_110 ?_
                    refine lv_iload hx hb dX1_line_113 (lv_at hl 0 rfl) ?_
                    refine cc_v (va_runV (b := aL s0.heap.size 0) (As := [.int (nI i)]) (rest := []) ⟨hx, hb, hml, hown, hts⟩ (ct_J2_remove (i := i) hE (hR.lob 0 (by omega)) (hR.lda 0 (by omega) (Nat.lt_of_lt_of_le (Nat.lt_of_le_of_lt (Nat.zero_le _) hi) (hR.lay.1 0 (by omega)).1)) (aL_in _ (by omega)).1 (by have := (yD_far hR.lay (j := 0) (by omega) (by have := hR.lay.1 0 (by omega); have h8 : i < kN (rV C (c_lev C (some (pa, ch))).1) 0 := hi; omega)).1; omega) (hR.lay.1 0 (by omega)).1 (hR.lay.1 0 (by omega)).2 (aL_ne_yD hR.lay (by omega)) (fun i hi y hy => hR.elL hi hy) hi (hR.lay.2.1 0 (by omega) i hi)) (cwV 1 hts (lw_V q684 q428 q429 q50 q430) rfl rfl rfl (by decide +kernel) ⟨Nat.le_of_ble_eq_true rfl, Nat.le_of_ble_eq_true rfl⟩) (cc_pV hW0 (cc_re hK (hR.lob 0 (by omega)) (show gcl[1]? = _ from rfl))) rfl rfl hl.1 rfl (lv_room (Nat.le_of_ble_eq_true rfl)) dX1_line_115 ⟨Nat.le_of_ble_eq_true rfl, Nat.le_of_ble_eq_true rfl⟩) hL (fun H locs hP1 hL => ?_)
                    obtain ⟨Y, hR⟩ := hR.remL (C := (rV C (c_lev C (some (pa, ch))).1)) hi hP1
                    refine lv_pop hx hb dX1_line_118 rfl ?_
                    refine lv_iload_n hx hb dX1_line_119 rfl (lv_at hl 6 rfl) ?_
                    refine lv_if_le (tgt := 147) hx hb dX1_line_120 (by decide) (fun c120 => ?_) (fun c120 => ?_)
                    · exact absurd hn1 (Int32.not_lt.mpr c120)
                    · refine lv_aload_n hx hb dX1_line_123 rfl (lv_at hl 3 rfl) ?_
                      refine gx_get (D := D) (cl := gcl) (ci := 0) (v := .ref (aL s0.heap.size 0)) (C := RX1) (T := TX1) (N := 10) hx hb hts in_X1 hown hK hR.np rfl 1 (by decide) (hts _ q273) (fun _ h9 => h9) rfl dX1_line_124 ?_
                      refine gx_newV (ci := 11) (C := RX12) (T := TX12) (N := 5) (fs := [.null, .null, .int 0, .int 0, .int 0]) hx hb hts in_X12 tyX12 tyX12_ok hown (hts _ q461) (hts _ q685) (hts _ q71) hK rfl (by decide) (Nat.le_of_ble_eq_true rfl) (Nat.le_of_ble_eq_true rfl) dX1_line_127 (fun H v hv0 hN hQ => ?_)
                      have hfr : yFr s0.heap.size Y (cRemL (rV C (c_lev C (some (pa, ch))).1) i) v := hR.fr (Nat.le_of_eq hv0.symm)
                      have hR := hR.ext (by rw [hN.1]; exact Nat.le_succ _) hN.2
                      refine lv_dup hx hb dX1_line_130 rfl ?_
                      refine lv_aload hx hb dX1_line_131 (lv_at hl 2 rfl) ?_
                      refine lv_aload hx hb dX1_line_133 (lv_at hl 1 rfl) ?_
                      refine lv_iload_n hx hb dX1_line_135 rfl (lv_at hl 6 rfl) ?_
                      refine lv_iload hx hb dX1_line_136 (lv_at hl 7 rfl) ?_
                      refine lv_iload hx hb dX1_line_138 (lv_at hl 8 rfl) ?_
                      refine cc_0 (va_runIN (b := v) (As := [.ref (aI s0.heap.size pa), .ref (aI s0.heap.size ch), .int nn, .int xf, .int xt]) (rest := [.ref v, .ref (aL s0.heap.size 0)]) ⟨hx, hb, hml, hown, hts⟩ (ct_X12_init hE nn xf xt hQ (by have := hfr.1; omega)) (⟨va_cnB 5 hts (lw_meth q688) rfl rfl rfl (hE.nM hW0 q686) (hts _ q71) (by decide +kernel) ⟨Nat.le_of_ble_eq_true rfl, Nat.le_of_ble_eq_true rfl⟩, rfl, hts _ q687⟩) (cc_pS hW0) rfl rfl hl.1 rfl (lv_room (Nat.le_of_ble_eq_true rfl)) dX1_line_140 ⟨Nat.le_of_ble_eq_true rfl, Nat.le_of_ble_eq_true rfl⟩) hL (fun H locs hP1 hL => ?_)
                      obtain ⟨hU9, hQ⟩ := hP1
                      have hR := hR.fre hfr hU9
                      have h25 : kN (cRemL (rV C (c_lev C (some (pa, ch))).1) i) 0 < 24 := (by show kN C 0 - 1 < 24; omega)
                      refine cc_v (va_runV (b := aL s0.heap.size 0) (As := [.ref v]) (rest := []) ⟨hx, hb, hml, hown, hts⟩ (ct_J2_add (v := v) hE (hR.lob 0 (by omega)) (fun h => hR.lda 0 (by omega) h) hR.old (by have := hR.sz; omega) (aL_in _ (by omega)).1 (hR.lay.1 0 (by omega)).1 (by omega) (hR.lay.1 0 (by omega)).2 (yD_z hR.lay (by omega)) (aL_ne_yD hR.lay (by omega)) (fun h => by have := (yD_far hR.lay (by omega) h).1; omega) (fun h i hi y hy => hR.elL (by omega) hy) (⟨11, _, _, hQ, rfl, q1176, by have h9 := hfr.1; have h8 := aL_in s0.heap.size (j := 0) (by omega); omega⟩)) (cwV 1 hts (lw_V q706 q316 q317 q50 q318) rfl rfl rfl (by decide +kernel) ⟨Nat.le_of_ble_eq_true rfl, Nat.le_of_ble_eq_true rfl⟩) (cc_pV hW0 (cc_re hK (hR.lob 0 (by omega)) (show gcl[1]? = _ from rfl))) rfl rfl hl.1 rfl (lv_room (Nat.le_of_ble_eq_true rfl)) dX1_line_143 ⟨Nat.le_of_ble_eq_true rfl, Nat.le_of_ble_eq_true rfl⟩) hL (fun H locs hP1 hL => ?_)
                      obtain ⟨Y, hR⟩ := hR.addL hpa hch hQ hfr h25 hP1
                      refine lv_pop hx hb dX1_line_146 rfl ?_
                      refine lv_aload_n hx hb dX1_line_147 rfl (lv_at hl 3 rfl) ?_
                      refine lv_null hx hb dX1_line_148 ?_
                      refine lv_null hx hb dX1_line_149 ?_
                      refine cc_v (va_runV (b := s0.heap.size) (As := [.null, .null]) (rest := []) ⟨hx, hb, hml, hown, hts⟩ (ct_X1_levelled_0 hE ⟨_, hR⟩) (cwV 2 hts (lw_V q658 q660 qs15 q47 q661) rfl rfl rfl (by decide +kernel) ⟨Nat.le_of_ble_eq_true rfl, Nat.le_of_ble_eq_true rfl⟩) (cc_pV hW0 (cc_re hK hR.np (show gcl[0]? = _ from rfl))) rfl rfl hl.1 rfl (lv_room (Nat.le_of_ble_eq_true rfl)) dX1_line_150 ⟨Nat.le_of_ble_eq_true rfl, Nat.le_of_ble_eq_true rfl⟩) hL (fun H locs hP1 hL => ?_)
                      obtain ⟨Y, hR⟩ := hP1
                      refine lv_pop hx hb dX1_line_153 rfl ?_
                      refine lv_aload_n hx hb dX1_line_154 rfl (lv_at hl 3 rfl) ?_
                      refine cc_0 (va_runV (b := s0.heap.size) (As := []) (rest := []) ⟨hx, hb, hml, hown, hts⟩ (ct_X1_keepLevels hE ⟨_, hR⟩) (cwV 0 hts (lw_V q707 q709 qs17 q47 q710) rfl rfl rfl (by decide +kernel) ⟨Nat.le_of_ble_eq_true rfl, Nat.le_of_ble_eq_true rfl⟩) (cc_pV hW0 (cc_re hK hR.np (show gcl[0]? = _ from rfl))) rfl rfl hl.1 rfl (lv_room (Nat.le_of_ble_eq_true rfl)) dX1_line_155 ⟨Nat.le_of_ble_eq_true rfl, Nat.le_of_ble_eq_true rfl⟩) hL (fun H locs hP1 hL => ?_)
                      obtain ⟨Y, hR⟩ := hP1
                      refine lv_aload_n hx hb dX1_line_158 rfl (lv_at hl 3 rfl) ?_
                      refine lv_aload hx hb dX1_line_159 (lv_at hl 1 rfl) ?_
                      refine cc_0 (va_runV (b := s0.heap.size) (As := [.ref (aI s0.heap.size ch)]) (rest := []) ⟨hx, hb, hml, hown, hts⟩ (ct_X1_tell hE ⟨_, hR⟩ hch) (cwV 1 hts (lw_V q627 q629 qs13 q47 q630) rfl rfl rfl (by decide +kernel) ⟨Nat.le_of_ble_eq_true rfl, Nat.le_of_ble_eq_true rfl⟩) (cc_pV hW0 (cc_re hK hR.np (show gcl[0]? = _ from rfl))) rfl rfl hl.1 rfl (lv_room (Nat.le_of_ble_eq_true rfl)) dX1_line_161 ⟨Nat.le_of_ble_eq_true rfl, Nat.le_of_ble_eq_true rfl⟩) hL (fun H locs hP1 hL => ?_)
                      obtain ⟨Y, hR⟩ := hP1
                      exact W.vret hx hb hr (fun t ht hW => ⟨rfl, by rw [ht]; exact (RR_C (by unfold c_line c_ln4 c_ln3 c_ln2 c_ln1; rw [if_pos hn1, if_pos hn1, hfd, if_neg (nI_ne1 (by omega)), nI_clamp (by omega)]) ⟨_, hR⟩)⟩) hL dX1_line_164
                · exact absurd (Int32.not_lt.mp (nI_pos (by omega))) c81
set_option maxHeartbeats 4000000 in
set_option maxRecDepth 100000 in
theorem ct_X1_line_S {l : Launch} {s0 : State} {D : va_G} {DA : Nat → ClassId} {z0 : Nat} {C : CS} {M : MS} {o : Int64} {H : Heap} (hE : G0 l s0 D DA z0) (hR : RR s0 D DA z0 C M o H) {pa ch : Nat} (hpa : pa < 12) (hch : ch < 12) (nn xf xt : Int32) (h1 : inR nn 0 9 = true) (h2 : c_wks nn xf xt = true) (hn1 : 0 < nn) (h3 : ¬ ((c_lev C (some (pa, ch))).2 = true ∧ (¬ c_fd C pa ch (kN C 0) = -1 ∨ kN C 0 < 24))) : MetT l yX1_line (ws_ yX1_line cX1_line 9 none) ({ frames := 7, cells := 1, slots := 6, locals := 102 }) (cP s0 [.ref s0.heap.size, .int (nI pa), .int (nI ch), .int nn, .int xf, .int xt] H) (cQT s0 "java/lang/IllegalStateException" (fun H1 => RR s0 D DA z0 (rV C (c_lev C (some (pa, ch))).1) M o H1)) 1 6 (cF s0) := by
  refine MetT.ofW (cc := cX1_line) (maxL := 9) (ret := none) (by decide) rfl ?_
  intro p e s m args below meth c s₁ Bd hml hv
  obtain ⟨rfl, rfl, hW0⟩ := hv
  have hx := Bd.exec
  have hb := Bd.bytes
  have hr := Bd.returns
  have hts := atoms_spec (ws := (ws_ yX1_line cX1_line 9 none)) Bd.pre
  have hno := BodyLoose.noHandlers Bd (hts _ List.mem_cons_self)
  have hts : ∀ w ∈ lw_all, w.before _ s = true := fun w h => hts w (List.mem_cons_of_mem _ h)
  have hown : s.vm.findClass RX1 = some m.cls := findClass_of_methodNamed Bd.named
  have hlocks := Bd.notSynchronized
  have hK := va_K.moved hW0.alike hE.K
  have hL : gx_L s0.heap.size ([] : List Loc) := gx_L0
  obtain ⟨Y, hR⟩ := hR
  have hl := lv_entry ([.ref s0.heap.size, .int (nI pa), .int (nI ch), .int nn, .int xf, .int xt]) (n := 9) (Nat.le_of_ble_eq_true rfl)
  rw [lg_entry_eq]
  generalize (lg_sl ([.ref s0.heap.size, .int (nI pa), .int (nI ch), .int nn, .int xf, .int xt]) ++ List.replicate (9 - (lg_sl ([.ref s0.heap.size, .int (nI pa), .int (nI ch), .int nn, .int xf, .int xt])).length) Slot.unset).toArray = ls at hl ⊢
  have hl : lv_has ls 9 [(0, .ref s0.heap.size), (1, .int (nI pa)), (2, .int (nI ch)), (3, .int nn), (4, .int xf), (5, .int xt)] := hl
  have h24 := hR.lay.2.2.2.2.2.2.1.1
  have h36 := hR.lay.1 0 (by omega)
  refine lv_aload_n hx hb dX1_line_0 rfl (lv_at hl 0 rfl) ?_
  refine lv_iload_n hx hb dX1_line_1 rfl (lv_at hl 1 rfl) ?_
  refine cc_v (va_runV (b := s0.heap.size) (As := [.int (nI pa)]) (rest := []) ⟨hx, hb, hml, hown, hts⟩ (ct_X1_of hE hR hpa) (cwV 1 hts (lw_V q536 q538 qs11 q47 q539) rfl rfl rfl (by decide +kernel) ⟨Nat.le_of_ble_eq_true rfl, Nat.le_of_ble_eq_true rfl⟩) (cc_pV hW0 (cc_re hK hR.np (show gcl[0]? = _ from rfl))) rfl rfl hl.1 rfl (lv_room (Nat.le_of_ble_eq_true rfl)) dX1_line_2 ⟨Nat.le_of_ble_eq_true rfl, Nat.le_of_ble_eq_true rfl⟩) hL (fun H locs hP1 hL => ?_)
  subst hP1
  refine lv_astore (lv' := [(6, .ref (aI s0.heap.size pa)), (0, .ref s0.heap.size), (1, .int (nI pa)), (2, .int (nI ch)), (3, .int nn), (4, .int xf), (5, .int xt)]) hx hb dX1_line_5 hl (by decide) rfl (fun ls hl => ?_)
  refine lv_aload_n hx hb dX1_line_7 rfl (lv_at hl 1 rfl) ?_
  refine lv_iload_n hx hb dX1_line_8 rfl (lv_at hl 3 rfl) ?_
  refine cc_v (va_runV (b := s0.heap.size) (As := [.int (nI ch)]) (rest := []) ⟨hx, hb, hml, hown, hts⟩ (ct_X1_of hE hR hch) (cwV 1 hts (lw_V q536 q538 qs11 q47 q539) rfl rfl rfl (by decide +kernel) ⟨Nat.le_of_ble_eq_true rfl, Nat.le_of_ble_eq_true rfl⟩) (cc_pV hW0 (cc_re hK hR.np (show gcl[0]? = _ from rfl))) rfl rfl hl.1 rfl (lv_room (Nat.le_of_ble_eq_true rfl)) dX1_line_9 ⟨Nat.le_of_ble_eq_true rfl, Nat.le_of_ble_eq_true rfl⟩) hL (fun H locs hP1 hL => ?_)
  subst hP1
  refine lv_astore (lv' := [(7, .ref (aI s0.heap.size ch)), (6, .ref (aI s0.heap.size pa)), (0, .ref s0.heap.size), (1, .int (nI pa)), (2, .int (nI ch)), (3, .int nn), (4, .int xf), (5, .int xt)]) hx hb dX1_line_12 hl (by decide) rfl (fun ls hl => ?_)
  refine lv_iload_n hx hb dX1_line_14 rfl (lv_at hl 5 rfl) ?_
  refine lv_iconst (v := 0) hx hb dX1_line_15 (by decide) ?_
  refine lv_bipush (v := 9) hx hb dX1_line_16 (by decide) ?_
  refine cc_v (va_runS (As := [.int nn, .int 0, .int 9]) (rest := []) ⟨hx, hb, hml, hown, hts⟩ (ct_X1_isIn hE nn 0 9) (va_cwS 3 hts (lw_S q540 q541 q47 q542) rfl rfl rfl (by decide +kernel) ⟨Nat.le_of_ble_eq_true rfl, Nat.le_of_ble_eq_true rfl⟩) (cc_pS hW0) rfl rfl hl.1 rfl (lv_room (Nat.le_of_ble_eq_true rfl)) dX1_line_18 ⟨Nat.le_of_ble_eq_true rfl, Nat.le_of_ble_eq_true rfl⟩) hL (fun H locs hP1 hL => ?_)
  subst hP1
  refine lv_if_eq (tgt := 50) hx hb dX1_line_21 (by decide) (fun c21 => ?_) (fun c21 => ?_)
  · exact absurd h1 (by rw [bZ_0.mp c21]; decide)
  · refine lv_iload_n hx hb dX1_line_24 rfl (lv_at hl 5 rfl) ?_
    refine lv_if_eq (tgt := 46) hx hb dX1_line_25 (by decide) (fun c25 => ?_) (fun c25 => ?_)
    · exact absurd hn1 (by rw [c25]; decide)
    · have hn1 : 0 < nn := in09 h1 c25
      refine lv_iload hx hb dX1_line_28 (lv_at hl 6 rfl) ?_
      refine lv_iconst (v := 0) hx hb dX1_line_30 (by decide) ?_
      refine lv_iload hx hb dX1_line_31 (lv_at hl 7 rfl) ?_
      refine cc_v (va_runS (As := [.int xf, .int 0, .int xt]) (rest := []) ⟨hx, hb, hml, hown, hts⟩ (ct_X1_isIn hE xf 0 xt) (va_cwS 3 hts (lw_S q540 q541 q47 q542) rfl rfl rfl (by decide +kernel) ⟨Nat.le_of_ble_eq_true rfl, Nat.le_of_ble_eq_true rfl⟩) (cc_pS hW0) rfl rfl hl.1 rfl (lv_room (Nat.le_of_ble_eq_true rfl)) dX1_line_33 ⟨Nat.le_of_ble_eq_true rfl, Nat.le_of_ble_eq_true rfl⟩) hL (fun H locs hP1 hL => ?_)
      subst hP1
      refine lv_if_eq (tgt := 50) hx hb dX1_line_36 (by decide) (fun c36 => ?_) (fun c36 => ?_)
      · exact absurd h2 (by unfold c_wks; rw [decide_eq_false c25, bZ_0.mp c36]; simp)
      · refine lv_iload hx hb dX1_line_39 (lv_at hl 7 rfl) ?_
        refine lv_bipush (v := 12) hx hb dX1_line_41 (by decide) ?_
        refine lv_icmp_ge (tgt := 50) hx hb dX1_line_43 (by decide) (fun c43 => ?_) (fun c43 => ?_)
        · exact absurd h2 (by unfold c_wks; rw [decide_eq_false c25, decide_eq_false (Int32.not_lt.mpr c43), Bool.and_false]; decide)
        · refine lv_iconst (v := 1) hx hb dX1_line_46 (by decide) ?_
          refine lv_goto (tgt := 51) hx hb dX1_line_47 (by decide) ?_
          refine cc_0 (va_runS (As := [.int 1]) (rest := []) ⟨hx, hb, hml, hown, hts⟩ (ct_X1_argue hE (x := 1) (by decide)) (va_cwS 1 hts (lw_S q609 q610 q47 q611) rfl rfl rfl (by decide +kernel) ⟨Nat.le_of_ble_eq_true rfl, Nat.le_of_ble_eq_true rfl⟩) (cc_pS hW0) rfl rfl hl.1 rfl (lv_room (Nat.le_of_ble_eq_true rfl)) dX1_line_51 ⟨Nat.le_of_ble_eq_true rfl, Nat.le_of_ble_eq_true rfl⟩) hL (fun H locs hP1 hL => ?_)
          subst hP1
          refine lv_aload_n hx hb dX1_line_54 rfl (lv_at hl 2 rfl) ?_
          refine lv_aload hx hb dX1_line_55 (lv_at hl 1 rfl) ?_
          refine lv_aload hx hb dX1_line_57 (lv_at hl 0 rfl) ?_
          refine cc_v (va_runV (b := s0.heap.size) (As := [.ref (aI s0.heap.size pa), .ref (aI s0.heap.size ch)]) (rest := []) ⟨hx, hb, hml, hown, hts⟩ (ct_X1_find hE hR hpa hch) (cwV 2 hts (lw_V q654 q656 qs14 q47 q657) rfl rfl rfl (by decide +kernel) ⟨Nat.le_of_ble_eq_true rfl, Nat.le_of_ble_eq_true rfl⟩) (cc_pV hW0 (cc_re hK hR.np (show gcl[0]? = _ from rfl))) rfl rfl hl.1 rfl (lv_room (Nat.le_of_ble_eq_true rfl)) dX1_line_59 ⟨Nat.le_of_ble_eq_true rfl, Nat.le_of_ble_eq_true rfl⟩) hL (fun H locs hP1 hL => ?_)
          subst hP1
          rcases c_fd_or C pa ch (kN C 0) with hfd | ⟨i, hi, hfd⟩
          · refine gx_ti ((-1)) (hfd) ?_
            refine lv_istore (lv' := [(8, .int (-1)), (7, .ref (aI s0.heap.size ch)), (6, .ref (aI s0.heap.size pa)), (0, .ref s0.heap.size), (1, .int (nI pa)), (2, .int (nI ch)), (3, .int nn), (4, .int xf), (5, .int xt)]) hx hb dX1_line_62 hl (by decide) rfl (fun ls hl => ?_)
            refine lv_iload_n hx hb dX1_line_64 rfl (lv_at hl 6 rfl) ?_
            refine lv_if_le (tgt := 104) hx hb dX1_line_65 (by decide) (fun c65 => ?_) (fun c65 => ?_)
            · exact absurd hn1 (Int32.not_lt.mpr c65)
            · refine lv_aload_n hx hb dX1_line_68 rfl (lv_at hl 3 rfl) ?_
              refine lv_aload hx hb dX1_line_69 (lv_at hl 2 rfl) ?_
              refine lv_aload hx hb dX1_line_71 (lv_at hl 1 rfl) ?_
              refine cc_v (va_runV (b := s0.heap.size) (As := [.ref (aI s0.heap.size pa), .ref (aI s0.heap.size ch)]) (rest := []) ⟨hx, hb, hml, hown, hts⟩ (ct_X1_levelled_1 hE ⟨_, hR⟩ hpa hch) (cwV 2 hts (lw_V q658 q660 qs15 q47 q661) rfl rfl rfl (by decide +kernel) ⟨Nat.le_of_ble_eq_true rfl, Nat.le_of_ble_eq_true rfl⟩) (cc_pV hW0 (cc_re hK hR.np (show gcl[0]? = _ from rfl))) rfl rfl hl.1 rfl (lv_room (Nat.le_of_ble_eq_true rfl)) dX1_line_73 ⟨Nat.le_of_ble_eq_true rfl, Nat.le_of_ble_eq_true rfl⟩) hL (fun H locs hP1 hL => ?_)
              obtain ⟨Y, hR⟩ := hP1
              refine lv_if_eq (tgt := 100) hx hb dX1_line_76 (by decide) (fun c76 => ?_) (fun c76 => ?_)
              · refine lv_iconst (v := 0) hx hb dX1_line_100 (by decide) ?_
                exact gt_leave (va_runTS (As := [.int 0]) (rest := []) ⟨hx, hb, hml, hown, hts⟩ (ct_X1_allow_T hE ⟨_, hR⟩ (x := 0) rfl) (va_cwS 1 hts (lw_S q666 q667 q47 q668) rfl rfl rfl (by decide +kernel) ⟨Nat.le_of_ble_eq_true rfl, Nat.le_of_ble_eq_true rfl⟩) (cc_pS hW0) rfl rfl hl.1 rfl (lv_room (Nat.le_of_ble_eq_true rfl)) dX1_line_101 ⟨Nat.le_of_ble_eq_true rfl, Nat.le_of_ble_eq_true rfl⟩) hno (fun st t u x hq h1 h2 h3 => ⟨by rw [h1]; exact hq.1, by rw [h1]; exact hq.2⟩) hL (fun q h => h) Bd.notSynchronized
              · have hlv := bZ_1.mp c76
                refine lv_iload hx hb dX1_line_79 (lv_at hl 0 rfl) ?_
                refine lv_if_ge (tgt := 96) hx hb dX1_line_81 (by decide) (fun c81 => ?_) (fun c81 => ?_)
                · exact absurd c81 (by decide)
                · refine lv_aload_n hx hb dX1_line_84 rfl (lv_at hl 3 rfl) ?_
                  refine gx_get (D := D) (cl := gcl) (ci := 0) (v := .ref (aL s0.heap.size 0)) (C := RX1) (T := TX1) (N := 10) hx hb hts in_X1 hown hK hR.np rfl 1 (by decide) (hts _ q273) (fun _ h9 => h9) rfl dX1_line_85 ?_
                  refine cc_v (va_runV (b := aL s0.heap.size 0) (As := []) (rest := []) ⟨hx, hb, hml, hown, hts⟩ (ct_J2_size hE (hR.lob 0 (by omega))) (cwV 0 hts (lw_V q459 q379 q380 q50 q381) rfl rfl rfl (by decide +kernel) ⟨Nat.le_of_ble_eq_true rfl, Nat.le_of_ble_eq_true rfl⟩) (cc_pV hW0 (cc_re hK (hR.lob 0 (by omega)) (show gcl[1]? = _ from rfl))) rfl rfl hl.1 rfl (lv_room (Nat.le_of_ble_eq_true rfl)) dX1_line_88 ⟨Nat.le_of_ble_eq_true rfl, Nat.le_of_ble_eq_true rfl⟩) hL (fun H locs hP1 hL => ?_)
                  subst hP1
                  refine lv_bipush (v := 24) hx hb dX1_line_91 (by decide) ?_
                  refine lv_icmp_ge (tgt := 100) hx hb dX1_line_93 (by decide) (fun c93 => ?_) (fun c93 => ?_)
                  · refine lv_iconst (v := 0) hx hb dX1_line_100 (by decide) ?_
                    exact gt_leave (va_runTS (As := [.int 0]) (rest := []) ⟨hx, hb, hml, hown, hts⟩ (ct_X1_allow_T hE ⟨_, hR⟩ (x := 0) rfl) (va_cwS 1 hts (lw_S q666 q667 q47 q668) rfl rfl rfl (by decide +kernel) ⟨Nat.le_of_ble_eq_true rfl, Nat.le_of_ble_eq_true rfl⟩) (cc_pS hW0) rfl rfl hl.1 rfl (lv_room (Nat.le_of_ble_eq_true rfl)) dX1_line_101 ⟨Nat.le_of_ble_eq_true rfl, Nat.le_of_ble_eq_true rfl⟩) hno (fun st t u x hq h1 h2 h3 => ⟨by rw [h1]; exact hq.1, by rw [h1]; exact hq.2⟩) hL (fun q h => h) Bd.notSynchronized
                  · exact h3 ⟨hlv, Or.inr (n_lt (a := kN C 0) (b := 24) c93 (by omega) (by omega))⟩ |>.elim
          · refine gx_ti (nI i) (hfd) ?_
            refine lv_istore (lv' := [(8, .int (nI i)), (7, .ref (aI s0.heap.size ch)), (6, .ref (aI s0.heap.size pa)), (0, .ref s0.heap.size), (1, .int (nI pa)), (2, .int (nI ch)), (3, .int nn), (4, .int xf), (5, .int xt)]) hx hb dX1_line_62 hl (by decide) rfl (fun ls hl => ?_)
            refine lv_iload_n hx hb dX1_line_64 rfl (lv_at hl 6 rfl) ?_
            refine lv_if_le (tgt := 104) hx hb dX1_line_65 (by decide) (fun c65 => ?_) (fun c65 => ?_)
            · exact absurd hn1 (Int32.not_lt.mpr c65)
            · refine lv_aload_n hx hb dX1_line_68 rfl (lv_at hl 3 rfl) ?_
              refine lv_aload hx hb dX1_line_69 (lv_at hl 2 rfl) ?_
              refine lv_aload hx hb dX1_line_71 (lv_at hl 1 rfl) ?_
              refine cc_v (va_runV (b := s0.heap.size) (As := [.ref (aI s0.heap.size pa), .ref (aI s0.heap.size ch)]) (rest := []) ⟨hx, hb, hml, hown, hts⟩ (ct_X1_levelled_1 hE ⟨_, hR⟩ hpa hch) (cwV 2 hts (lw_V q658 q660 qs15 q47 q661) rfl rfl rfl (by decide +kernel) ⟨Nat.le_of_ble_eq_true rfl, Nat.le_of_ble_eq_true rfl⟩) (cc_pV hW0 (cc_re hK hR.np (show gcl[0]? = _ from rfl))) rfl rfl hl.1 rfl (lv_room (Nat.le_of_ble_eq_true rfl)) dX1_line_73 ⟨Nat.le_of_ble_eq_true rfl, Nat.le_of_ble_eq_true rfl⟩) hL (fun H locs hP1 hL => ?_)
              obtain ⟨Y, hR⟩ := hP1
              refine lv_if_eq (tgt := 100) hx hb dX1_line_76 (by decide) (fun c76 => ?_) (fun c76 => ?_)
              · refine lv_iconst (v := 0) hx hb dX1_line_100 (by decide) ?_
                exact gt_leave (va_runTS (As := [.int 0]) (rest := []) ⟨hx, hb, hml, hown, hts⟩ (ct_X1_allow_T hE ⟨_, hR⟩ (x := 0) rfl) (va_cwS 1 hts (lw_S q666 q667 q47 q668) rfl rfl rfl (by decide +kernel) ⟨Nat.le_of_ble_eq_true rfl, Nat.le_of_ble_eq_true rfl⟩) (cc_pS hW0) rfl rfl hl.1 rfl (lv_room (Nat.le_of_ble_eq_true rfl)) dX1_line_101 ⟨Nat.le_of_ble_eq_true rfl, Nat.le_of_ble_eq_true rfl⟩) hno (fun st t u x hq h1 h2 h3 => ⟨by rw [h1]; exact hq.1, by rw [h1]; exact hq.2⟩) hL (fun q h => h) Bd.notSynchronized
              · have hlv := bZ_1.mp c76
                refine lv_iload hx hb dX1_line_79 (lv_at hl 0 rfl) ?_
                refine lv_if_ge (tgt := 96) hx hb dX1_line_81 (by decide) (fun c81 => ?_) (fun c81 => ?_)
                · exact h3 ⟨hlv, Or.inl (by rw [hfd]; exact nI_ne1 (by omega))⟩ |>.elim
                · exact absurd (Int32.not_lt.mp (nI_pos (by omega))) c81
set_option maxHeartbeats 4000000 in
set_option maxRecDepth 100000 in
theorem ct_X1_line_I {l : Launch} {s0 : State} {D : va_G} {DA : Nat → ClassId} {z0 : Nat} {C : CS} {M : MS} {o : Int64} {H : Heap} (hE : G0 l s0 D DA z0) (hR : RR s0 D DA z0 C M o H) (xp xq nn xf xt : Int32) (h : (in12 xp && in12 xq) = false) : MetT l yX1_line (ws_ yX1_line cX1_line 9 none) ({ frames := 8, cells := 1, slots := 6, locals := 123 }) (cP s0 [.ref s0.heap.size, .int xp, .int xq, .int nn, .int xf, .int xt] H) (cQT s0 "java/lang/IndexOutOfBoundsException" (fun H1 => RR s0 D DA z0 C M o H1)) 1 6 (cF s0) := by
  refine MetT.ofW (cc := cX1_line) (maxL := 9) (ret := none) (by decide) rfl ?_
  intro p e s m args below meth c s₁ Bd hml hv
  obtain ⟨rfl, rfl, hW0⟩ := hv
  have hx := Bd.exec
  have hb := Bd.bytes
  have hr := Bd.returns
  have hts := atoms_spec (ws := (ws_ yX1_line cX1_line 9 none)) Bd.pre
  have hno := BodyLoose.noHandlers Bd (hts _ List.mem_cons_self)
  have hts : ∀ w ∈ lw_all, w.before _ s = true := fun w h => hts w (List.mem_cons_of_mem _ h)
  have hown : s.vm.findClass RX1 = some m.cls := findClass_of_methodNamed Bd.named
  have hlocks := Bd.notSynchronized
  have hK := va_K.moved hW0.alike hE.K
  have hL : gx_L s0.heap.size ([] : List Loc) := gx_L0
  obtain ⟨Y, hR⟩ := hR
  have hl := lv_entry ([.ref s0.heap.size, .int xp, .int xq, .int nn, .int xf, .int xt]) (n := 9) (Nat.le_of_ble_eq_true rfl)
  rw [lg_entry_eq]
  generalize (lg_sl ([.ref s0.heap.size, .int xp, .int xq, .int nn, .int xf, .int xt]) ++ List.replicate (9 - (lg_sl ([.ref s0.heap.size, .int xp, .int xq, .int nn, .int xf, .int xt])).length) Slot.unset).toArray = ls at hl ⊢
  have hl : lv_has ls 9 [(0, .ref s0.heap.size), (1, .int xp), (2, .int xq), (3, .int nn), (4, .int xf), (5, .int xt)] := hl
  cases hcs : in12 xp with
  | false =>
    refine lv_aload_n hx hb dX1_line_0 rfl (lv_at hl 0 rfl) ?_
    refine lv_iload_n hx hb dX1_line_1 rfl (lv_at hl 1 rfl) ?_
    exact gt_leave (va_runTV (b := s0.heap.size) (As := [.int xp]) (rest := []) ⟨hx, hb, hml, hown, hts⟩ (ct_X1_of_T hE ⟨_, hR⟩ (x := xp) (hcs)) (cwV 1 hts (lw_V q536 q538 qs11 q47 q539) rfl rfl rfl (by decide +kernel) ⟨Nat.le_of_ble_eq_true rfl, Nat.le_of_ble_eq_true rfl⟩) (cc_pV hW0 (cc_re hK hR.np (show gcl[0]? = _ from rfl))) rfl rfl hl.1 rfl (lv_room (Nat.le_of_ble_eq_true rfl)) dX1_line_2 ⟨Nat.le_of_ble_eq_true rfl, Nat.le_of_ble_eq_true rfl⟩) hno (fun st t u x hq h1 h2 h3 => ⟨by rw [h1]; exact hq.1, by rw [h1]; exact hq.2⟩) hL (fun q h => h) Bd.notSynchronized
  | true =>
    obtain ⟨k, hk, rfl⟩ := in12_t hcs
    rw [hcs, Bool.true_and] at h
    refine lv_aload_n hx hb dX1_line_0 rfl (lv_at hl 0 rfl) ?_
    refine lv_iload_n hx hb dX1_line_1 rfl (lv_at hl 1 rfl) ?_
    refine cc_v (va_runV (b := s0.heap.size) (As := [.int (nI k)]) (rest := []) ⟨hx, hb, hml, hown, hts⟩ (ct_X1_of hE hR hk) (cwV 1 hts (lw_V q536 q538 qs11 q47 q539) rfl rfl rfl (by decide +kernel) ⟨Nat.le_of_ble_eq_true rfl, Nat.le_of_ble_eq_true rfl⟩) (cc_pV hW0 (cc_re hK hR.np (show gcl[0]? = _ from rfl))) rfl rfl hl.1 rfl (lv_room (Nat.le_of_ble_eq_true rfl)) dX1_line_2 ⟨Nat.le_of_ble_eq_true rfl, Nat.le_of_ble_eq_true rfl⟩) hL (fun H locs hP1 hL => ?_)
    subst hP1
    refine lv_astore (lv' := [(6, .ref (aI s0.heap.size k)), (0, .ref s0.heap.size), (1, .int (nI k)), (2, .int xq), (3, .int nn), (4, .int xf), (5, .int xt)]) hx hb dX1_line_5 hl (by decide) rfl (fun ls hl => ?_)
    refine lv_aload_n hx hb dX1_line_7 rfl (lv_at hl 1 rfl) ?_
    refine lv_iload_n hx hb dX1_line_8 rfl (lv_at hl 3 rfl) ?_
    exact gt_leave (va_runTV (b := s0.heap.size) (As := [.int xq]) (rest := []) ⟨hx, hb, hml, hown, hts⟩ (ct_X1_of_T hE ⟨_, hR⟩ (x := xq) (h)) (cwV 1 hts (lw_V q536 q538 qs11 q47 q539) rfl rfl rfl (by decide +kernel) ⟨Nat.le_of_ble_eq_true rfl, Nat.le_of_ble_eq_true rfl⟩) (cc_pV hW0 (cc_re hK hR.np (show gcl[0]? = _ from rfl))) rfl rfl hl.1 rfl (lv_room (Nat.le_of_ble_eq_true rfl)) dX1_line_9 ⟨Nat.le_of_ble_eq_true rfl, Nat.le_of_ble_eq_true rfl⟩) hno (fun st t u x hq h1 h2 h3 => ⟨by rw [h1]; exact hq.1, by rw [h1]; exact hq.2⟩) hL (fun q h => h) Bd.notSynchronized
set_option maxHeartbeats 4000000 in
set_option maxRecDepth 100000 in
theorem ct_X1_line_A {l : Launch} {s0 : State} {D : va_G} {DA : Nat → ClassId} {z0 : Nat} {C : CS} {M : MS} {o : Int64} {H : Heap} (hE : G0 l s0 D DA z0) (hR : RR s0 D DA z0 C M o H) {pa ch : Nat} (hpa : pa < 12) (hch : ch < 12) (nn xf xt : Int32) (h : (inR nn 0 9 && c_wks nn xf xt) = false) : MetT l yX1_line (ws_ yX1_line cX1_line 9 none) ({ frames := 7, cells := 1, slots := 6, locals := 102 }) (cP s0 [.ref s0.heap.size, .int (nI pa), .int (nI ch), .int nn, .int xf, .int xt] H) (cQT s0 "java/lang/IllegalArgumentException" (fun H1 => RR s0 D DA z0 C M o H1)) 1 6 (cF s0) := by
  refine MetT.ofW (cc := cX1_line) (maxL := 9) (ret := none) (by decide) rfl ?_
  intro p e s m args below meth c s₁ Bd hml hv
  obtain ⟨rfl, rfl, hW0⟩ := hv
  have hx := Bd.exec
  have hb := Bd.bytes
  have hr := Bd.returns
  have hts := atoms_spec (ws := (ws_ yX1_line cX1_line 9 none)) Bd.pre
  have hno := BodyLoose.noHandlers Bd (hts _ List.mem_cons_self)
  have hts : ∀ w ∈ lw_all, w.before _ s = true := fun w h => hts w (List.mem_cons_of_mem _ h)
  have hown : s.vm.findClass RX1 = some m.cls := findClass_of_methodNamed Bd.named
  have hlocks := Bd.notSynchronized
  have hK := va_K.moved hW0.alike hE.K
  have hL : gx_L s0.heap.size ([] : List Loc) := gx_L0
  obtain ⟨Y, hR⟩ := hR
  have hl := lv_entry ([.ref s0.heap.size, .int (nI pa), .int (nI ch), .int nn, .int xf, .int xt]) (n := 9) (Nat.le_of_ble_eq_true rfl)
  rw [lg_entry_eq]
  generalize (lg_sl ([.ref s0.heap.size, .int (nI pa), .int (nI ch), .int nn, .int xf, .int xt]) ++ List.replicate (9 - (lg_sl ([.ref s0.heap.size, .int (nI pa), .int (nI ch), .int nn, .int xf, .int xt])).length) Slot.unset).toArray = ls at hl ⊢
  have hl : lv_has ls 9 [(0, .ref s0.heap.size), (1, .int (nI pa)), (2, .int (nI ch)), (3, .int nn), (4, .int xf), (5, .int xt)] := hl
  refine lv_aload_n hx hb dX1_line_0 rfl (lv_at hl 0 rfl) ?_
  refine lv_iload_n hx hb dX1_line_1 rfl (lv_at hl 1 rfl) ?_
  refine cc_v (va_runV (b := s0.heap.size) (As := [.int (nI pa)]) (rest := []) ⟨hx, hb, hml, hown, hts⟩ (ct_X1_of hE hR hpa) (cwV 1 hts (lw_V q536 q538 qs11 q47 q539) rfl rfl rfl (by decide +kernel) ⟨Nat.le_of_ble_eq_true rfl, Nat.le_of_ble_eq_true rfl⟩) (cc_pV hW0 (cc_re hK hR.np (show gcl[0]? = _ from rfl))) rfl rfl hl.1 rfl (lv_room (Nat.le_of_ble_eq_true rfl)) dX1_line_2 ⟨Nat.le_of_ble_eq_true rfl, Nat.le_of_ble_eq_true rfl⟩) hL (fun H locs hP1 hL => ?_)
  subst hP1
  refine lv_astore (lv' := [(6, .ref (aI s0.heap.size pa)), (0, .ref s0.heap.size), (1, .int (nI pa)), (2, .int (nI ch)), (3, .int nn), (4, .int xf), (5, .int xt)]) hx hb dX1_line_5 hl (by decide) rfl (fun ls hl => ?_)
  refine lv_aload_n hx hb dX1_line_7 rfl (lv_at hl 1 rfl) ?_
  refine lv_iload_n hx hb dX1_line_8 rfl (lv_at hl 3 rfl) ?_
  refine cc_v (va_runV (b := s0.heap.size) (As := [.int (nI ch)]) (rest := []) ⟨hx, hb, hml, hown, hts⟩ (ct_X1_of hE hR hch) (cwV 1 hts (lw_V q536 q538 qs11 q47 q539) rfl rfl rfl (by decide +kernel) ⟨Nat.le_of_ble_eq_true rfl, Nat.le_of_ble_eq_true rfl⟩) (cc_pV hW0 (cc_re hK hR.np (show gcl[0]? = _ from rfl))) rfl rfl hl.1 rfl (lv_room (Nat.le_of_ble_eq_true rfl)) dX1_line_9 ⟨Nat.le_of_ble_eq_true rfl, Nat.le_of_ble_eq_true rfl⟩) hL (fun H locs hP1 hL => ?_)
  subst hP1
  refine lv_astore (lv' := [(7, .ref (aI s0.heap.size ch)), (6, .ref (aI s0.heap.size pa)), (0, .ref s0.heap.size), (1, .int (nI pa)), (2, .int (nI ch)), (3, .int nn), (4, .int xf), (5, .int xt)]) hx hb dX1_line_12 hl (by decide) rfl (fun ls hl => ?_)
  refine lv_iload_n hx hb dX1_line_14 rfl (lv_at hl 5 rfl) ?_
  refine lv_iconst (v := 0) hx hb dX1_line_15 (by decide) ?_
  refine lv_bipush (v := 9) hx hb dX1_line_16 (by decide) ?_
  refine cc_v (va_runS (As := [.int nn, .int 0, .int 9]) (rest := []) ⟨hx, hb, hml, hown, hts⟩ (ct_X1_isIn hE nn 0 9) (va_cwS 3 hts (lw_S q540 q541 q47 q542) rfl rfl rfl (by decide +kernel) ⟨Nat.le_of_ble_eq_true rfl, Nat.le_of_ble_eq_true rfl⟩) (cc_pS hW0) rfl rfl hl.1 rfl (lv_room (Nat.le_of_ble_eq_true rfl)) dX1_line_18 ⟨Nat.le_of_ble_eq_true rfl, Nat.le_of_ble_eq_true rfl⟩) hL (fun H locs hP1 hL => ?_)
  subst hP1
  refine lv_if_eq (tgt := 50) hx hb dX1_line_21 (by decide) (fun c21 => ?_) (fun c21 => ?_)
  · refine lv_iconst (v := 0) hx hb dX1_line_50 (by decide) ?_
    exact gt_leave (va_runTS (As := [.int 0]) (rest := []) ⟨hx, hb, hml, hown, hts⟩ (ct_X1_argue_T hE ⟨_, hR⟩ (x := 0) (rfl)) (va_cwS 1 hts (lw_S q609 q610 q47 q611) rfl rfl rfl (by decide +kernel) ⟨Nat.le_of_ble_eq_true rfl, Nat.le_of_ble_eq_true rfl⟩) (cc_pS hW0) rfl rfl hl.1 rfl (lv_room (Nat.le_of_ble_eq_true rfl)) dX1_line_51 ⟨Nat.le_of_ble_eq_true rfl, Nat.le_of_ble_eq_true rfl⟩) hno (fun st t u x hq h1 h2 h3 => ⟨by rw [h1]; exact hq.1, by rw [h1]; exact hq.2⟩) hL (fun q h => h) Bd.notSynchronized
  · refine lv_iload_n hx hb dX1_line_24 rfl (lv_at hl 5 rfl) ?_
    refine lv_if_eq (tgt := 46) hx hb dX1_line_25 (by decide) (fun c25 => ?_) (fun c25 => ?_)
    · exact absurd h (by rw [bZ_1.mp c21]; unfold c_wks; rw [decide_eq_true c25]; simp)
    · refine lv_iload hx hb dX1_line_28 (lv_at hl 6 rfl) ?_
      refine lv_iconst (v := 0) hx hb dX1_line_30 (by decide) ?_
      refine lv_iload hx hb dX1_line_31 (lv_at hl 7 rfl) ?_
      refine cc_v (va_runS (As := [.int xf, .int 0, .int xt]) (rest := []) ⟨hx, hb, hml, hown, hts⟩ (ct_X1_isIn hE xf 0 xt) (va_cwS 3 hts (lw_S q540 q541 q47 q542) rfl rfl rfl (by decide +kernel) ⟨Nat.le_of_ble_eq_true rfl, Nat.le_of_ble_eq_true rfl⟩) (cc_pS hW0) rfl rfl hl.1 rfl (lv_room (Nat.le_of_ble_eq_true rfl)) dX1_line_33 ⟨Nat.le_of_ble_eq_true rfl, Nat.le_of_ble_eq_true rfl⟩) hL (fun H locs hP1 hL => ?_)
      subst hP1
      refine lv_if_eq (tgt := 50) hx hb dX1_line_36 (by decide) (fun c36 => ?_) (fun c36 => ?_)
      · refine lv_iconst (v := 0) hx hb dX1_line_50 (by decide) ?_
        exact gt_leave (va_runTS (As := [.int 0]) (rest := []) ⟨hx, hb, hml, hown, hts⟩ (ct_X1_argue_T hE ⟨_, hR⟩ (x := 0) (rfl)) (va_cwS 1 hts (lw_S q609 q610 q47 q611) rfl rfl rfl (by decide +kernel) ⟨Nat.le_of_ble_eq_true rfl, Nat.le_of_ble_eq_true rfl⟩) (cc_pS hW0) rfl rfl hl.1 rfl (lv_room (Nat.le_of_ble_eq_true rfl)) dX1_line_51 ⟨Nat.le_of_ble_eq_true rfl, Nat.le_of_ble_eq_true rfl⟩) hno (fun st t u x hq h1 h2 h3 => ⟨by rw [h1]; exact hq.1, by rw [h1]; exact hq.2⟩) hL (fun q h => h) Bd.notSynchronized
      · refine lv_iload hx hb dX1_line_39 (lv_at hl 7 rfl) ?_
        refine lv_bipush (v := 12) hx hb dX1_line_41 (by decide) ?_
        refine lv_icmp_ge (tgt := 50) hx hb dX1_line_43 (by decide) (fun c43 => ?_) (fun c43 => ?_)
        · refine lv_iconst (v := 0) hx hb dX1_line_50 (by decide) ?_
          exact gt_leave (va_runTS (As := [.int 0]) (rest := []) ⟨hx, hb, hml, hown, hts⟩ (ct_X1_argue_T hE ⟨_, hR⟩ (x := 0) (rfl)) (va_cwS 1 hts (lw_S q609 q610 q47 q611) rfl rfl rfl (by decide +kernel) ⟨Nat.le_of_ble_eq_true rfl, Nat.le_of_ble_eq_true rfl⟩) (cc_pS hW0) rfl rfl hl.1 rfl (lv_room (Nat.le_of_ble_eq_true rfl)) dX1_line_51 ⟨Nat.le_of_ble_eq_true rfl, Nat.le_of_ble_eq_true rfl⟩) hno (fun st t u x hq h1 h2 h3 => ⟨by rw [h1]; exact hq.1, by rw [h1]; exact hq.2⟩) hL (fun q h => h) Bd.notSynchronized
        · exact absurd h (by rw [bZ_1.mp c21]; unfold c_wks; rw [bZ_1.mp c36, decide_eq_true (i_nle c43), Bool.or_comm]; simp)
