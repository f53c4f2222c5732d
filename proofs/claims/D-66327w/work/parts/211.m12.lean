set_option maxHeartbeats 4000000 in
set_option maxRecDepth 100000 in
/-- line -/
theorem ct_X11_line {l : Launch} {s0 : State} {D : va_G} {DA : Nat → ClassId} {z0 : Nat} {C : CS} {M : MS} {o : Int64} {H : Heap} (hE : G0 l s0 D DA z0) (hR : RR s0 D DA z0 C M o H) (xp xq nn xf xt : Int32) : Met l yX11_line (ws_ yX11_line cX11_line 11 none) ({ frames := 2, cells := 0, slots := 0, locals := 48 }) (cP s0 [.ref (s0.heap.size + 104), .int xp, .int xq, .int nn, .int xf, .int xt] H) (cQ0 (fun H1 => RR s0 D DA z0 C (m_line M xp xq nn xf xt) o H1)) 0 0 (cF s0) := by
  refine Met.ofW (cc := cX11_line) (maxL := 11) (ret := none) (by decide) rfl ?_
  intro p e s m args below meth c s₁ Bd hml hv
  obtain ⟨rfl, rfl, hW0⟩ := hv
  have hx := Bd.exec
  have hb := Bd.bytes
  have hr := Bd.returns
  have hts := atoms_spec (ws := (ws_ yX11_line cX11_line 11 none)) Bd.pre
  have hts : ∀ w ∈ lw_all, w.before _ s = true := fun w h => hts w (List.mem_cons_of_mem _ h)
  have hown : s.vm.findClass RX11 = some m.cls := findClass_of_methodNamed Bd.named
  have hlocks := Bd.notSynchronized
  have hK := va_K.moved hW0.alike hE.K
  have hL : gx_L s0.heap.size ([] : List Loc) := gx_L0
  obtain ⟨Y, hR⟩ := hR
  have hl := lv_entry ([.ref (s0.heap.size + 104), .int xp, .int xq, .int nn, .int xf, .int xt]) (n := 11) (Nat.le_of_ble_eq_true rfl)
  rw [lg_entry_eq]
  generalize (lg_sl ([.ref (s0.heap.size + 104), .int xp, .int xq, .int nn, .int xf, .int xt]) ++ List.replicate (11 - (lg_sl ([.ref (s0.heap.size + 104), .int xp, .int xq, .int nn, .int xf, .int xt])).length) Slot.unset).toArray = ls at hl ⊢
  have hl : lv_has ls 11 [(0, .ref (s0.heap.size + 104)), (1, .int xp), (2, .int xq), (3, .int nn), (4, .int xf), (5, .int xt)] := hl
  have j32 : ∀ (locs : List Loc) (ls : Array Slot), lv_has ls 11 [(0, .ref (s0.heap.size + 104)), (1, .int xp), (2, .int xq), (3, .int nn), (4, .int xf), (5, .int xt)] → gx_L s0.heap.size locs → W p l e (headSpec (ws_ yX11_line cX11_line 11 none) ({ frames := 2, cells := 0, slots := 0, locals := 48 })).room s m ([.ref (s0.heap.size + 104), .int xp, .int xq, .int nn, .int xf, .int xt] : List Value).toArray below meth c s.heap locs 0 0 (MQ below (cQ0 (fun H1 => RR s0 D DA z0 C (m_line M xp xq nn xf xt) o H1)) ([.ref (s0.heap.size + 104), .int xp, .int xq, .int nn, .int xf, .int xt] : List Value).toArray s 0 0 (cF s0)) (F0 m 32 ls [.int (bZ (x_wks nn xf xt))]) := by
    intro locs ls hl hL
    refine lv_istore (lv' := [(6, .int (bZ (x_wks nn xf xt))), (0, .ref (s0.heap.size + 104)), (1, .int xp), (2, .int xq), (3, .int nn), (4, .int xf), (5, .int xt)]) hx hb dX11_line_32 hl (by decide) rfl (fun ls hl => ?_)
    refine lv_aload_n hx hb dX11_line_34 rfl (lv_at hl 1 rfl) ?_
    refine lv_iload_n hx hb dX11_line_35 rfl (lv_at hl 2 rfl) ?_
    refine cc_v (va_runS (As := [.int xp]) (rest := [.ref (s0.heap.size + 104)]) ⟨hx, hb, hml, hown, hts⟩ (ct_X11_isTwelve hE xp) (va_cwS 1 hts (lw_S q980 q981 q61 q982) rfl rfl rfl (by decide +kernel) ⟨Nat.le_of_ble_eq_true rfl, Nat.le_of_ble_eq_true rfl⟩) (cc_pS hW0) rfl rfl hl.1 rfl (lv_room (Nat.le_of_ble_eq_true rfl)) dX11_line_36 ⟨Nat.le_of_ble_eq_true rfl, Nat.le_of_ble_eq_true rfl⟩) hL (fun H locs hP1 hL => ?_)
    subst hP1
    refine lv_if_eq (tgt := 49) hx hb dX11_line_39 (by decide) (fun c39 => ?_) (fun c39 => ?_)
    · refine lv_iconst (v := 1) hx hb dX11_line_49 (by decide) ?_
      refine lv_goto (tgt := 73) hx hb dX11_line_50 (by decide) ?_
      refine cc_v (va_runV (b := s0.heap.size + 104) (As := [.int 1]) (rest := []) ⟨hx, hb, hml, hown, hts⟩ (ct_X11_refused hE ⟨_, hR⟩ 1) (cwV 1 hts (lw_V q983 q985 qs23 q61 q986) rfl rfl rfl (by decide +kernel) ⟨Nat.le_of_ble_eq_true rfl, Nat.le_of_ble_eq_true rfl⟩) (cc_pV hW0 (cc_re hK hR.mo (show gcl[10]? = _ from rfl))) rfl rfl hl.1 rfl (lv_room (Nat.le_of_ble_eq_true rfl)) dX11_line_73 ⟨Nat.le_of_ble_eq_true rfl, Nat.le_of_ble_eq_true rfl⟩) hL (fun H locs hP1 hL => ?_)
      obtain ⟨Y, hR⟩ := hP1
      refine lv_if_eq (tgt := 80) hx hb dX11_line_76 (by decide) (fun c76 => ?_) (fun c76 => ?_)
      · exact absurd c76 (by decide)
      · exact W.vret hx hb hr (fun t ht hW => ⟨rfl, by rw [ht]; exact (RR_M (by unfold m_line; rw [show x_line xp xq nn xf xt = 1 by unfold x_line; rw [bZ_0.mp c39]; rfl]; rfl) ⟨_, hR⟩)⟩) hL dX11_line_79
    · refine lv_iload_n hx hb dX11_line_42 rfl (lv_at hl 3 rfl) ?_
      refine cc_v (va_runS (As := [.int xq]) (rest := [.ref (s0.heap.size + 104)]) ⟨hx, hb, hml, hown, hts⟩ (ct_X11_isTwelve hE xq) (va_cwS 1 hts (lw_S q980 q981 q61 q982) rfl rfl rfl (by decide +kernel) ⟨Nat.le_of_ble_eq_true rfl, Nat.le_of_ble_eq_true rfl⟩) (cc_pS hW0) rfl rfl hl.1 rfl (lv_room (Nat.le_of_ble_eq_true rfl)) dX11_line_43 ⟨Nat.le_of_ble_eq_true rfl, Nat.le_of_ble_eq_true rfl⟩) hL (fun H locs hP1 hL => ?_)
      subst hP1
      refine lv_if_ne (tgt := 53) hx hb dX11_line_46 (by decide) (fun c46 => ?_) (fun c46 => ?_)
      · refine lv_iload_n hx hb dX11_line_53 rfl (lv_at hl 4 rfl) ?_
        refine lv_iconst (v := 0) hx hb dX11_line_54 (by decide) ?_
        refine lv_bipush (v := 9) hx hb dX11_line_55 (by decide) ?_
        refine cc_v (va_runS (As := [.int nn, .int 0, .int 9]) (rest := [.ref (s0.heap.size + 104)]) ⟨hx, hb, hml, hown, hts⟩ (ct_X11_isIn hE nn 0 9) (va_cwS 3 hts (lw_S q977 q978 q61 q979) rfl rfl rfl (by decide +kernel) ⟨Nat.le_of_ble_eq_true rfl, Nat.le_of_ble_eq_true rfl⟩) (cc_pS hW0) rfl rfl hl.1 rfl (lv_room (Nat.le_of_ble_eq_true rfl)) dX11_line_57 ⟨Nat.le_of_ble_eq_true rfl, Nat.le_of_ble_eq_true rfl⟩) hL (fun H locs hP1 hL => ?_)
        subst hP1
        refine lv_if_eq (tgt := 68) hx hb dX11_line_60 (by decide) (fun c60 => ?_) (fun c60 => ?_)
        · refine lv_iconst (v := 2) hx hb dX11_line_68 (by decide) ?_
          refine lv_goto (tgt := 73) hx hb dX11_line_69 (by decide) ?_
          refine cc_v (va_runV (b := s0.heap.size + 104) (As := [.int 2]) (rest := []) ⟨hx, hb, hml, hown, hts⟩ (ct_X11_refused hE ⟨_, hR⟩ 2) (cwV 1 hts (lw_V q983 q985 qs23 q61 q986) rfl rfl rfl (by decide +kernel) ⟨Nat.le_of_ble_eq_true rfl, Nat.le_of_ble_eq_true rfl⟩) (cc_pV hW0 (cc_re hK hR.mo (show gcl[10]? = _ from rfl))) rfl rfl hl.1 rfl (lv_room (Nat.le_of_ble_eq_true rfl)) dX11_line_73 ⟨Nat.le_of_ble_eq_true rfl, Nat.le_of_ble_eq_true rfl⟩) hL (fun H locs hP1 hL => ?_)
          obtain ⟨Y, hR⟩ := hP1
          refine lv_if_eq (tgt := 80) hx hb dX11_line_76 (by decide) (fun c76 => ?_) (fun c76 => ?_)
          · exact absurd c76 (by decide)
          · exact W.vret hx hb hr (fun t ht hW => ⟨rfl, by rw [ht]; exact (RR_M (by unfold m_line; rw [show x_line xp xq nn xf xt = 2 by unfold x_line; rw [bZ_1.mp c39, bZ_1.mp c46, bZ_0.mp c60]; rfl]; rfl) ⟨_, hR⟩)⟩) hL dX11_line_79
        · refine lv_iload hx hb dX11_line_63 (lv_at hl 0 rfl) ?_
          refine lv_if_ne (tgt := 72) hx hb dX11_line_65 (by decide) (fun c65 => ?_) (fun c65 => ?_)
          · have hx0 : x_line xp xq nn xf xt = 0 := by unfold x_line; rw [bZ_1.mp c39, bZ_1.mp c46, bZ_1.mp c60, bZ_1.mp c65]; rfl
            obtain ⟨pa, hpa, rfl⟩ := in12_t (bZ_1.mp c39)
            obtain ⟨ch, hch, rfl⟩ := in12_t (bZ_1.mp c46)
            have hm : m_line M (nI pa) (nI ch) nn xf xt = m_line1 M pa ch nn xf xt := by unfold m_line; rw [if_pos hx0, nI_cl hpa, nI_cl hch]
            refine lv_iconst (v := 0) hx hb dX11_line_72 (by decide) ?_
            refine cc_v (va_runV (b := s0.heap.size + 104) (As := [.int 0]) (rest := []) ⟨hx, hb, hml, hown, hts⟩ (ct_X11_refused hE ⟨_, hR⟩ 0) (cwV 1 hts (lw_V q983 q985 qs23 q61 q986) rfl rfl rfl (by decide +kernel) ⟨Nat.le_of_ble_eq_true rfl, Nat.le_of_ble_eq_true rfl⟩) (cc_pV hW0 (cc_re hK hR.mo (show gcl[10]? = _ from rfl))) rfl rfl hl.1 rfl (lv_room (Nat.le_of_ble_eq_true rfl)) dX11_line_73 ⟨Nat.le_of_ble_eq_true rfl, Nat.le_of_ble_eq_true rfl⟩) hL (fun H locs hP1 hL => ?_)
            obtain ⟨Y, hR⟩ := hP1
            refine lv_if_eq (tgt := 80) hx hb dX11_line_76 (by decide) (fun c76 => ?_) (fun c76 => ?_)
            · refine lv_bipush (v := 12) hx hb dX11_line_80 (by decide) ?_
              refine lv_iload_n hx hb dX11_line_82 rfl (lv_at hl 2 rfl) ?_
              refine lv_imul hx hb dX11_line_83 ?_
              refine gx_ti (nI (12 * pa)) (pk_mul 12 pa) ?_
              refine lv_iload_n hx hb dX11_line_84 rfl (lv_at hl 3 rfl) ?_
              refine lv_iadd hx hb dX11_line_85 ?_
              refine gx_ti (nI (12 * pa + ch)) (nI_add (12 * pa) ch) ?_
              refine lv_istore (lv' := [(7, .int (nI (12 * pa + ch))), (6, .int (bZ (x_wks nn xf xt))), (0, .ref (s0.heap.size + 104)), (1, .int (nI pa)), (2, .int (nI ch)), (3, .int nn), (4, .int xf), (5, .int xt)]) hx hb dX11_line_86 hl (by decide) rfl (fun ls hl => ?_)
              refine lv_aload_n hx hb dX11_line_88 rfl (lv_at hl 2 rfl) ?_
              refine gx_get (D := D) (cl := gcl) (ci := 10) (v := .ref (mad s0.heap.size 10)) (C := RX11) (T := TX11) (N := 27) hx hb hts in_X11 hown hK hR.mo rfl 11 (by decide) (hts _ q897) (fun _ h9 => h9) rfl dX11_line_89 ?_
              refine lv_iload hx hb dX11_line_92 (lv_at hl 0 rfl) ?_
              refine gx_iald (n := 144) hx hb hK 1 (hR.mia 10 (by decide)) rfl (12 * pa + ch) (rfl) (by omega) (by decide) dX11_line_94 ?_
              refine gx_ti (mI M 10 (12 * pa + ch)) (rfl) ?_
              refine lv_istore (lv' := [(8, .int (mI M 10 (12 * pa + ch))), (7, .int (nI (12 * pa + ch))), (6, .int (bZ (x_wks nn xf xt))), (0, .ref (s0.heap.size + 104)), (1, .int (nI pa)), (2, .int (nI ch)), (3, .int nn), (4, .int xf), (5, .int xt)]) hx hb dX11_line_95 hl (by decide) rfl (fun ls hl => ?_)
              refine lv_aload_n hx hb dX11_line_97 rfl (lv_at hl 3 rfl) ?_
              refine gx_get (D := D) (cl := gcl) (ci := 10) (v := .ref (mad s0.heap.size 11)) (C := RX11) (T := TX11) (N := 27) hx hb hts in_X11 hown hK hR.mo rfl 12 (by decide) (hts _ q898) (fun _ h9 => h9) rfl dX11_line_98 ?_
              refine lv_iload hx hb dX11_line_101 (lv_at hl 1 rfl) ?_
              refine gx_iald (n := 144) hx hb hK 1 (hR.mia 11 (by decide)) rfl (12 * pa + ch) (rfl) (by omega) (by decide) dX11_line_103 ?_
              refine gx_ti (mI M 11 (12 * pa + ch)) (rfl) ?_
              refine lv_istore (lv' := [(9, .int (mI M 11 (12 * pa + ch))), (8, .int (mI M 10 (12 * pa + ch))), (7, .int (nI (12 * pa + ch))), (6, .int (bZ (x_wks nn xf xt))), (0, .ref (s0.heap.size + 104)), (1, .int (nI pa)), (2, .int (nI ch)), (3, .int nn), (4, .int xf), (5, .int xt)]) hx hb dX11_line_104 hl (by decide) rfl (fun ls hl => ?_)
              refine lv_aload_n hx hb dX11_line_106 rfl (lv_at hl 4 rfl) ?_
              refine gx_get (D := D) (cl := gcl) (ci := 10) (v := .ref (mad s0.heap.size 12)) (C := RX11) (T := TX11) (N := 27) hx hb hts in_X11 hown hK hR.mo rfl 13 (by decide) (hts _ q899) (fun _ h9 => h9) rfl dX11_line_107 ?_
              refine lv_iload hx hb dX11_line_110 (lv_at hl 2 rfl) ?_
              refine gx_iald (n := 144) hx hb hK 1 (hR.mia 12 (by decide)) rfl (12 * pa + ch) (rfl) (by omega) (by decide) dX11_line_112 ?_
              refine gx_ti (mI M 12 (12 * pa + ch)) (rfl) ?_
              refine lv_istore (lv' := [(10, .int (mI M 12 (12 * pa + ch))), (9, .int (mI M 11 (12 * pa + ch))), (8, .int (mI M 10 (12 * pa + ch))), (7, .int (nI (12 * pa + ch))), (6, .int (bZ (x_wks nn xf xt))), (0, .ref (s0.heap.size + 104)), (1, .int (nI pa)), (2, .int (nI ch)), (3, .int nn), (4, .int xf), (5, .int xt)]) hx hb dX11_line_113 hl (by decide) rfl (fun ls hl => ?_)
              refine lv_aload_n hx hb dX11_line_115 rfl (lv_at hl 5 rfl) ?_
              refine lv_iload_n hx hb dX11_line_116 rfl (lv_at hl 8 rfl) ?_
              refine lv_if_le (tgt := 138) hx hb dX11_line_117 (by decide) (fun c117 => ?_) (fun c117 => ?_)
              · have hno : ¬ (0 < nn ∧ mI M 10 (12 * pa + ch) = 0 ∧ mS M 14 = 24) := fun q => absurd q.1 (Int32.not_lt.mpr c117)
                refine lv_iconst (v := 0) hx hb dX11_line_138 (by decide) ?_
                refine cc_v (va_runV (b := s0.heap.size + 104) (As := [.int 0]) (rest := []) ⟨hx, hb, hml, hown, hts⟩ (ct_X11_refused hE ⟨_, hR⟩ 0) (cwV 1 hts (lw_V q983 q985 qs23 q61 q986) rfl rfl rfl (by decide +kernel) ⟨Nat.le_of_ble_eq_true rfl, Nat.le_of_ble_eq_true rfl⟩) (cc_pV hW0 (cc_re hK hR.mo (show gcl[10]? = _ from rfl))) rfl rfl hl.1 rfl (lv_room (Nat.le_of_ble_eq_true rfl)) dX11_line_139 ⟨Nat.le_of_ble_eq_true rfl, Nat.le_of_ble_eq_true rfl⟩) hL (fun H locs hP1 hL => ?_)
                obtain ⟨Y, hR⟩ := hP1
                have hR := GR_M (M := (mz (mz M 0 0) 0 0)) (M' := (mz M 0 0)) (mz_mz M 0 0 0) hR
                refine lv_if_eq (tgt := 146) hx hb dX11_line_142 (by decide) (fun c142 => ?_) (fun c142 => ?_)
                · refine lv_aload_n hx hb dX11_line_146 rfl (lv_at hl 5 rfl) ?_
                  refine lv_iload hx hb dX11_line_147 (lv_at hl 3 rfl) ?_
                  refine lv_iload_n hx hb dX11_line_149 rfl (lv_at hl 8 rfl) ?_
                  refine lv_iload hx hb dX11_line_150 (lv_at hl 9 rfl) ?_
                  refine lv_iload hx hb dX11_line_152 (lv_at hl 10 rfl) ?_
                  refine cc_0 (va_runV (b := s0.heap.size + 104) (As := [.int (nI (12 * pa + ch)), .int nn, .int xf, .int xt]) (rest := []) ⟨hx, hb, hml, hown, hts⟩ (ct_X11_setLine (ln := (12 * pa + ch)) hE ⟨_, hR⟩ (by omega) nn xf xt) (cwV 4 hts (lw_V q1004 q1006 qs25 q61 q1007) rfl rfl rfl (by decide +kernel) ⟨Nat.le_of_ble_eq_true rfl, Nat.le_of_ble_eq_true rfl⟩) (cc_pV hW0 (cc_re hK hR.mo (show gcl[10]? = _ from rfl))) rfl rfl hl.1 rfl (lv_room (Nat.le_of_ble_eq_true rfl)) dX11_line_154 ⟨Nat.le_of_ble_eq_true rfl, Nat.le_of_ble_eq_true rfl⟩) hL (fun H locs hP1 hL => ?_)
                  obtain ⟨Y, hR⟩ := hP1
                  refine lv_aload_n hx hb dX11_line_157 rfl (lv_at hl 5 rfl) ?_
                  refine cc_v (va_runV (b := s0.heap.size + 104) (As := []) (rest := []) ⟨hx, hb, hml, hown, hts⟩ (ct_X11_isSound hE ⟨_, hR⟩) (cwV 0 hts (lw_V q1008 q1010 qs26 q61 q1011) rfl rfl rfl (by decide +kernel) ⟨Nat.le_of_ble_eq_true rfl, Nat.le_of_ble_eq_true rfl⟩) (cc_pV hW0 (cc_re hK hR.mo (show gcl[10]? = _ from rfl))) rfl rfl hl.1 rfl (lv_room (Nat.le_of_ble_eq_true rfl)) dX11_line_158 ⟨Nat.le_of_ble_eq_true rfl, Nat.le_of_ble_eq_true rfl⟩) hL (fun H locs hP1 hL => ?_)
                  subst hP1
                  refine lv_if_ne (tgt := 182) hx hb dX11_line_161 (by decide) (fun c161 => ?_) (fun c161 => ?_)
                  · refine lv_aload_n hx hb dX11_line_182 rfl (lv_at hl 5 rfl) ?_
                    refine lv_iload_n hx hb dX11_line_183 rfl (lv_at hl 7 rfl) ?_
                    refine cc_0 (va_runV (b := s0.heap.size + 104) (As := [.int (nI ch)]) (rest := []) ⟨hx, hb, hml, hown, hts⟩ (ct_X11_tell hE ⟨_, hR⟩ ch hch) (cwV 1 hts (lw_V q987 q989 qs24 q61 q990) rfl rfl rfl (by decide +kernel) ⟨Nat.le_of_ble_eq_true rfl, Nat.le_of_ble_eq_true rfl⟩) (cc_pV hW0 (cc_re hK hR.mo (show gcl[10]? = _ from rfl))) rfl rfl hl.1 rfl (lv_room (Nat.le_of_ble_eq_true rfl)) dX11_line_184 ⟨Nat.le_of_ble_eq_true rfl, Nat.le_of_ble_eq_true rfl⟩) hL (fun H locs hP1 hL => ?_)
                    obtain ⟨Y, hR⟩ := hP1
                    exact W.vret hx hb hr (fun t ht hW => ⟨rfl, by rw [ht]; exact (RR_M (by rw [hm]; unfold m_line1; rw [if_neg hno, if_pos (bZ_1.mp c161)]) ⟨_, hR⟩)⟩) hL dX11_line_187
                  · refine lv_aload_n hx hb dX11_line_164 rfl (lv_at hl 5 rfl) ?_
                    refine lv_iload hx hb dX11_line_165 (lv_at hl 3 rfl) ?_
                    refine lv_iload hx hb dX11_line_167 (lv_at hl 2 rfl) ?_
                    refine lv_iload hx hb dX11_line_169 (lv_at hl 1 rfl) ?_
                    refine lv_iload hx hb dX11_line_171 (lv_at hl 0 rfl) ?_
                    refine cc_0 (va_runV (b := s0.heap.size + 104) (As := [.int (nI (12 * pa + ch)), .int (mI M 10 (12 * pa + ch)), .int (mI M 11 (12 * pa + ch)), .int (mI M 12 (12 * pa + ch))]) (rest := []) ⟨hx, hb, hml, hown, hts⟩ (ct_X11_setLine (ln := (12 * pa + ch)) hE ⟨_, hR⟩ (by omega) (mI M 10 (12 * pa + ch)) (mI M 11 (12 * pa + ch)) (mI M 12 (12 * pa + ch))) (cwV 4 hts (lw_V q1004 q1006 qs25 q61 q1007) rfl rfl rfl (by decide +kernel) ⟨Nat.le_of_ble_eq_true rfl, Nat.le_of_ble_eq_true rfl⟩) (cc_pV hW0 (cc_re hK hR.mo (show gcl[10]? = _ from rfl))) rfl rfl hl.1 rfl (lv_room (Nat.le_of_ble_eq_true rfl)) dX11_line_173 ⟨Nat.le_of_ble_eq_true rfl, Nat.le_of_ble_eq_true rfl⟩) hL (fun H locs hP1 hL => ?_)
                    obtain ⟨Y, hR⟩ := hP1
                    refine lv_aload_n hx hb dX11_line_176 rfl (lv_at hl 5 rfl) ?_
                    refine lv_iconst (v := 3) hx hb dX11_line_177 (by decide) ?_
                    refine gx_put (D := D) (cl := gcl) (ci := 10) (v := .int 3) (ty := .int) (C := RX11) (T := TX11) (N := 27) hx hb hts in_X11 tyX11 tyX11_ok nmX11 hown hK hR.mo rfl 0 (by decide) (hts _ q886) (fun _ h9 => h9) rfl (by decide +kernel) (rfl) rfl (Nat.le_of_ble_eq_true rfl) hL (by (try simp only [aI, aA, aT, aB, aL, mad]); omega) dX11_line_178 (fun H locs hU hA hL => ?_)
                    have hR := GRb.pMS (j := 0) (by decide) hR hU hA
                    exact W.vret hx hb hr (fun t ht hW => ⟨rfl, by rw [ht]; exact (RR_M (by rw [hm]; unfold m_line1; rw [if_neg hno, if_neg (by rw [bZ_0.mp c161]; decide)]; rfl) ⟨_, hR⟩)⟩) hL dX11_line_181
                · exact absurd c142 (by decide)
              · refine lv_iload hx hb dX11_line_120 (lv_at hl 2 rfl) ?_
                refine lv_if_ne (tgt := 138) hx hb dX11_line_122 (by decide) (fun c122 => ?_) (fun c122 => ?_)
                · have hno : ¬ (0 < nn ∧ mI M 10 (12 * pa + ch) = 0 ∧ mS M 14 = 24) := fun q => c122 q.2.1
                  refine lv_iconst (v := 0) hx hb dX11_line_138 (by decide) ?_
                  refine cc_v (va_runV (b := s0.heap.size + 104) (As := [.int 0]) (rest := []) ⟨hx, hb, hml, hown, hts⟩ (ct_X11_refused hE ⟨_, hR⟩ 0) (cwV 1 hts (lw_V q983 q985 qs23 q61 q986) rfl rfl rfl (by decide +kernel) ⟨Nat.le_of_ble_eq_true rfl, Nat.le_of_ble_eq_true rfl⟩) (cc_pV hW0 (cc_re hK hR.mo (show gcl[10]? = _ from rfl))) rfl rfl hl.1 rfl (lv_room (Nat.le_of_ble_eq_true rfl)) dX11_line_139 ⟨Nat.le_of_ble_eq_true rfl, Nat.le_of_ble_eq_true rfl⟩) hL (fun H locs hP1 hL => ?_)
                  obtain ⟨Y, hR⟩ := hP1
                  have hR := GR_M (M := (mz (mz M 0 0) 0 0)) (M' := (mz M 0 0)) (mz_mz M 0 0 0) hR
                  refine lv_if_eq (tgt := 146) hx hb dX11_line_142 (by decide) (fun c142 => ?_) (fun c142 => ?_)
                  · refine lv_aload_n hx hb dX11_line_146 rfl (lv_at hl 5 rfl) ?_
                    refine lv_iload hx hb dX11_line_147 (lv_at hl 3 rfl) ?_
                    refine lv_iload_n hx hb dX11_line_149 rfl (lv_at hl 8 rfl) ?_
                    refine lv_iload hx hb dX11_line_150 (lv_at hl 9 rfl) ?_
                    refine lv_iload hx hb dX11_line_152 (lv_at hl 10 rfl) ?_
                    refine cc_0 (va_runV (b := s0.heap.size + 104) (As := [.int (nI (12 * pa + ch)), .int nn, .int xf, .int xt]) (rest := []) ⟨hx, hb, hml, hown, hts⟩ (ct_X11_setLine (ln := (12 * pa + ch)) hE ⟨_, hR⟩ (by omega) nn xf xt) (cwV 4 hts (lw_V q1004 q1006 qs25 q61 q1007) rfl rfl rfl (by decide +kernel) ⟨Nat.le_of_ble_eq_true rfl, Nat.le_of_ble_eq_true rfl⟩) (cc_pV hW0 (cc_re hK hR.mo (show gcl[10]? = _ from rfl))) rfl rfl hl.1 rfl (lv_room (Nat.le_of_ble_eq_true rfl)) dX11_line_154 ⟨Nat.le_of_ble_eq_true rfl, Nat.le_of_ble_eq_true rfl⟩) hL (fun H locs hP1 hL => ?_)
                    obtain ⟨Y, hR⟩ := hP1
                    refine lv_aload_n hx hb dX11_line_157 rfl (lv_at hl 5 rfl) ?_
                    refine cc_v (va_runV (b := s0.heap.size + 104) (As := []) (rest := []) ⟨hx, hb, hml, hown, hts⟩ (ct_X11_isSound hE ⟨_, hR⟩) (cwV 0 hts (lw_V q1008 q1010 qs26 q61 q1011) rfl rfl rfl (by decide +kernel) ⟨Nat.le_of_ble_eq_true rfl, Nat.le_of_ble_eq_true rfl⟩) (cc_pV hW0 (cc_re hK hR.mo (show gcl[10]? = _ from rfl))) rfl rfl hl.1 rfl (lv_room (Nat.le_of_ble_eq_true rfl)) dX11_line_158 ⟨Nat.le_of_ble_eq_true rfl, Nat.le_of_ble_eq_true rfl⟩) hL (fun H locs hP1 hL => ?_)
                    subst hP1
                    refine lv_if_ne (tgt := 182) hx hb dX11_line_161 (by decide) (fun c161 => ?_) (fun c161 => ?_)
                    · refine lv_aload_n hx hb dX11_line_182 rfl (lv_at hl 5 rfl) ?_
                      refine lv_iload_n hx hb dX11_line_183 rfl (lv_at hl 7 rfl) ?_
                      refine cc_0 (va_runV (b := s0.heap.size + 104) (As := [.int (nI ch)]) (rest := []) ⟨hx, hb, hml, hown, hts⟩ (ct_X11_tell hE ⟨_, hR⟩ ch hch) (cwV 1 hts (lw_V q987 q989 qs24 q61 q990) rfl rfl rfl (by decide +kernel) ⟨Nat.le_of_ble_eq_true rfl, Nat.le_of_ble_eq_true rfl⟩) (cc_pV hW0 (cc_re hK hR.mo (show gcl[10]? = _ from rfl))) rfl rfl hl.1 rfl (lv_room (Nat.le_of_ble_eq_true rfl)) dX11_line_184 ⟨Nat.le_of_ble_eq_true rfl, Nat.le_of_ble_eq_true rfl⟩) hL (fun H locs hP1 hL => ?_)
                      obtain ⟨Y, hR⟩ := hP1
                      exact W.vret hx hb hr (fun t ht hW => ⟨rfl, by rw [ht]; exact (RR_M (by rw [hm]; unfold m_line1; rw [if_neg hno, if_pos (bZ_1.mp c161)]) ⟨_, hR⟩)⟩) hL dX11_line_187
                    · refine lv_aload_n hx hb dX11_line_164 rfl (lv_at hl 5 rfl) ?_
                      refine lv_iload hx hb dX11_line_165 (lv_at hl 3 rfl) ?_
                      refine lv_iload hx hb dX11_line_167 (lv_at hl 2 rfl) ?_
                      refine lv_iload hx hb dX11_line_169 (lv_at hl 1 rfl) ?_
                      refine lv_iload hx hb dX11_line_171 (lv_at hl 0 rfl) ?_
                      refine cc_0 (va_runV (b := s0.heap.size + 104) (As := [.int (nI (12 * pa + ch)), .int (mI M 10 (12 * pa + ch)), .int (mI M 11 (12 * pa + ch)), .int (mI M 12 (12 * pa + ch))]) (rest := []) ⟨hx, hb, hml, hown, hts⟩ (ct_X11_setLine (ln := (12 * pa + ch)) hE ⟨_, hR⟩ (by omega) (mI M 10 (12 * pa + ch)) (mI M 11 (12 * pa + ch)) (mI M 12 (12 * pa + ch))) (cwV 4 hts (lw_V q1004 q1006 qs25 q61 q1007) rfl rfl rfl (by decide +kernel) ⟨Nat.le_of_ble_eq_true rfl, Nat.le_of_ble_eq_true rfl⟩) (cc_pV hW0 (cc_re hK hR.mo (show gcl[10]? = _ from rfl))) rfl rfl hl.1 rfl (lv_room (Nat.le_of_ble_eq_true rfl)) dX11_line_173 ⟨Nat.le_of_ble_eq_true rfl, Nat.le_of_ble_eq_true rfl⟩) hL (fun H locs hP1 hL => ?_)
                      obtain ⟨Y, hR⟩ := hP1
                      refine lv_aload_n hx hb dX11_line_176 rfl (lv_at hl 5 rfl) ?_
                      refine lv_iconst (v := 3) hx hb dX11_line_177 (by decide) ?_
                      refine gx_put (D := D) (cl := gcl) (ci := 10) (v := .int 3) (ty := .int) (C := RX11) (T := TX11) (N := 27) hx hb hts in_X11 tyX11 tyX11_ok nmX11 hown hK hR.mo rfl 0 (by decide) (hts _ q886) (fun _ h9 => h9) rfl (by decide +kernel) (rfl) rfl (Nat.le_of_ble_eq_true rfl) hL (by (try simp only [aI, aA, aT, aB, aL, mad]); omega) dX11_line_178 (fun H locs hU hA hL => ?_)
                      have hR := GRb.pMS (j := 0) (by decide) hR hU hA
                      exact W.vret hx hb hr (fun t ht hW => ⟨rfl, by rw [ht]; exact (RR_M (by rw [hm]; unfold m_line1; rw [if_neg hno, if_neg (by rw [bZ_0.mp c161]; decide)]; rfl) ⟨_, hR⟩)⟩) hL dX11_line_181
                  · exact absurd c142 (by decide)
                · refine lv_aload_n hx hb dX11_line_125 rfl (lv_at hl 5 rfl) ?_
                  refine gx_get (D := D) (cl := gcl) (ci := 10) (v := .int (mS (mz M 0 0) 14)) (C := RX11) (T := TX11) (N := 27) hx hb hts in_X11 hown hK hR.mo rfl 14 (by decide) (hts _ q900) (fun _ h9 => h9) rfl dX11_line_126 ?_
                  refine lv_bipush (v := 24) hx hb dX11_line_129 (by decide) ?_
                  refine lv_icmp_ne (tgt := 138) hx hb dX11_line_131 (by decide) (fun c131 => ?_) (fun c131 => ?_)
                  · have hno : ¬ (0 < nn ∧ mI M 10 (12 * pa + ch) = 0 ∧ mS M 14 = 24) := fun q => c131 q.2.2
                    refine lv_iconst (v := 0) hx hb dX11_line_138 (by decide) ?_
                    refine cc_v (va_runV (b := s0.heap.size + 104) (As := [.int 0]) (rest := []) ⟨hx, hb, hml, hown, hts⟩ (ct_X11_refused hE ⟨_, hR⟩ 0) (cwV 1 hts (lw_V q983 q985 qs23 q61 q986) rfl rfl rfl (by decide +kernel) ⟨Nat.le_of_ble_eq_true rfl, Nat.le_of_ble_eq_true rfl⟩) (cc_pV hW0 (cc_re hK hR.mo (show gcl[10]? = _ from rfl))) rfl rfl hl.1 rfl (lv_room (Nat.le_of_ble_eq_true rfl)) dX11_line_139 ⟨Nat.le_of_ble_eq_true rfl, Nat.le_of_ble_eq_true rfl⟩) hL (fun H locs hP1 hL => ?_)
                    obtain ⟨Y, hR⟩ := hP1
                    have hR := GR_M (M := (mz (mz M 0 0) 0 0)) (M' := (mz M 0 0)) (mz_mz M 0 0 0) hR
                    refine lv_if_eq (tgt := 146) hx hb dX11_line_142 (by decide) (fun c142 => ?_) (fun c142 => ?_)
                    · refine lv_aload_n hx hb dX11_line_146 rfl (lv_at hl 5 rfl) ?_
                      refine lv_iload hx hb dX11_line_147 (lv_at hl 3 rfl) ?_
                      refine lv_iload_n hx hb dX11_line_149 rfl (lv_at hl 8 rfl) ?_
                      refine lv_iload hx hb dX11_line_150 (lv_at hl 9 rfl) ?_
                      refine lv_iload hx hb dX11_line_152 (lv_at hl 10 rfl) ?_
                      refine cc_0 (va_runV (b := s0.heap.size + 104) (As := [.int (nI (12 * pa + ch)), .int nn, .int xf, .int xt]) (rest := []) ⟨hx, hb, hml, hown, hts⟩ (ct_X11_setLine (ln := (12 * pa + ch)) hE ⟨_, hR⟩ (by omega) nn xf xt) (cwV 4 hts (lw_V q1004 q1006 qs25 q61 q1007) rfl rfl rfl (by decide +kernel) ⟨Nat.le_of_ble_eq_true rfl, Nat.le_of_ble_eq_true rfl⟩) (cc_pV hW0 (cc_re hK hR.mo (show gcl[10]? = _ from rfl))) rfl rfl hl.1 rfl (lv_room (Nat.le_of_ble_eq_true rfl)) dX11_line_154 ⟨Nat.le_of_ble_eq_true rfl, Nat.le_of_ble_eq_true rfl⟩) hL (fun H locs hP1 hL => ?_)
                      obtain ⟨Y, hR⟩ := hP1
                      refine lv_aload_n hx hb dX11_line_157 rfl (lv_at hl 5 rfl) ?_
                      refine cc_v (va_runV (b := s0.heap.size + 104) (As := []) (rest := []) ⟨hx, hb, hml, hown, hts⟩ (ct_X11_isSound hE ⟨_, hR⟩) (cwV 0 hts (lw_V q1008 q1010 qs26 q61 q1011) rfl rfl rfl (by decide +kernel) ⟨Nat.le_of_ble_eq_true rfl, Nat.le_of_ble_eq_true rfl⟩) (cc_pV hW0 (cc_re hK hR.mo (show gcl[10]? = _ from rfl))) rfl rfl hl.1 rfl (lv_room (Nat.le_of_ble_eq_true rfl)) dX11_line_158 ⟨Nat.le_of_ble_eq_true rfl, Nat.le_of_ble_eq_true rfl⟩) hL (fun H locs hP1 hL => ?_)
                      subst hP1
                      refine lv_if_ne (tgt := 182) hx hb dX11_line_161 (by decide) (fun c161 => ?_) (fun c161 => ?_)
                      · refine lv_aload_n hx hb dX11_line_182 rfl (lv_at hl 5 rfl) ?_
                        refine lv_iload_n hx hb dX11_line_183 rfl (lv_at hl 7 rfl) ?_
                        refine cc_0 (va_runV (b := s0.heap.size + 104) (As := [.int (nI ch)]) (rest := []) ⟨hx, hb, hml, hown, hts⟩ (ct_X11_tell hE ⟨_, hR⟩ ch hch) (cwV 1 hts (lw_V q987 q989 qs24 q61 q990) rfl rfl rfl (by decide +kernel) ⟨Nat.le_of_ble_eq_true rfl, Nat.le_of_ble_eq_true rfl⟩) (cc_pV hW0 (cc_re hK hR.mo (show gcl[10]? = _ from rfl))) rfl rfl hl.1 rfl (lv_room (Nat.le_of_ble_eq_true rfl)) dX11_line_184 ⟨Nat.le_of_ble_eq_true rfl, Nat.le_of_ble_eq_true rfl⟩) hL (fun H locs hP1 hL => ?_)
                        obtain ⟨Y, hR⟩ := hP1
                        exact W.vret hx hb hr (fun t ht hW => ⟨rfl, by rw [ht]; exact (RR_M (by rw [hm]; unfold m_line1; rw [if_neg hno, if_pos (bZ_1.mp c161)]) ⟨_, hR⟩)⟩) hL dX11_line_187
                      · refine lv_aload_n hx hb dX11_line_164 rfl (lv_at hl 5 rfl) ?_
                        refine lv_iload hx hb dX11_line_165 (lv_at hl 3 rfl) ?_
                        refine lv_iload hx hb dX11_line_167 (lv_at hl 2 rfl) ?_
                        refine lv_iload hx hb dX11_line_169 (lv_at hl 1 rfl) ?_
                        refine lv_iload hx hb dX11_line_171 (lv_at hl 0 rfl) ?_
                        refine cc_0 (va_runV (b := s0.heap.size + 104) (As := [.int (nI (12 * pa + ch)), .int (mI M 10 (12 * pa + ch)), .int (mI M 11 (12 * pa + ch)), .int (mI M 12 (12 * pa + ch))]) (rest := []) ⟨hx, hb, hml, hown, hts⟩ (ct_X11_setLine (ln := (12 * pa + ch)) hE ⟨_, hR⟩ (by omega) (mI M 10 (12 * pa + ch)) (mI M 11 (12 * pa + ch)) (mI M 12 (12 * pa + ch))) (cwV 4 hts (lw_V q1004 q1006 qs25 q61 q1007) rfl rfl rfl (by decide +kernel) ⟨Nat.le_of_ble_eq_true rfl, Nat.le_of_ble_eq_true rfl⟩) (cc_pV hW0 (cc_re hK hR.mo (show gcl[10]? = _ from rfl))) rfl rfl hl.1 rfl (lv_room (Nat.le_of_ble_eq_true rfl)) dX11_line_173 ⟨Nat.le_of_ble_eq_true rfl, Nat.le_of_ble_eq_true rfl⟩) hL (fun H locs hP1 hL => ?_)
                        obtain ⟨Y, hR⟩ := hP1
                        refine lv_aload_n hx hb dX11_line_176 rfl (lv_at hl 5 rfl) ?_
                        refine lv_iconst (v := 3) hx hb dX11_line_177 (by decide) ?_
                        refine gx_put (D := D) (cl := gcl) (ci := 10) (v := .int 3) (ty := .int) (C := RX11) (T := TX11) (N := 27) hx hb hts in_X11 tyX11 tyX11_ok nmX11 hown hK hR.mo rfl 0 (by decide) (hts _ q886) (fun _ h9 => h9) rfl (by decide +kernel) (rfl) rfl (Nat.le_of_ble_eq_true rfl) hL (by (try simp only [aI, aA, aT, aB, aL, mad]); omega) dX11_line_178 (fun H locs hU hA hL => ?_)
                        have hR := GRb.pMS (j := 0) (by decide) hR hU hA
                        exact W.vret hx hb hr (fun t ht hW => ⟨rfl, by rw [ht]; exact (RR_M (by rw [hm]; unfold m_line1; rw [if_neg hno, if_neg (by rw [bZ_0.mp c161]; decide)]; rfl) ⟨_, hR⟩)⟩) hL dX11_line_181
                    · exact absurd c142 (by decide)
                  · refine lv_iconst (v := 3) hx hb dX11_line_134 (by decide) ?_
                    refine lv_goto (tgt := 139) hx hb dX11_line_135 (by decide) ?_
                    refine cc_v (va_runV (b := s0.heap.size + 104) (As := [.int 3]) (rest := []) ⟨hx, hb, hml, hown, hts⟩ (ct_X11_refused hE ⟨_, hR⟩ 3) (cwV 1 hts (lw_V q983 q985 qs23 q61 q986) rfl rfl rfl (by decide +kernel) ⟨Nat.le_of_ble_eq_true rfl, Nat.le_of_ble_eq_true rfl⟩) (cc_pV hW0 (cc_re hK hR.mo (show gcl[10]? = _ from rfl))) rfl rfl hl.1 rfl (lv_room (Nat.le_of_ble_eq_true rfl)) dX11_line_139 ⟨Nat.le_of_ble_eq_true rfl, Nat.le_of_ble_eq_true rfl⟩) hL (fun H locs hP1 hL => ?_)
                    obtain ⟨Y, hR⟩ := hP1
                    have hR := GR_M (M := (mz (mz M 0 0) 0 3)) (M' := (mz M 0 3)) (mz_mz M 0 0 3) hR
                    refine lv_if_eq (tgt := 146) hx hb dX11_line_142 (by decide) (fun c142 => ?_) (fun c142 => ?_)
                    · exact absurd c142 (by decide)
                    · exact W.vret hx hb hr (fun t ht hW => ⟨rfl, by rw [ht]; exact (RR_M (by rw [hm]; unfold m_line1; rw [if_pos ⟨i_nle c117, c122, c131⟩]) ⟨_, hR⟩)⟩) hL dX11_line_145
            · exact absurd c76 (by decide)
          · refine lv_iconst (v := 2) hx hb dX11_line_68 (by decide) ?_
            refine lv_goto (tgt := 73) hx hb dX11_line_69 (by decide) ?_
            refine cc_v (va_runV (b := s0.heap.size + 104) (As := [.int 2]) (rest := []) ⟨hx, hb, hml, hown, hts⟩ (ct_X11_refused hE ⟨_, hR⟩ 2) (cwV 1 hts (lw_V q983 q985 qs23 q61 q986) rfl rfl rfl (by decide +kernel) ⟨Nat.le_of_ble_eq_true rfl, Nat.le_of_ble_eq_true rfl⟩) (cc_pV hW0 (cc_re hK hR.mo (show gcl[10]? = _ from rfl))) rfl rfl hl.1 rfl (lv_room (Nat.le_of_ble_eq_true rfl)) dX11_line_73 ⟨Nat.le_of_ble_eq_true rfl, Nat.le_of_ble_eq_true rfl⟩) hL (fun H locs hP1 hL => ?_)
            obtain ⟨Y, hR⟩ := hP1
            refine lv_if_eq (tgt := 80) hx hb dX11_line_76 (by decide) (fun c76 => ?_) (fun c76 => ?_)
            · exact absurd c76 (by decide)
            · exact W.vret hx hb hr (fun t ht hW => ⟨rfl, by rw [ht]; exact (RR_M (by unfold m_line; rw [show x_line xp xq nn xf xt = 2 by unfold x_line; rw [bZ_1.mp c39, bZ_1.mp c46, bZ_0.mp c65, Bool.and_false]; rfl]; rfl) ⟨_, hR⟩)⟩) hL dX11_line_79
      · refine lv_iconst (v := 1) hx hb dX11_line_49 (by decide) ?_
        refine lv_goto (tgt := 73) hx hb dX11_line_50 (by decide) ?_
        refine cc_v (va_runV (b := s0.heap.size + 104) (As := [.int 1]) (rest := []) ⟨hx, hb, hml, hown, hts⟩ (ct_X11_refused hE ⟨_, hR⟩ 1) (cwV 1 hts (lw_V q983 q985 qs23 q61 q986) rfl rfl rfl (by decide +kernel) ⟨Nat.le_of_ble_eq_true rfl, Nat.le_of_ble_eq_true rfl⟩) (cc_pV hW0 (cc_re hK hR.mo (show gcl[10]? = _ from rfl))) rfl rfl hl.1 rfl (lv_room (Nat.le_of_ble_eq_true rfl)) dX11_line_73 ⟨Nat.le_of_ble_eq_true rfl, Nat.le_of_ble_eq_true rfl⟩) hL (fun H locs hP1 hL => ?_)
        obtain ⟨Y, hR⟩ := hP1
        refine lv_if_eq (tgt := 80) hx hb dX11_line_76 (by decide) (fun c76 => ?_) (fun c76 => ?_)
        · exact absurd c76 (by decide)
        · exact W.vret hx hb hr (fun t ht hW => ⟨rfl, by rw [ht]; exact (RR_M (by unfold m_line; rw [show x_line xp xq nn xf xt = 1 by unfold x_line; rw [bZ_0.mp c46, Bool.and_false]; rfl]; rfl) ⟨_, hR⟩)⟩) hL dX11_line_79
  refine lv_iload_n hx hb dX11_line_0 rfl (lv_at hl 3 rfl) ?_
  refine lv_if_eq (tgt := 27) hx hb dX11_line_1 (by decide) (fun c1 => ?_) (fun c1 => ?_)
  · refine lv_iconst (v := 1) hx hb dX11_line_27 (by decide) ?_
    refine lv_goto (tgt := 32) hx hb dX11_line_28 (by decide) ?_
    refine gx_ti (bZ (x_wks nn xf xt)) ((bZ_t (by unfold x_wks; rw [decide_eq_true c1]; rfl)).symm) ?_
    exact j32 _ _ (lv_sub hl [0, 1, 2, 3, 4, 5] rfl) hL
  · refine lv_iload hx hb dX11_line_4 (lv_at hl 4 rfl) ?_
    refine cc_v (va_runS (As := [.int xf]) (rest := []) ⟨hx, hb, hml, hown, hts⟩ (ct_X11_isTwelve hE xf) (va_cwS 1 hts (lw_S q980 q981 q61 q982) rfl rfl rfl (by decide +kernel) ⟨Nat.le_of_ble_eq_true rfl, Nat.le_of_ble_eq_true rfl⟩) (cc_pS hW0) rfl rfl hl.1 rfl (lv_room (Nat.le_of_ble_eq_true rfl)) dX11_line_6 ⟨Nat.le_of_ble_eq_true rfl, Nat.le_of_ble_eq_true rfl⟩) hL (fun H locs hP1 hL => ?_)
    subst hP1
    refine lv_if_eq (tgt := 31) hx hb dX11_line_9 (by decide) (fun c9 => ?_) (fun c9 => ?_)
    · refine lv_iconst (v := 0) hx hb dX11_line_31 (by decide) ?_
      refine gx_ti (bZ (x_wks nn xf xt)) ((bZ_f (by unfold x_wks; rw [decide_eq_false c1, bZ_0.mp c9]; rfl)).symm) ?_
      exact j32 _ _ (lv_sub hl [0, 1, 2, 3, 4, 5] rfl) hL
    · refine lv_iload hx hb dX11_line_12 (lv_at hl 5 rfl) ?_
      refine cc_v (va_runS (As := [.int xt]) (rest := []) ⟨hx, hb, hml, hown, hts⟩ (ct_X11_isTwelve hE xt) (va_cwS 1 hts (lw_S q980 q981 q61 q982) rfl rfl rfl (by decide +kernel) ⟨Nat.le_of_ble_eq_true rfl, Nat.le_of_ble_eq_true rfl⟩) (cc_pS hW0) rfl rfl hl.1 rfl (lv_room (Nat.le_of_ble_eq_true rfl)) dX11_line_14 ⟨Nat.le_of_ble_eq_true rfl, Nat.le_of_ble_eq_true rfl⟩) hL (fun H locs hP1 hL => ?_)
      subst hP1
      refine lv_if_eq (tgt := 31) hx hb dX11_line_17 (by decide) (fun c17 => ?_) (fun c17 => ?_)
      · refine lv_iconst (v := 0) hx hb dX11_line_31 (by decide) ?_
        refine gx_ti (bZ (x_wks nn xf xt)) ((bZ_f (by unfold x_wks; rw [decide_eq_false c1, bZ_0.mp c17, Bool.and_false]; rfl)).symm) ?_
        exact j32 _ _ (lv_sub hl [0, 1, 2, 3, 4, 5] rfl) hL
      · refine lv_iload hx hb dX11_line_20 (lv_at hl 4 rfl) ?_
        refine lv_iload hx hb dX11_line_22 (lv_at hl 5 rfl) ?_
        refine lv_icmp_gt (tgt := 31) hx hb dX11_line_24 (by decide) (fun c24 => ?_) (fun c24 => ?_)
        · refine lv_iconst (v := 0) hx hb dX11_line_31 (by decide) ?_
          refine gx_ti (bZ (x_wks nn xf xt)) ((bZ_f (by unfold x_wks; rw [decide_eq_false c1, decide_eq_false (Int32.not_le.mpr c24), Bool.and_false]; rfl)).symm) ?_
          exact j32 _ _ (lv_sub hl [0, 1, 2, 3, 4, 5] rfl) hL
        · refine lv_iconst (v := 1) hx hb dX11_line_27 (by decide) ?_
          refine lv_goto (tgt := 32) hx hb dX11_line_28 (by decide) ?_
          refine gx_ti (bZ (x_wks nn xf xt)) ((bZ_t (by unfold x_wks; rw [bZ_1.mp c9, bZ_1.mp c17, decide_eq_true (i_nlt c24)]; simp)).symm) ?_
          exact j32 _ _ (lv_sub hl [0, 1, 2, 3, 4, 5] rfl) hL
set_option maxHeartbeats 4000000 in
set_option maxRecDepth 100000 in
/-- replan -/
theorem ct_X11_replan {l : Launch} {s0 : State} {D : va_G} {DA : Nat → ClassId} {z0 : Nat} {C : CS} {M : MS} {o : Int64} {H : Heap} (hE : G0 l s0 D DA z0) (hR : RR s0 D DA z0 C M o H) (hC : MC M) : Met l yX11_replan (ws_ yX11_replan cX11_replan 4 (some .int)) ({ frames := 6, cells := 0, slots := 0, locals := 146 }) (cP s0 [.ref (s0.heap.size + 104)] H) (cQv (.int (m_rpr M)) (fun H1 => RR s0 D DA z0 C (m_rp M) o H1)) 0 0 (cF s0) := by
  refine Met.ofW (cc := cX11_replan) (maxL := 4) (ret := (some .int)) (by decide) rfl ?_
  intro p e s m args below meth c s₁ Bd hml hv
  obtain ⟨rfl, rfl, hW0⟩ := hv
  have hx := Bd.exec
  have hb := Bd.bytes
  have hr := Bd.returns
  have hts := atoms_spec (ws := (ws_ yX11_replan cX11_replan 4 (some .int))) Bd.pre
  have hts : ∀ w ∈ lw_all, w.before _ s = true := fun w h => hts w (List.mem_cons_of_mem _ h)
  have hown : s.vm.findClass RX11 = some m.cls := findClass_of_methodNamed Bd.named
  have hlocks := Bd.notSynchronized
  have hK := va_K.moved hW0.alike hE.K
  have hL : gx_L s0.heap.size ([] : List Loc) := gx_L0
  obtain ⟨Y, hR⟩ := hR
  have hl := lv_entry ([.ref (s0.heap.size + 104)]) (n := 4) (Nat.le_of_ble_eq_true rfl)
  rw [lg_entry_eq]
  generalize (lg_sl ([.ref (s0.heap.size + 104)]) ++ List.replicate (4 - (lg_sl ([.ref (s0.heap.size + 104)])).length) Slot.unset).toArray = ls at hl ⊢
  have hl : lv_has ls 4 [(0, .ref (s0.heap.size + 104))] := hl
  have key : ∀ (n : Nat) (Y : YS) (lev : Nat) (H : Heap) (locs : List Loc) (ls : Array Slot), lev ≤ 5 → 5 < lev + n → lv_has ls 4 [(1, .int (nI ((m_r2 M lev).2))), (2, .int (nI lev)), (0, .ref (s0.heap.size + 104))] → gx_L s0.heap.size locs → GRb s0.heap.size s0.heap D DA z0 Y C ((m_r2 M lev).1) o H → W p l e (headSpec (ws_ yX11_replan cX11_replan 4 (some .int)) ({ frames := 6, cells := 0, slots := 0, locals := 146 })).room s m ([.ref (s0.heap.size + 104)] : List Value).toArray below meth c H locs 0 0 (MQ below (cQv (.int (m_rpr M)) (fun H1 => RR s0 D DA z0 C (m_rp M) o H1)) ([.ref (s0.heap.size + 104)] : List Value).toArray s 0 0 (cF s0)) (F0 m 9 ls []) := by
    intro n
    induction n with
    | zero =>
      intro Y lev H locs ls hk hn hl hL hR
      omega
    | succ n ih =>
      intro Y lev H locs ls hk hn hl hL hR
      refine lv_iload_n hx hb dX11_replan_9 rfl (lv_at hl 1 rfl) ?_
      refine lv_iconst (v := 5) hx hb dX11_replan_10 (by decide) ?_
      refine lv_icmp_ge (tgt := 59) hx hb dX11_replan_11 (by decide) (fun c11 => ?_) (fun c11 => ?_)
      · have hkc : lev = 5 := by have := n_ge (b := 5) c11 (by omega) (by omega); omega
        subst hkc
        refine lv_aload_n hx hb dX11_replan_59 rfl (lv_at hl 2 rfl) ?_
        refine lv_iconst (v := 1) hx hb dX11_replan_60 (by decide) ?_
        refine gx_put (D := D) (cl := gcl) (ci := 10) (v := .int 1) (ty := .boolean) (C := RX11) (T := TX11) (N := 27) hx hb hts in_X11 tyX11 tyX11_ok nmX11 hown hK hR.mo rfl 19 (by decide) (hts _ q905) (fun _ h9 => h9) rfl (by decide +kernel) (rfl) rfl (Nat.le_of_ble_eq_true rfl) hL (by (try simp only [aI, aA, aT, aB, aL, mad]); omega) dX11_replan_61 (fun H locs hU hA hL => ?_)
        have hR := GRb.pMS (j := 19) (by decide) hR hU hA
        refine lv_aload_n hx hb dX11_replan_64 rfl (lv_at hl 2 rfl) ?_
        refine lv_iconst (v := 0) hx hb dX11_replan_65 (by decide) ?_
        refine gx_put (D := D) (cl := gcl) (ci := 10) (v := .int 0) (ty := .boolean) (C := RX11) (T := TX11) (N := 27) hx hb hts in_X11 tyX11 tyX11_ok nmX11 hown hK hR.mo rfl 20 (by decide) (hts _ q906) (fun _ h9 => h9) rfl (by decide +kernel) (rfl) rfl (Nat.le_of_ble_eq_true rfl) hL (by (try simp only [aI, aA, aT, aB, aL, mad]); omega) dX11_replan_66 (fun H locs hU hA hL => ?_)
        have hR := GRb.pMS (j := 20) (by decide) hR hU hA
        refine lv_iload_n hx hb dX11_replan_69 rfl (lv_at hl 0 rfl) ?_
        exact W.iret (v := (nI ((m_r2 M 5).2))) hx hb hr (fun t ht hW => ⟨rfl, by rw [ht]; exact ⟨_, hR⟩⟩) hL dX11_replan_70
      · have hkl : lev < 5 := by have := n_lt (b := 5) c11 (by omega) (by omega); omega
        have key2 : ∀ (n : Nat) (Y : YS) (k : Nat) (H : Heap) (locs : List Loc) (ls : Array Slot), k ≤ 12 → 12 < k + n → lv_has ls 4 [(1, .int (nI ((m_r1 (m_r2 M lev) lev k).2))), (3, .int (nI k)), (2, .int (nI lev)), (0, .ref (s0.heap.size + 104))] → gx_L s0.heap.size locs → GRb s0.heap.size s0.heap D DA z0 Y C ((m_r1 (m_r2 M lev) lev k).1) o H → W p l e (headSpec (ws_ yX11_replan cX11_replan 4 (some .int)) ({ frames := 6, cells := 0, slots := 0, locals := 146 })).room s m ([.ref (s0.heap.size + 104)] : List Value).toArray below meth c H locs 0 0 (MQ below (cQv (.int (m_rpr M)) (fun H1 => RR s0 D DA z0 C (m_rp M) o H1)) ([.ref (s0.heap.size + 104)] : List Value).toArray s 0 0 (cF s0)) (F0 m 16 ls []) := by
          intro n
          induction n with
          | zero =>
            intro Y k H locs ls hk hn2 hl hL hR
            omega
          | succ n ih2 =>
            intro Y k H locs ls hk hn2 hl hL hR
            refine lv_iload_n hx hb dX11_replan_16 rfl (lv_at hl 1 rfl) ?_
            refine lv_bipush (v := 12) hx hb dX11_replan_17 (by decide) ?_
            refine lv_icmp_ge (tgt := 53) hx hb dX11_replan_19 (by decide) (fun c19 => ?_) (fun c19 => ?_)
            · have hkc : k = 12 := by have := n_ge (b := 12) c19 (by omega) (by omega); omega
              subst hkc
              refine lv_iinc (v := nI (lev + 1)) (lv' := [(2, .int (nI (lev + 1))), (1, .int (nI ((m_r1 (m_r2 M lev) lev 12).2))), (3, .int (nI 12)), (0, .ref (s0.heap.size + 104))]) hx hb dX11_replan_53 hl (k := 2) rfl (nI_1 lev) (by decide) rfl (fun ls hl => ?_)
              refine lv_goto (tgt := 9) hx hb dX11_replan_56 (by decide) ?_
              exact ih Y (lev + 1) _ _ _ (by omega) (by omega) (lv_sub hl [1, 0, 3] rfl) hL hR
            · have hkc : k < 12 := by have := n_lt (b := 12) c19 (by omega) (by omega); omega
              refine lv_aload_n hx hb dX11_replan_22 rfl (lv_at hl 3 rfl) ?_
              refine lv_iload_n hx hb dX11_replan_23 rfl (lv_at hl 1 rfl) ?_
              refine cc_v (va_runV (b := s0.heap.size + 104) (As := [.int (nI k)]) (rest := []) ⟨hx, hb, hml, hown, hts⟩ (ct_X11_levelOf (i := k) hE ⟨_, hR⟩ hkc) (cwV 1 hts (lw_V q1012 q1014 qs27 q61 q1015) rfl rfl rfl (by decide +kernel) ⟨Nat.le_of_ble_eq_true rfl, Nat.le_of_ble_eq_true rfl⟩) (cc_pV hW0 (cc_re hK hR.mo (show gcl[10]? = _ from rfl))) rfl rfl hl.1 rfl (lv_room (Nat.le_of_ble_eq_true rfl)) dX11_replan_24 ⟨Nat.le_of_ble_eq_true rfl, Nat.le_of_ble_eq_true rfl⟩) hL (fun H locs hP1 hL => ?_)
              subst hP1
              refine lv_iload_n hx hb dX11_replan_27 rfl (lv_at hl 2 rfl) ?_
              refine lv_icmp_ne (tgt := 47) hx hb dX11_replan_28 (by decide) (fun c28 => ?_) (fun c28 => ?_)
              · refine lv_iinc (v := nI (k + 1)) (lv' := [(3, .int (nI (k + 1))), (1, .int (nI ((m_r1 (m_r2 M lev) lev k).2))), (2, .int (nI lev)), (0, .ref (s0.heap.size + 104))]) hx hb dX11_replan_47 hl (k := 1) rfl (nI_1 k) (by decide) rfl (fun ls hl => ?_)
                refine lv_goto (tgt := 16) hx hb dX11_replan_50 (by decide) ?_
                have hR := GR_M (M := (m_r1 (m_r2 M lev) lev k).1) (M' := (m_r1 (m_r2 M lev) lev (k + 1)).1) ((congrArg Prod.fst (m_rs_f c28)).symm) hR
                have hl : lv_has ls 4 [(3, .int (nI (k + 1))), (1, .int (nI ((m_r1 (m_r2 M lev) lev (k + 1)).2))), (2, .int (nI lev)), (0, .ref (s0.heap.size + 104))] := by rw [show (m_r1 (m_r2 M lev) lev (k + 1)) = (m_r1 (m_r2 M lev) lev k) from m_rs_f c28]; exact hl
                exact ih2 Y (k + 1) _ _ _ (by omega) (by omega) (lv_sub hl [1, 0, 2, 3] rfl) hL hR
              · refine lv_aload_n hx hb dX11_replan_31 rfl (lv_at hl 3 rfl) ?_
                refine lv_iload_n hx hb dX11_replan_32 rfl (lv_at hl 1 rfl) ?_
                refine cc_v (va_runV (b := s0.heap.size + 104) (As := [.int (nI k)]) (rest := []) ⟨hx, hb, hml, hown, hts⟩ (ct_X11_net (i := k) hE ⟨_, hR⟩ hkc (m_r1_MC (m_r2_MC hC lev) lev k)) (cwV 1 hts (lw_V q1044 q1046 qs30 q61 q1047) rfl rfl rfl (by decide +kernel) ⟨Nat.le_of_ble_eq_true rfl, Nat.le_of_ble_eq_true rfl⟩) (cc_pV hW0 (cc_re hK hR.mo (show gcl[10]? = _ from rfl))) rfl rfl hl.1 rfl (lv_room (Nat.le_of_ble_eq_true rfl)) dX11_replan_33 ⟨Nat.le_of_ble_eq_true rfl, Nat.le_of_ble_eq_true rfl⟩) hL (fun H locs hP1 hL => ?_)
                obtain ⟨Y, hR⟩ := hP1
                have hR := GR_M (M := (m_net (m_r1 (m_r2 M lev) lev k).1 k)) (M' := (m_r1 (m_r2 M lev) lev (k + 1)).1) ((congrArg Prod.fst (m_rs_t c28)).symm) hR
                refine lv_if_eq (tgt := 45) hx hb dX11_replan_36 (by decide) (fun c36 => ?_) (fun c36 => ?_)
                · refine lv_iload_n hx hb dX11_replan_45 rfl (lv_at hl 0 rfl) ?_
                  refine gx_ti (nI (m_r1 (m_r2 M lev) lev (k + 1)).2) (by rw [m_r1, m_rs_t c28]; show _ = nI (if _ then _ else _); rw [if_neg (by rw [bZ_0.mp c36]; decide)]) ?_
                  refine lv_istore_n (lv' := [(1, .int (nI (m_r1 (m_r2 M lev) lev (k + 1)).2)), (3, .int (nI k)), (2, .int (nI lev)), (0, .ref (s0.heap.size + 104))]) hx hb dX11_replan_46 rfl hl (by decide) rfl (fun ls hl => ?_)
                  refine lv_iinc (v := nI (k + 1)) (lv' := [(3, .int (nI (k + 1))), (1, .int (nI (m_r1 (m_r2 M lev) lev (k + 1)).2)), (2, .int (nI lev)), (0, .ref (s0.heap.size + 104))]) hx hb dX11_replan_47 hl (k := 1) rfl (nI_1 k) (by decide) rfl (fun ls hl => ?_)
                  refine lv_goto (tgt := 16) hx hb dX11_replan_50 (by decide) ?_
                  exact ih2 Y (k + 1) _ _ _ (by omega) (by omega) (lv_sub hl [1, 0, 2, 3] rfl) hL hR
                · refine lv_iload_n hx hb dX11_replan_39 rfl (lv_at hl 0 rfl) ?_
                  refine lv_iconst (v := 1) hx hb dX11_replan_40 (by decide) ?_
                  refine lv_iadd hx hb dX11_replan_41 ?_
                  refine gx_ti (nI ((m_r1 (m_r2 M lev) lev k).2 + 1)) (nI_add ((m_r1 (m_r2 M lev) lev k).2) 1) ?_
                  refine lv_goto (tgt := 46) hx hb dX11_replan_42 (by decide) ?_
                  refine gx_ti (nI (m_r1 (m_r2 M lev) lev (k + 1)).2) (by rw [m_r1, m_rs_t c28]; show _ = nI (if _ then _ else _); rw [if_pos (bZ_1.mp c36)]) ?_
                  refine lv_istore_n (lv' := [(1, .int (nI (m_r1 (m_r2 M lev) lev (k + 1)).2)), (3, .int (nI k)), (2, .int (nI lev)), (0, .ref (s0.heap.size + 104))]) hx hb dX11_replan_46 rfl hl (by decide) rfl (fun ls hl => ?_)
                  refine lv_iinc (v := nI (k + 1)) (lv' := [(3, .int (nI (k + 1))), (1, .int (nI (m_r1 (m_r2 M lev) lev (k + 1)).2)), (2, .int (nI lev)), (0, .ref (s0.heap.size + 104))]) hx hb dX11_replan_47 hl (k := 1) rfl (nI_1 k) (by decide) rfl (fun ls hl => ?_)
                  refine lv_goto (tgt := 16) hx hb dX11_replan_50 (by decide) ?_
                  exact ih2 Y (k + 1) _ _ _ (by omega) (by omega) (lv_sub hl [1, 0, 2, 3] rfl) hL hR
        refine lv_iconst (v := 0) hx hb dX11_replan_14 (by decide) ?_
        refine gx_ti (nI 0) (by decide) ?_
        refine lv_istore_n (lv' := [(3, .int (nI 0)), (1, .int (nI ((m_r2 M lev).2))), (2, .int (nI lev)), (0, .ref (s0.heap.size + 104))]) hx hb dX11_replan_15 rfl hl (by decide) rfl (fun ls hl => ?_)
        exact key2 13 Y 0 _ _ _ (by omega) (by omega) (lv_sub hl [1, 0, 2, 3] rfl) hL hR
  refine lv_aload_n hx hb dX11_replan_0 rfl (lv_at hl 0 rfl) ?_
  refine lv_iconst (v := 0) hx hb dX11_replan_1 (by decide) ?_
  refine gx_put (D := D) (cl := gcl) (ci := 10) (v := .int 0) (ty := .int) (C := RX11) (T := TX11) (N := 27) hx hb hts in_X11 tyX11 tyX11_ok nmX11 hown hK hR.mo rfl 0 (by decide) (hts _ q886) (fun _ h9 => h9) rfl (by decide +kernel) (rfl) rfl (Nat.le_of_ble_eq_true rfl) hL (by (try simp only [aI, aA, aT, aB, aL, mad]); omega) dX11_replan_2 (fun H locs hU hA hL => ?_)
  have hR := GRb.pMS (j := 0) (by decide) hR hU hA
  have hR := GR_M (M := (mI M, mL M, va_up (mS M) 0 0)) (M' := (m_r2 M 0).1) (rfl) hR
  refine lv_iconst (v := 0) hx hb dX11_replan_5 (by decide) ?_
  refine gx_ti (nI (m_r2 M 0).2) (rfl) ?_
  refine lv_istore_n (lv' := [(1, .int (nI (m_r2 M 0).2)), (0, .ref (s0.heap.size + 104))]) hx hb dX11_replan_6 rfl hl (by decide) rfl (fun ls hl => ?_)
  refine lv_iconst (v := 0) hx hb dX11_replan_7 (by decide) ?_
  refine gx_ti (nI 0) (by decide) ?_
  refine lv_istore_n (lv' := [(2, .int (nI 0)), (1, .int (nI (m_r2 M 0).2)), (0, .ref (s0.heap.size + 104))]) hx hb dX11_replan_8 rfl hl (by decide) rfl (fun ls hl => ?_)
  exact key 6 Y 0 _ _ _ (by omega) (by omega) (lv_sub hl [1, 0, 2] rfl) hL hR
