set_option maxHeartbeats 4000000 in
set_option maxRecDepth 100000 in
/-- LeastCost.look -/
theorem ct_X7_look {l : Launch} {s0 : State} {D : va_G} {DA : Nat → ClassId} {z0 : Nat} {C : CS} {M : MS} {o : Int64} {H : Heap} (hE : G0 l s0 D DA z0) (hR : RR s0 D DA z0 C M o H) {k wk : Nat} (hk : k < 12) (hw : wk < 12) : Met l yX7_look (ws_ yX7_look cX7_look 8 none) ({ frames := 1, cells := 0, slots := 0, locals := 21 }) (cP s0 [.ref (s0.heap.size + 13), .ref (aI s0.heap.size k), .int (nI wk)] H) (cQ0 (fun H1 => RR s0 D DA z0 (c_lk C k wk) M o H1)) 0 0 (cF s0) := by
  refine Met.ofW (cc := cX7_look) (maxL := 8) (ret := none) (by decide) rfl ?_
  intro p e s m args below meth c s₁ Bd hml hv
  obtain ⟨rfl, rfl, hW0⟩ := hv
  have hx := Bd.exec
  have hb := Bd.bytes
  have hr := Bd.returns
  have hts := atoms_spec (ws := (ws_ yX7_look cX7_look 8 none)) Bd.pre
  have hts : ∀ w ∈ lw_all, w.before _ s = true := fun w h => hts w (List.mem_cons_of_mem _ h)
  have hown : s.vm.findClass RX7 = some m.cls := findClass_of_methodNamed Bd.named
  have hlocks := Bd.notSynchronized
  have hK := va_K.moved hW0.alike hE.K
  have hL : gx_L s0.heap.size ([] : List Loc) := gx_L0
  obtain ⟨Y, hR⟩ := hR
  have hl := lv_entry ([.ref (s0.heap.size + 13), .ref (aI s0.heap.size k), .int (nI wk)]) (n := 8) (Nat.le_of_ble_eq_true rfl)
  rw [lg_entry_eq]
  generalize (lg_sl ([.ref (s0.heap.size + 13), .ref (aI s0.heap.size k), .int (nI wk)]) ++ List.replicate (8 - (lg_sl ([.ref (s0.heap.size + 13), .ref (aI s0.heap.size k), .int (nI wk)])).length) Slot.unset).toArray = ls at hl ⊢
  have hl : lv_has ls 8 [(0, .ref (s0.heap.size + 13)), (1, .ref (aI s0.heap.size k)), (2, .int (nI wk))] := hl
  refine lv_aload_n hx hb dX7_look_0 rfl (lv_at hl 0 rfl) ?_
  refine gx_get (D := D) (cl := gcl) (ci := 6) (v := .ref (s0.heap.size + 15)) (C := RX7) (T := TX7) (N := 2) hx hb hts in_X7 hown hK hR.lc rfl 1 (by decide) (hts _ q158) (fun _ h9 => h9) rfl dX7_look_1 ?_
  refine lv_iload_n hx hb dX7_look_4 rfl (lv_at hl 2 rfl) ?_
  refine lv_iload_n hx hb dX7_look_5 rfl (lv_at hl 2 rfl) ?_
  refine gx_iast (n := 12) hx hb hK 1 hR.las rfl wk (rfl) (by omega) (by decide) hL (by (try simp only [aI, aA, aT, aB, aL, mad]); omega) dX7_look_6 (fun H locs hU hA hL => ?_)
  have hR := GRb.pW hR hU hA
  refine lv_aload_n hx hb dX7_look_7 rfl (lv_at hl 1 rfl) ?_
  refine lv_iload_n hx hb dX7_look_8 rfl (lv_at hl 2 rfl) ?_
  refine cc_v (va_runV (b := aI s0.heap.size k) (As := [.int (nI wk)]) (rest := []) ⟨hx, hb, hml, hown, hts⟩ (ct_X9_growth (wk := wk) hE hR hk hw) (cwV 1 hts (lw_V q498 q499 q500 q58 q501) rfl rfl rfl (by decide +kernel) ⟨Nat.le_of_ble_eq_true rfl, Nat.le_of_ble_eq_true rfl⟩) (cc_pV hW0 (cc_re hK (hR.itm k hk) (show gcl[8]? = _ from rfl))) rfl rfl hl.1 rfl (lv_room (Nat.le_of_ble_eq_true rfl)) dX7_look_9 ⟨Nat.le_of_ble_eq_true rfl, Nat.le_of_ble_eq_true rfl⟩) hL (fun H locs hP1 hL => ?_)
  subst hP1
  refine lv_lconst (v := 0) hx hb dX7_look_12 (by decide) ?_
  refine gx_lc_ne (tgt := 32) (pc1 := 14) hx hb rfl dX7_look_13 dX7_look_14 (by decide) (fun c14 => ?_) (fun c14 => ?_)
  · have hg : ¬ kA C 2 k (wk + 1) = kA C 2 k wk := fun q => c14 (l_sub0.mpr q)
    have hR := GR_C (C := (rW C (va_up (kW C) wk (nI wk)))) (C' := rW C (va_up (kW C) wk (nI (wk + p_lst (p_f (c_su C k) (c_ho C k) (kA C 2 k) (kB C) wk) (0 + 1))))) (by rw [p_lst_1]; rfl) hR
    have key : ∀ (n : Nat) (mm : Nat) (H : Heap) (locs : List Loc) (ls : Array Slot), wk + mm + 1 ≤ 12 → 12 < wk + mm + 1 + n → lv_has ls 8 [(3, .long (p_cost (c_su C k) (c_ho C k) (kA C 2 k) wk mm)), (5, .long ((p_f (c_su C k) (c_ho C k) (kA C 2 k) (kB C) wk) (p_lst (p_f (c_su C k) (c_ho C k) (kA C 2 k) (kB C) wk) (mm + 1)))), (7, .int (nI (wk + mm + 1))), (0, .ref (s0.heap.size + 13)), (1, .ref (aI s0.heap.size k)), (2, .int (nI wk))] → gx_L s0.heap.size locs → GRb s0.heap.size s0.heap D DA z0 Y (rW C (va_up (kW C) wk (nI (wk + p_lst (p_f (c_su C k) (c_ho C k) (kA C 2 k) (kB C) wk) (mm + 1))))) M o H → W p l e (headSpec (ws_ yX7_look cX7_look 8 none) ({ frames := 1, cells := 0, slots := 0, locals := 21 })).room s m ([.ref (s0.heap.size + 13), .ref (aI s0.heap.size k), .int (nI wk)] : List Value).toArray below meth c H locs 0 0 (MQ below (cQ0 (fun H1 => RR s0 D DA z0 (c_lk C k wk) M o H1)) ([.ref (s0.heap.size + 13), .ref (aI s0.heap.size k), .int (nI wk)] : List Value).toArray s 0 0 (cF s0)) (F0 m 55 ls []) := by
      intro n
      induction n with
      | zero =>
        intro mm H locs ls hm hn hl hL hR
        omega
      | succ n ih =>
        intro mm H locs ls hm hn hl hL hR
        refine lv_iload hx hb dX7_look_55 (lv_at hl 2 rfl) ?_
        refine lv_bipush (v := 12) hx hb dX7_look_57 (by decide) ?_
        refine lv_icmp_ge (tgt := 130) hx hb dX7_look_59 (by decide) (fun c59 => ?_) (fun c59 => ?_)
        · have hm2 : wk + mm + 1 = 12 := by have := n_ge (b := 12) c59 (by omega) (by omega); omega
          refine lv_aload_n hx hb dX7_look_130 rfl (lv_at hl 3 rfl) ?_
          refine gx_get (D := D) (cl := gcl) (ci := 6) (v := .ref (s0.heap.size + 14)) (C := RX7) (T := TX7) (N := 2) hx hb hts in_X7 hown hK hR.lc rfl 0 (by decide) (hts _ q157) (fun _ h9 => h9) rfl dX7_look_131 ?_
          refine lv_iload_n hx hb dX7_look_134 rfl (lv_at hl 5 rfl) ?_
          refine lv_lload hx hb dX7_look_135 (lv_at hl 1 rfl) ?_
          refine gx_last (n := 13) hx hb hK 0 hR.bes rfl wk (rfl) (by omega) (by decide) hL (by (try simp only [aI, aA, aT, aB, aL, mad]); omega) dX7_look_137 (fun H locs hU hA hL => ?_)
          have hR := GRb.pB hR hU hA
          exact W.vret hx hb hr (fun t ht hW => ⟨rfl, by rw [ht]; exact (RR_C (by rw [c_lk_n hg]; unfold p_last; rw [show 12 - wk = mm + 1 by omega]; rfl) ⟨_, hR⟩)⟩) hL dX7_look_138
        · have hm2 : wk + mm + 1 < 12 := n_lt (b := 12) c59 (by omega) (by omega)
          refine lv_lload_n hx hb dX7_look_62 rfl (lv_at hl 0 rfl) ?_
          refine lv_aload_n hx hb dX7_look_63 rfl (lv_at hl 4 rfl) ?_
          refine gx_getN (D := D) (cl := gcl) (ci := 8) (v := .int (kI (rW C (va_up (kW C) wk (nI (wk + p_lst (p_f (c_su C k) (c_ho C k) (kA C 2 k) (kB C) wk) (mm + 1))))) 7 k)) (C := RX9) (T := TX9) (N := 19) hx hb hts in_X9 hown hK (hR.itm k hk) rfl 7 (by decide) (hE.nF hW0 q201) (fun _ h9 => h9) rfl dX7_look_64 ?_
          refine lv_i2l (v := (kI (rW C (va_up (kW C) wk (nI (wk + p_lst (p_f (c_su C k) (c_ho C k) (kA C 2 k) (kB C) wk) (mm + 1))))) 7 k).toInt64) hx hb dX7_look_67 rfl ?_
          refine lv_iload hx hb dX7_look_68 (lv_at hl 2 rfl) ?_
          refine lv_iload_n hx hb dX7_look_70 rfl (lv_at hl 5 rfl) ?_
          refine lv_isub hx hb dX7_look_71 ?_
          refine gx_ti (nI (mm + 1)) (by rw [pk_sub (by omega)]; congr 1; omega) ?_
          refine lv_i2l (v := (nI (mm + 1)).toInt64) hx hb dX7_look_72 rfl ?_
          refine lv_lmul hx hb dX7_look_73 ?_
          refine lv_aload_n hx hb dX7_look_74 rfl (lv_at hl 4 rfl) ?_
          refine lv_iload hx hb dX7_look_75 (lv_at hl 2 rfl) ?_
          refine cc_v (va_runV (b := aI s0.heap.size k) (As := [.int (nI (wk + mm + 1))]) (rest := [.long (((kI (rW C (va_up (kW C) wk (nI (wk + p_lst (p_f (c_su C k) (c_ho C k) (kA C 2 k) (kB C) wk) (mm + 1))))) 7 k).toInt64) * ((nI (mm + 1)).toInt64)), .long (p_cost (c_su C k) (c_ho C k) (kA C 2 k) wk mm)]) ⟨hx, hb, hml, hown, hts⟩ (ct_X9_growth (wk := wk + mm + 1) hE hR hk hm2) (cwV 1 hts (lw_V q498 q499 q500 q58 q501) rfl rfl rfl (by decide +kernel) ⟨Nat.le_of_ble_eq_true rfl, Nat.le_of_ble_eq_true rfl⟩) (cc_pV hW0 (cc_re hK (hR.itm k hk) (show gcl[8]? = _ from rfl))) rfl rfl hl.1 rfl (lv_room (Nat.le_of_ble_eq_true rfl)) dX7_look_77 ⟨Nat.le_of_ble_eq_true rfl, Nat.le_of_ble_eq_true rfl⟩) hL (fun H locs hP1 hL => ?_)
          subst hP1
          refine lv_lmul hx hb dX7_look_80 ?_
          refine lv_ladd hx hb dX7_look_81 ?_
          refine gx_tl (p_cost (c_su C k) (c_ho C k) (kA C 2 k) wk (mm + 1)) (p_cost_s (c_su C k) (c_ho C k) (kA C 2 k) wk mm) ?_
          refine lv_lstore_n (lv' := [(3, .long (p_cost (c_su C k) (c_ho C k) (kA C 2 k) wk (mm + 1))), (5, .long ((p_f (c_su C k) (c_ho C k) (kA C 2 k) (kB C) wk) (p_lst (p_f (c_su C k) (c_ho C k) (kA C 2 k) (kB C) wk) (mm + 1)))), (7, .int (nI (wk + mm + 1))), (0, .ref (s0.heap.size + 13)), (1, .ref (aI s0.heap.size k)), (2, .int (nI wk))]) hx hb dX7_look_82 rfl hl (by decide) rfl (fun ls hl => ?_)
          refine lv_lload_n hx hb dX7_look_83 rfl (lv_at hl 0 rfl) ?_
          refine lv_aload_n hx hb dX7_look_84 rfl (lv_at hl 3 rfl) ?_
          refine gx_get (D := D) (cl := gcl) (ci := 6) (v := .ref (s0.heap.size + 14)) (C := RX7) (T := TX7) (N := 2) hx hb hts in_X7 hown hK hR.lc rfl 0 (by decide) (hts _ q157) (fun _ h9 => h9) rfl dX7_look_85 ?_
          refine lv_iload hx hb dX7_look_88 (lv_at hl 2 rfl) ?_
          refine lv_iconst (v := 1) hx hb dX7_look_90 (by decide) ?_
          refine lv_iadd hx hb dX7_look_91 ?_
          refine gx_ti (nI (wk + mm + 1 + 1)) (nI_add (wk + mm + 1) 1) ?_
          refine gx_lald (n := 13) hx hb hK 0 hR.bes rfl (wk + mm + 1 + 1) (rfl) (by omega) (by decide) dX7_look_92 ?_
          refine lv_ladd hx hb dX7_look_93 ?_
          refine gx_tl ((p_f (c_su C k) (c_ho C k) (kA C 2 k) (kB C) wk) (mm + 1)) (rfl) ?_
          refine lv_lload hx hb dX7_look_94 (lv_at hl 1 rfl) ?_
          refine gx_lc_lt (tgt := 103) (pc1 := 97) hx hb rfl dX7_look_96 dX7_look_97 (by decide) (fun c97 => ?_) (fun c97 => ?_)
          · refine lv_lload_n hx hb dX7_look_103 rfl (lv_at hl 0 rfl) ?_
            refine lv_aload_n hx hb dX7_look_104 rfl (lv_at hl 3 rfl) ?_
            refine gx_get (D := D) (cl := gcl) (ci := 6) (v := .ref (s0.heap.size + 14)) (C := RX7) (T := TX7) (N := 2) hx hb hts in_X7 hown hK hR.lc rfl 0 (by decide) (hts _ q157) (fun _ h9 => h9) rfl dX7_look_105 ?_
            refine lv_iload hx hb dX7_look_108 (lv_at hl 2 rfl) ?_
            refine lv_iconst (v := 1) hx hb dX7_look_110 (by decide) ?_
            refine lv_iadd hx hb dX7_look_111 ?_
            refine gx_ti (nI (wk + mm + 1 + 1)) (nI_add (wk + mm + 1) 1) ?_
            refine gx_lald (n := 13) hx hb hK 0 hR.bes rfl (wk + mm + 1 + 1) (rfl) (by omega) (by decide) dX7_look_112 ?_
            refine lv_ladd hx hb dX7_look_113 ?_
            refine gx_tl ((p_f (c_su C k) (c_ho C k) (kA C 2 k) (kB C) wk) (mm + 1)) (rfl) ?_
            refine lv_lstore (lv' := [(5, .long ((p_f (c_su C k) (c_ho C k) (kA C 2 k) (kB C) wk) (mm + 1))), (3, .long (p_cost (c_su C k) (c_ho C k) (kA C 2 k) wk (mm + 1))), (7, .int (nI (wk + mm + 1))), (0, .ref (s0.heap.size + 13)), (1, .ref (aI s0.heap.size k)), (2, .int (nI wk))]) hx hb dX7_look_114 hl (by decide) rfl (fun ls hl => ?_)
            refine lv_aload_n hx hb dX7_look_116 rfl (lv_at hl 3 rfl) ?_
            refine gx_get (D := D) (cl := gcl) (ci := 6) (v := .ref (s0.heap.size + 15)) (C := RX7) (T := TX7) (N := 2) hx hb hts in_X7 hown hK hR.lc rfl 1 (by decide) (hts _ q158) (fun _ h9 => h9) rfl dX7_look_117 ?_
            refine lv_iload_n hx hb dX7_look_120 rfl (lv_at hl 5 rfl) ?_
            refine lv_iload hx hb dX7_look_121 (lv_at hl 2 rfl) ?_
            refine gx_iast (n := 12) hx hb hK 1 hR.las rfl wk (rfl) (by omega) (by decide) hL (by (try simp only [aI, aA, aT, aB, aL, mad]); omega) dX7_look_123 (fun H locs hU hA hL => ?_)
            have hR := GRb.pW hR hU hA
            have hp : p_lst (p_f (c_su C k) (c_ho C k) (kA C 2 k) (kB C) wk) (mm + 1 + 1) = mm + 1 := if_pos c97
            have hR := GR_C (C := (rW (rW C (va_up (kW C) wk (nI (wk + p_lst (p_f (c_su C k) (c_ho C k) (kA C 2 k) (kB C) wk) (mm + 1))))) (va_up (kW (rW C (va_up (kW C) wk (nI (wk + p_lst (p_f (c_su C k) (c_ho C k) (kA C 2 k) (kB C) wk) (mm + 1)))))) wk (nI (wk + mm + 1))))) (C' := rW C (va_up (kW C) wk (nI (wk + p_lst (p_f (c_su C k) (c_ho C k) (kA C 2 k) (kB C) wk) (mm + 1 + 1))))) (by rw [rW_rW, hp]; rfl) hR
            have hl : lv_has ls 8 [(5, .long ((p_f (c_su C k) (c_ho C k) (kA C 2 k) (kB C) wk) (p_lst (p_f (c_su C k) (c_ho C k) (kA C 2 k) (kB C) wk) (mm + 1 + 1)))), (3, .long (p_cost (c_su C k) (c_ho C k) (kA C 2 k) wk (mm + 1))), (7, .int (nI (wk + mm + 1))), (0, .ref (s0.heap.size + 13)), (1, .ref (aI s0.heap.size k)), (2, .int (nI wk))] := by rw [hp]; exact hl
            refine lv_iinc (v := nI (wk + (mm + 1) + 1)) (lv' := [(7, .int (nI (wk + (mm + 1) + 1))), (5, .long ((p_f (c_su C k) (c_ho C k) (kA C 2 k) (kB C) wk) (p_lst (p_f (c_su C k) (c_ho C k) (kA C 2 k) (kB C) wk) (mm + 1 + 1)))), (3, .long (p_cost (c_su C k) (c_ho C k) (kA C 2 k) wk (mm + 1))), (0, .ref (s0.heap.size + 13)), (1, .ref (aI s0.heap.size k)), (2, .int (nI wk))]) hx hb dX7_look_124 hl (k := 2) rfl (nI_1 (wk + mm + 1)) (by decide) rfl (fun ls hl => ?_)
            refine lv_goto (tgt := 55) hx hb dX7_look_127 (by decide) ?_
            exact ih (mm + 1) _ _ _ (by omega) (by omega) (lv_sub hl [2, 1, 0, 3, 4, 5] rfl) hL hR
          · refine lv_goto (tgt := 124) hx hb dX7_look_100 (by decide) ?_
            have hp : p_lst (p_f (c_su C k) (c_ho C k) (kA C 2 k) (kB C) wk) (mm + 1 + 1) = p_lst (p_f (c_su C k) (c_ho C k) (kA C 2 k) (kB C) wk) (mm + 1) := if_neg c97
            have hR := GR_C (C := rW C (va_up (kW C) wk (nI (wk + p_lst (p_f (c_su C k) (c_ho C k) (kA C 2 k) (kB C) wk) (mm + 1))))) (C' := rW C (va_up (kW C) wk (nI (wk + p_lst (p_f (c_su C k) (c_ho C k) (kA C 2 k) (kB C) wk) (mm + 1 + 1))))) (by rw [hp]) hR
            have hl : lv_has ls 8 [(3, .long (p_cost (c_su C k) (c_ho C k) (kA C 2 k) wk (mm + 1))), (5, .long ((p_f (c_su C k) (c_ho C k) (kA C 2 k) (kB C) wk) (p_lst (p_f (c_su C k) (c_ho C k) (kA C 2 k) (kB C) wk) (mm + 1 + 1)))), (7, .int (nI (wk + mm + 1))), (0, .ref (s0.heap.size + 13)), (1, .ref (aI s0.heap.size k)), (2, .int (nI wk))] := by rw [hp]; exact hl
            refine lv_iinc (v := nI (wk + (mm + 1) + 1)) (lv' := [(7, .int (nI (wk + (mm + 1) + 1))), (3, .long (p_cost (c_su C k) (c_ho C k) (kA C 2 k) wk (mm + 1))), (5, .long ((p_f (c_su C k) (c_ho C k) (kA C 2 k) (kB C) wk) (p_lst (p_f (c_su C k) (c_ho C k) (kA C 2 k) (kB C) wk) (mm + 1 + 1)))), (0, .ref (s0.heap.size + 13)), (1, .ref (aI s0.heap.size k)), (2, .int (nI wk))]) hx hb dX7_look_124 hl (k := 2) rfl (nI_1 (wk + mm + 1)) (by decide) rfl (fun ls hl => ?_)
            refine lv_goto (tgt := 55) hx hb dX7_look_127 (by decide) ?_
            exact ih (mm + 1) _ _ _ (by omega) (by omega) (lv_sub hl [1, 2, 0, 3, 4, 5] rfl) hL hR
    refine lv_aload_n hx hb dX7_look_32 rfl (lv_at hl 1 rfl) ?_
    refine gx_getN (D := D) (cl := gcl) (ci := 8) (v := .int (kI (rW C (va_up (kW C) wk (nI (wk + p_lst (p_f (c_su C k) (c_ho C k) (kA C 2 k) (kB C) wk) (0 + 1))))) 6 k)) (C := RX9) (T := TX9) (N := 19) hx hb hts in_X9 hown hK (hR.itm k hk) rfl 6 (by decide) (hE.nF hW0 q199) (fun _ h9 => h9) rfl dX7_look_33 ?_
    refine lv_i2l (v := (kI (rW C (va_up (kW C) wk (nI (wk + p_lst (p_f (c_su C k) (c_ho C k) (kA C 2 k) (kB C) wk) (0 + 1))))) 6 k).toInt64) hx hb dX7_look_36 rfl ?_
    refine gx_tl (p_cost (c_su C k) (c_ho C k) (kA C 2 k) wk 0) ((p_cost_0 _ _ _ _).symm) ?_
    refine lv_lstore_n (lv' := [(3, .long (p_cost (c_su C k) (c_ho C k) (kA C 2 k) wk 0)), (0, .ref (s0.heap.size + 13)), (1, .ref (aI s0.heap.size k)), (2, .int (nI wk))]) hx hb dX7_look_37 rfl hl (by decide) rfl (fun ls hl => ?_)
    refine lv_lload_n hx hb dX7_look_38 rfl (lv_at hl 0 rfl) ?_
    refine lv_aload_n hx hb dX7_look_39 rfl (lv_at hl 1 rfl) ?_
    refine gx_get (D := D) (cl := gcl) (ci := 6) (v := .ref (s0.heap.size + 14)) (C := RX7) (T := TX7) (N := 2) hx hb hts in_X7 hown hK hR.lc rfl 0 (by decide) (hts _ q157) (fun _ h9 => h9) rfl dX7_look_40 ?_
    refine lv_iload_n hx hb dX7_look_43 rfl (lv_at hl 3 rfl) ?_
    refine lv_iconst (v := 1) hx hb dX7_look_44 (by decide) ?_
    refine lv_iadd hx hb dX7_look_45 ?_
    refine gx_ti (nI (wk + 1)) (nI_add wk 1) ?_
    refine gx_lald (n := 13) hx hb hK 0 hR.bes rfl (wk + 1) (rfl) (by omega) (by decide) dX7_look_46 ?_
    refine lv_ladd hx hb dX7_look_47 ?_
    refine gx_tl ((p_f (c_su C k) (c_ho C k) (kA C 2 k) (kB C) wk) (p_lst (p_f (c_su C k) (c_ho C k) (kA C 2 k) (kB C) wk) (0 + 1))) (by rw [show p_lst (p_f (c_su C k) (c_ho C k) (kA C 2 k) (kB C) wk) (0 + 1) = 0 from p_lst_1 _]; rfl) ?_
    refine lv_lstore (lv' := [(5, .long ((p_f (c_su C k) (c_ho C k) (kA C 2 k) (kB C) wk) (p_lst (p_f (c_su C k) (c_ho C k) (kA C 2 k) (kB C) wk) (0 + 1)))), (3, .long (p_cost (c_su C k) (c_ho C k) (kA C 2 k) wk 0)), (0, .ref (s0.heap.size + 13)), (1, .ref (aI s0.heap.size k)), (2, .int (nI wk))]) hx hb dX7_look_48 hl (by decide) rfl (fun ls hl => ?_)
    refine lv_iload_n hx hb dX7_look_50 rfl (lv_at hl 4 rfl) ?_
    refine lv_iconst (v := 1) hx hb dX7_look_51 (by decide) ?_
    refine lv_iadd hx hb dX7_look_52 ?_
    refine gx_ti (nI (wk + 0 + 1)) (nI_1 wk) ?_
    refine lv_istore (lv' := [(7, .int (nI (wk + 0 + 1))), (5, .long ((p_f (c_su C k) (c_ho C k) (kA C 2 k) (kB C) wk) (p_lst (p_f (c_su C k) (c_ho C k) (kA C 2 k) (kB C) wk) (0 + 1)))), (3, .long (p_cost (c_su C k) (c_ho C k) (kA C 2 k) wk 0)), (0, .ref (s0.heap.size + 13)), (1, .ref (aI s0.heap.size k)), (2, .int (nI wk))]) hx hb dX7_look_53 hl (by decide) rfl (fun ls hl => ?_)
    exact key 13 0 _ _ _ (by omega) (by omega) (lv_sub hl [2, 1, 0, 3, 4, 5] rfl) hL hR
  · have hg : kA C 2 k (wk + 1) = kA C 2 k wk := l_sub0.mp c14
    refine lv_aload_n hx hb dX7_look_17 rfl (lv_at hl 0 rfl) ?_
    refine gx_get (D := D) (cl := gcl) (ci := 6) (v := .ref (s0.heap.size + 14)) (C := RX7) (T := TX7) (N := 2) hx hb hts in_X7 hown hK hR.lc rfl 0 (by decide) (hts _ q157) (fun _ h9 => h9) rfl dX7_look_18 ?_
    refine lv_iload_n hx hb dX7_look_21 rfl (lv_at hl 2 rfl) ?_
    refine lv_aload_n hx hb dX7_look_22 rfl (lv_at hl 0 rfl) ?_
    refine gx_get (D := D) (cl := gcl) (ci := 6) (v := .ref (s0.heap.size + 14)) (C := RX7) (T := TX7) (N := 2) hx hb hts in_X7 hown hK hR.lc rfl 0 (by decide) (hts _ q157) (fun _ h9 => h9) rfl dX7_look_23 ?_
    refine lv_iload_n hx hb dX7_look_26 rfl (lv_at hl 2 rfl) ?_
    refine lv_iconst (v := 1) hx hb dX7_look_27 (by decide) ?_
    refine lv_iadd hx hb dX7_look_28 ?_
    refine gx_ti (nI (wk + 1)) (nI_add wk 1) ?_
    refine gx_lald (n := 13) hx hb hK 0 hR.bes rfl (wk + 1) (rfl) (by omega) (by decide) dX7_look_29 ?_
    refine gx_last (n := 13) hx hb hK 0 hR.bes rfl wk (rfl) (by omega) (by decide) hL (by (try simp only [aI, aA, aT, aB, aL, mad]); omega) dX7_look_30 (fun H locs hU hA hL => ?_)
    have hR := GRb.pB hR hU hA
    exact W.vret hx hb hr (fun t ht hW => ⟨rfl, by rw [ht]; exact (RR_C (c_lk_e hg) ⟨_, hR⟩)⟩) hL dX7_look_31
set_option maxHeartbeats 4000000 in
set_option maxRecDepth 100000 in
/-- LeastCost.plan -/
theorem ct_X7_plan {l : Launch} {s0 : State} {D : va_G} {DA : Nat → ClassId} {z0 : Nat} {C : CS} {M : MS} {o : Int64} {H : Heap} (hE : G0 l s0 D DA z0) (hR : RR s0 D DA z0 C M o H) {k : Nat} (hk : k < 12) (hC : CC C) : Met l yX7_plan (ws_ yX7_plan cX7_plan 3 none) ({ frames := 3, cells := 0, slots := 0, locals := 71 }) (cP s0 [.ref (s0.heap.size + 13), .ref (aI s0.heap.size k)] H) (cQ0 (fun H1 => RR s0 D DA z0 (c_plc C k) M o H1)) 0 0 (cF s0) := by
  refine Met.ofW (cc := cX7_plan) (maxL := 3) (ret := none) (by decide) rfl ?_
  intro p e s m args below meth c s₁ Bd hml hv
  obtain ⟨rfl, rfl, hW0⟩ := hv
  have hx := Bd.exec
  have hb := Bd.bytes
  have hr := Bd.returns
  have hts := atoms_spec (ws := (ws_ yX7_plan cX7_plan 3 none)) Bd.pre
  have hts : ∀ w ∈ lw_all, w.before _ s = true := fun w h => hts w (List.mem_cons_of_mem _ h)
  have hown : s.vm.findClass RX7 = some m.cls := findClass_of_methodNamed Bd.named
  have hlocks := Bd.notSynchronized
  have hK := va_K.moved hW0.alike hE.K
  have hL : gx_L s0.heap.size ([] : List Loc) := gx_L0
  obtain ⟨Y, hR⟩ := hR
  have hl := lv_entry ([.ref (s0.heap.size + 13), .ref (aI s0.heap.size k)]) (n := 3) (Nat.le_of_ble_eq_true rfl)
  rw [lg_entry_eq]
  generalize (lg_sl ([.ref (s0.heap.size + 13), .ref (aI s0.heap.size k)]) ++ List.replicate (3 - (lg_sl ([.ref (s0.heap.size + 13), .ref (aI s0.heap.size k)])).length) Slot.unset).toArray = ls at hl ⊢
  have hl : lv_has ls 3 [(0, .ref (s0.heap.size + 13)), (1, .ref (aI s0.heap.size k))] := hl
  have key : ∀ (n : Nat) (Y : YS) (j : Nat) (H : Heap) (locs : List Loc) (ls : Array Slot), cLd C k ≤ j → j ≤ 12 → j < n → lv_has ls 3 [(2, .int (nm j)), (0, .ref (s0.heap.size + 13)), (1, .ref (aI s0.heap.size k))] → gx_L s0.heap.size locs → GRb s0.heap.size s0.heap D DA z0 Y (c_lks C k (12 - j)) M o H → W p l e (headSpec (ws_ yX7_plan cX7_plan 3 none) ({ frames := 3, cells := 0, slots := 0, locals := 71 })).room s m ([.ref (s0.heap.size + 13), .ref (aI s0.heap.size k)] : List Value).toArray below meth c H locs 0 0 (MQ below (cQ0 (fun H1 => RR s0 D DA z0 (c_plc C k) M o H1)) ([.ref (s0.heap.size + 13), .ref (aI s0.heap.size k)] : List Value).toArray s 0 0 (cF s0)) (F0 m 11 ls []) := by
    intro n
    induction n with
    | zero =>
      intro Y j H locs ls hj1 hj2 hn hl hL hR
      omega
    | succ n ih =>
      intro Y j H locs ls hj1 hj2 hn hl hL hR
      have h4 := hC.l4 hk
      refine lv_iload_n hx hb dX7_plan_11 rfl (lv_at hl 0 rfl) ?_
      refine lv_aload_n hx hb dX7_plan_12 rfl (lv_at hl 2 rfl) ?_
      refine gx_getN (D := D) (cl := gcl) (ci := 8) (v := .int (kI (c_lks C k (12 - j)) 3 k)) (C := RX9) (T := TX9) (N := 19) hx hb hts in_X9 hown hK (hR.itm k hk) rfl 3 (by decide) (hE.nF hW0 q193) (fun _ h9 => h9) rfl dX7_plan_13 ?_
      refine gx_ti (nI (cLd C k)) (by rw [(c_lks_o C k _).1]; exact hC.ld hk) ?_
      refine lv_icmp_lt (tgt := 31) hx hb dX7_plan_16 (by decide) (fun c16 => ?_) (fun c16 => ?_)
      · have hj : j = cLd C k := by have := (nm_lt (by omega) (by omega)).mp c16; omega
        subst hj
        refine lv_aload_n hx hb dX7_plan_31 rfl (lv_at hl 1 rfl) ?_
        refine lv_aload_n hx hb dX7_plan_32 rfl (lv_at hl 2 rfl) ?_
        refine cc_0 (va_runSU (b := s0.heap.size + 13) (As := [.ref (aI s0.heap.size k)]) (rest := []) (hK.1 6 _ (show gcl[6]? = _ from rfl)).2 ⟨hx, hb, hml, hown, hts⟩ (ct_X3_plan_3 hE ⟨_, hR⟩ hk (hC.of (by rw [(c_lks_o C k _).1]) (by rw [(c_lks_o C k _).1]) (by rw [(c_lks_o C k _).1]) (c_lks_o C k _).2.2.1 (c_lks_o C k _).2.2.2) (fun w h1 h2 => c_lks_lst (by omega) (by unfold cLd at h1 ⊢; rw [(c_lks_o C k _).1] at h1; omega) h2)) (va_cwSU 1 hts (lw_SU q502 q488 q163 q487 q52 q504) rfl rfl rfl (by decide +kernel) ⟨Nat.le_of_ble_eq_true rfl, Nat.le_of_ble_eq_true rfl⟩) (cc_pV hW0 (cc_re hK hR.lc (show gcl[6]? = _ from rfl))) rfl rfl hl.1 rfl (lv_room (Nat.le_of_ble_eq_true rfl)) dX7_plan_33 ⟨Nat.le_of_ble_eq_true rfl, Nat.le_of_ble_eq_true rfl⟩) hL (fun H locs hP1 hL => ?_)
        exact W.vret hx hb hr (fun t ht hW => ⟨rfl, by rw [ht]; exact hP1⟩) hL dX7_plan_36
      · have hj : cLd C k < j := by have := mt (nm_lt (by omega) (by omega)).mpr c16; omega
        obtain ⟨v, rfl⟩ : ∃ v, j = v + 1 := ⟨j - 1, by omega⟩
        have hl : lv_has ls 3 [(2, .int (nI v)), (0, .ref (s0.heap.size + 13)), (1, .ref (aI s0.heap.size k))] := hl
        have hR : GRb s0.heap.size s0.heap D DA z0 Y (c_lks C k (12 - (v + 1))) M o H := hR
        refine lv_aload_n hx hb dX7_plan_19 rfl (lv_at hl 1 rfl) ?_
        refine lv_aload_n hx hb dX7_plan_20 rfl (lv_at hl 2 rfl) ?_
        refine lv_iload_n hx hb dX7_plan_21 rfl (lv_at hl 0 rfl) ?_
        refine cc_0 (va_runV (b := s0.heap.size + 13) (As := [.ref (aI s0.heap.size k), .int (nI v)]) (rest := []) ⟨hx, hb, hml, hown, hts⟩ (ct_X7_look (wk := v) hE ⟨_, hR⟩ hk (by omega)) (cwV 2 hts (lw_V q494 q496 qs10 q56 q497) rfl rfl rfl (by decide +kernel) ⟨Nat.le_of_ble_eq_true rfl, Nat.le_of_ble_eq_true rfl⟩) (cc_pV hW0 (cc_re hK hR.lc (show gcl[6]? = _ from rfl))) rfl rfl hl.1 rfl (lv_room (Nat.le_of_ble_eq_true rfl)) dX7_plan_22 ⟨Nat.le_of_ble_eq_true rfl, Nat.le_of_ble_eq_true rfl⟩) hL (fun H locs hP1 hL => ?_)
        obtain ⟨Y, hR⟩ := hP1
        have hR := GR_C (C := (c_lk (c_lks C k (12 - (v + 1))) k v)) (C' := c_lks C k (12 - v)) (c_lks_v C k (by omega)) hR
        refine lv_iinc (v := nm v) (lv' := [(2, .int (nm v)), (0, .ref (s0.heap.size + 13)), (1, .ref (aI s0.heap.size k))]) hx hb dX7_plan_25 hl (k := 0) rfl (nm_m1 v) (by decide) rfl (fun ls hl => ?_)
        refine lv_goto (tgt := 11) hx hb dX7_plan_28 (by decide) ?_
        exact ih Y v _ _ _ (by omega) (by omega) (by omega) (lv_sub hl [0, 1, 2] rfl) hL hR
  have h4 := hC.l4 hk
  refine lv_aload_n hx hb dX7_plan_0 rfl (lv_at hl 0 rfl) ?_
  refine gx_get (D := D) (cl := gcl) (ci := 6) (v := .ref (s0.heap.size + 14)) (C := RX7) (T := TX7) (N := 2) hx hb hts in_X7 hown hK hR.lc rfl 0 (by decide) (hts _ q157) (fun _ h9 => h9) rfl dX7_plan_1 ?_
  refine lv_bipush (v := 12) hx hb dX7_plan_4 (by decide) ?_
  refine lv_lconst (v := 0) hx hb dX7_plan_6 (by decide) ?_
  refine gx_last (n := 13) hx hb hK 0 hR.bes rfl 12 ((by decide)) (by omega) (by decide) hL (by (try simp only [aI, aA, aT, aB, aL, mad]); omega) dX7_plan_7 (fun H locs hU hA hL => ?_)
  have hR := GRb.pB hR hU hA
  have hR := GR_C (C := (rB C (va_up (kB C) 12 0))) (C' := c_lks C k (12 - 12)) (rfl) hR
  refine lv_bipush (v := 11) hx hb dX7_plan_8 (by decide) ?_
  refine gx_ti (nm 12) (by decide) ?_
  refine lv_istore_n (lv' := [(2, .int (nm 12)), (0, .ref (s0.heap.size + 13)), (1, .ref (aI s0.heap.size k))]) hx hb dX7_plan_10 rfl hl (by decide) rfl (fun ls hl => ?_)
  exact key 13 Y 12 _ _ _ (by omega) (by omega) (by omega) (lv_sub hl [0, 1, 2] rfl) hL hR
