set_option maxHeartbeats 4000000 in
set_option maxRecDepth 100000 in
/-- asks -/
theorem ct_X1_asks {l : Launch} {s0 : State} {D : va_G} {DA : Nat → ClassId} {z0 : Nat} {Y : YS} {C : CS} {M : MS} {o : Int64} {H : Heap} (hE : G0 l s0 D DA z0) (hR : GRb s0.heap.size s0.heap D DA z0 Y C M o H) {k wk : Nat} (hk : k < 12) (hw : wk < 12) (hC : CC C) : Met l yX1_asks (ws_ yX1_asks cX1_asks 8 (some .long)) ({ frames := 3, cells := 0, slots := 0, locals := 64 }) (cP s0 [.ref s0.heap.size, .ref (aI s0.heap.size k), .int (nI wk)] H) (cQv (.long (c_as C k wk (kN C 0))) (fun H1 => H1 = H)) 0 0 (cF s0) := by
  refine Met.ofW (cc := cX1_asks) (maxL := 8) (ret := (some .long)) (by decide) rfl ?_
  intro p e s m args below meth c s₁ Bd hml hv
  obtain ⟨rfl, rfl, hW0⟩ := hv
  have hx := Bd.exec
  have hb := Bd.bytes
  have hr := Bd.returns
  have hts := atoms_spec (ws := (ws_ yX1_asks cX1_asks 8 (some .long))) Bd.pre
  have hts : ∀ w ∈ lw_all, w.before _ s = true := fun w h => hts w (List.mem_cons_of_mem _ h)
  have hown : s.vm.findClass RX1 = some m.cls := findClass_of_methodNamed Bd.named
  have hlocks := Bd.notSynchronized
  have hK := va_K.moved hW0.alike hE.K
  have hL : gx_L s0.heap.size ([] : List Loc) := gx_L0
  have hl := lv_entry ([.ref s0.heap.size, .ref (aI s0.heap.size k), .int (nI wk)]) (n := 8) (Nat.le_of_ble_eq_true rfl)
  rw [lg_entry_eq]
  generalize (lg_sl ([.ref s0.heap.size, .ref (aI s0.heap.size k), .int (nI wk)]) ++ List.replicate (8 - (lg_sl ([.ref s0.heap.size, .ref (aI s0.heap.size k), .int (nI wk)])).length) Slot.unset).toArray = ls at hl ⊢
  have hl : lv_has ls 8 [(0, .ref s0.heap.size), (1, .ref (aI s0.heap.size k)), (2, .int (nI wk))] := hl
  have h24 := hR.lay.2.2.2.2.2.2.1.1
  have key : ∀ (n : Nat) (v : Nat) (locs : List Loc) (ls : Array Slot), v ≤ kN C 0 → kN C 0 < v + n → lv_has ls 8 [(3, .long (c_as C k wk v)), (5, .int (nI v)), (0, .ref s0.heap.size), (1, .ref (aI s0.heap.size k)), (2, .int (nI wk))] → gx_L s0.heap.size locs → W p l e (headSpec (ws_ yX1_asks cX1_asks 8 (some .long)) ({ frames := 3, cells := 0, slots := 0, locals := 64 })).room s m ([.ref s0.heap.size, .ref (aI s0.heap.size k), .int (nI wk)] : List Value).toArray below meth c s.heap locs 0 0 (MQ below (cQv (.long (c_as C k wk (kN C 0))) (fun H1 => H1 = s.heap)) ([.ref s0.heap.size, .ref (aI s0.heap.size k), .int (nI wk)] : List Value).toArray s 0 0 (cF s0)) (F0 m 5 ls []) := by
    intro n
    induction n with
    | zero =>
      intro v locs ls hv hn hl hL
      omega
    | succ n ih =>
      intro v locs ls hv hn hl hL
      refine lv_iload hx hb dX1_asks_5 (lv_at hl 1 rfl) ?_
      refine lv_aload_n hx hb dX1_asks_7 rfl (lv_at hl 2 rfl) ?_
      refine gx_get (D := D) (cl := gcl) (ci := 0) (v := .ref (aL s0.heap.size 0)) (C := RX1) (T := TX1) (N := 10) hx hb hts in_X1 hown hK hR.np rfl 1 (by decide) (hts _ q273) (fun _ h9 => h9) rfl dX1_asks_8 ?_
      refine cc_v (va_runV (b := aL s0.heap.size 0) (As := []) (rest := [.int (nI v)]) ⟨hx, hb, hml, hown, hts⟩ (ct_J2_size hE (hR.lob 0 (by omega))) (cwV 0 hts (lw_V q459 q379 q380 q50 q381) rfl rfl rfl (by decide +kernel) ⟨Nat.le_of_ble_eq_true rfl, Nat.le_of_ble_eq_true rfl⟩) (cc_pV hW0 (cc_re hK (hR.lob 0 (by omega)) (show gcl[1]? = _ from rfl))) rfl rfl hl.1 rfl (lv_room (Nat.le_of_ble_eq_true rfl)) dX1_asks_11 ⟨Nat.le_of_ble_eq_true rfl, Nat.le_of_ble_eq_true rfl⟩) hL (fun H locs hP1 hL => ?_)
      subst hP1
      refine lv_icmp_ge (tgt := 97) hx hb dX1_asks_14 (by decide) (fun c14 => ?_) (fun c14 => ?_)
      · have hvc : v = kN C 0 := by have := n_ge c14 (by omega) (by omega); omega
        refine lv_lload_n hx hb dX1_asks_97 rfl (lv_at hl 0 rfl) ?_
        exact W.lret (v := (c_as C k wk v)) hx hb hr (fun t ht hW => ⟨ovJ (by rw [hvc]), ht⟩) hL dX1_asks_98
      · have hv2 : v < kN C 0 := n_lt c14 (by omega) (by omega)
        have hpv := (hR.lay.2.2.2.1 v hv2).2.2.1
        have hcv := (hR.lay.2.2.2.1 v hv2).2.2.2
        have hl4 := hC.l4 hpv
        refine lv_aload_n hx hb dX1_asks_17 rfl (lv_at hl 2 rfl) ?_
        refine gx_get (D := D) (cl := gcl) (ci := 0) (v := .ref (aL s0.heap.size 0)) (C := RX1) (T := TX1) (N := 10) hx hb hts in_X1 hown hK hR.np rfl 1 (by decide) (hts _ q273) (fun _ h9 => h9) rfl dX1_asks_18 ?_
        refine lv_iload hx hb dX1_asks_21 (lv_at hl 1 rfl) ?_
        refine cc_v (va_runV (b := aL s0.heap.size 0) (As := [.int (nI v)]) (rest := []) ⟨hx, hb, hml, hown, hts⟩ (ct_J2_get (i := v) hE (hR.lob 0 (by omega)) (hR.lda 0 (by omega) (Nat.lt_of_lt_of_le (Nat.lt_of_le_of_lt (Nat.zero_le _) hv2) (hR.lay.1 0 (by omega)).1)) (by have := (hR.lay.1 0 (by omega)).2; omega) hv2 (hR.lay.1 0 (by omega)).1 (hR.lay.2.1 0 (by omega) v hv2)) (cwV 1 hts (lw_V q460 q383 q384 q50 q385) rfl rfl rfl (by decide +kernel) ⟨Nat.le_of_ble_eq_true rfl, Nat.le_of_ble_eq_true rfl⟩) (cc_pV hW0 (cc_re hK (hR.lob 0 (by omega)) (show gcl[1]? = _ from rfl))) rfl rfl hl.1 rfl (lv_room (Nat.le_of_ble_eq_true rfl)) dX1_asks_23 ⟨Nat.le_of_ble_eq_true rfl, Nat.le_of_ble_eq_true rfl⟩) hL (fun H locs hP1 hL => ?_)
        subst hP1
        refine gx_castS (ci := 11) hx hb hown (hts _ q461) hK (hR.lin v hv2) (show gcl[11]? = _ from rfl) dX1_asks_26 ?_
        refine lv_astore (lv' := [(6, .ref (yE Y 0 v)), (3, .long (c_as C k wk v)), (5, .int (nI v)), (0, .ref s0.heap.size), (1, .ref (aI s0.heap.size k)), (2, .int (nI wk))]) hx hb dX1_asks_29 hl (by decide) rfl (fun ls hl => ?_)
        refine lv_iload_n hx hb dX1_asks_31 rfl (lv_at hl 5 rfl) ?_
        refine lv_aload hx hb dX1_asks_32 (lv_at hl 0 rfl) ?_
        refine cc_v (va_runV (b := yE Y 0 v) (As := []) (rest := [.int (nI wk)]) ⟨hx, hb, hml, hown, hts⟩ (ct_X12_parent hE hR hv2) (cwV 0 hts (lw_V q462 q463 q464 q71 q465) rfl rfl rfl (by decide +kernel) ⟨Nat.le_of_ble_eq_true rfl, Nat.le_of_ble_eq_true rfl⟩) (cc_pV hW0 (cc_re hK (hR.lin v hv2) (show gcl[11]? = _ from rfl))) rfl rfl hl.1 rfl (lv_room (Nat.le_of_ble_eq_true rfl)) dX1_asks_34 ⟨Nat.le_of_ble_eq_true rfl, Nat.le_of_ble_eq_true rfl⟩) hL (fun H locs hP1 hL => ?_)
        subst hP1
        refine gx_getN (D := D) (cl := gcl) (ci := 8) (v := .int (kI C 3 (kP C v))) (C := RX9) (T := TX9) (N := 19) hx hb hts in_X9 hown hK (hR.itm (kP C v) hpv) rfl 3 (by decide) (hE.nF hW0 q195) (fun _ h9 => h9) rfl dX1_asks_37 ?_
        refine gx_ti (nI (cLd C (kP C v))) (hC.ld (hR.lay.2.2.2.1 v hv2).2.2.1) ?_
        refine lv_iadd hx hb dX1_asks_40 ?_
        refine gx_ti (nI (wk + (cLd C (kP C v)))) (nI_add wk (cLd C (kP C v))) ?_
        refine lv_istore (lv' := [(7, .int (nI (wk + (cLd C (kP C v))))), (6, .ref (yE Y 0 v)), (3, .long (c_as C k wk v)), (5, .int (nI v)), (0, .ref s0.heap.size), (1, .ref (aI s0.heap.size k)), (2, .int (nI wk))]) hx hb dX1_asks_41 hl (by decide) rfl (fun ls hl => ?_)
        refine lv_lload_n hx hb dX1_asks_43 rfl (lv_at hl 2 rfl) ?_
        refine lv_aload hx hb dX1_asks_44 (lv_at hl 1 rfl) ?_
        refine cc_v (va_runV (b := yE Y 0 v) (As := []) (rest := [.long (c_as C k wk v)]) ⟨hx, hb, hml, hown, hts⟩ (ct_X12_child hE hR hv2) (cwV 0 hts (lw_V q466 q467 q468 q71 q469) rfl rfl rfl (by decide +kernel) ⟨Nat.le_of_ble_eq_true rfl, Nat.le_of_ble_eq_true rfl⟩) (cc_pV hW0 (cc_re hK (hR.lin v hv2) (show gcl[11]? = _ from rfl))) rfl rfl hl.1 rfl (lv_room (Nat.le_of_ble_eq_true rfl)) dX1_asks_46 ⟨Nat.le_of_ble_eq_true rfl, Nat.le_of_ble_eq_true rfl⟩) hL (fun H locs hP1 hL => ?_)
        subst hP1
        refine lv_aload_n hx hb dX1_asks_49 rfl (lv_at hl 5 rfl) ?_
        refine lv_acmp_ne (rx := some (aI s0.heap.size (kC C v))) (ry := some (aI s0.heap.size k)) (tgt := 88) hx hb dX1_asks_50 (by decide) (fun c50 => ?_) (fun c50 => ?_)
        · refine lv_lconst (v := 0) hx hb dX1_asks_88 (by decide) ?_
          refine lv_ladd hx hb dX1_asks_89 ?_
          refine gx_tl (c_as C k wk (v + 1)) (by rw [c_as, show c_as1 C k wk v = _ from if_neg (fun q => c50 (by rw [q.1]))]) ?_
          refine lv_lstore_n (lv' := [(3, .long (c_as C k wk (v + 1))), (7, .int (nI (wk + (cLd C (kP C v))))), (6, .ref (yE Y 0 v)), (5, .int (nI v)), (0, .ref s0.heap.size), (1, .ref (aI s0.heap.size k)), (2, .int (nI wk))]) hx hb dX1_asks_90 rfl hl (by decide) rfl (fun ls hl => ?_)
          refine lv_iinc (v := nI (v + 1)) (lv' := [(5, .int (nI (v + 1))), (3, .long (c_as C k wk (v + 1))), (7, .int (nI (wk + (cLd C (kP C v))))), (6, .ref (yE Y 0 v)), (0, .ref s0.heap.size), (1, .ref (aI s0.heap.size k)), (2, .int (nI wk))]) hx hb dX1_asks_91 hl (k := 3) rfl (nI_1 v) (by decide) rfl (fun ls hl => ?_)
          refine lv_goto (tgt := 5) hx hb dX1_asks_94 (by decide) ?_
          exact ih (v + 1) _ _ (by omega) (by omega) (lv_sub hl [1, 0, 4, 5, 6] rfl) hL
        · have hck : kC C v = k := aI_inj.mp (Option.some.inj c50)
          refine lv_aload hx hb dX1_asks_53 (lv_at hl 1 rfl) ?_
          refine lv_iload_n hx hb dX1_asks_55 rfl (lv_at hl 6 rfl) ?_
          refine cc_v (va_runV (b := yE Y 0 v) (As := [.int (nI wk)]) (rest := [.long (c_as C k wk v)]) ⟨hx, hb, hml, hown, hts⟩ (ct_X12_isIn hE hR hv2 (nI wk)) (cwV 1 hts (lw_V q470 q471 q472 q71 q473) rfl rfl rfl (by decide +kernel) ⟨Nat.le_of_ble_eq_true rfl, Nat.le_of_ble_eq_true rfl⟩) (cc_pV hW0 (cc_re hK (hR.lin v hv2) (show gcl[11]? = _ from rfl))) rfl rfl hl.1 rfl (lv_room (Nat.le_of_ble_eq_true rfl)) dX1_asks_56 ⟨Nat.le_of_ble_eq_true rfl, Nat.le_of_ble_eq_true rfl⟩) hL (fun H locs hP1 hL => ?_)
          subst hP1
          refine lv_if_eq (tgt := 88) hx hb dX1_asks_59 (by decide) (fun c59 => ?_) (fun c59 => ?_)
          · refine lv_lconst (v := 0) hx hb dX1_asks_88 (by decide) ?_
            refine lv_ladd hx hb dX1_asks_89 ?_
            refine gx_tl (c_as C k wk (v + 1)) (by rw [c_as, show c_as1 C k wk v = _ from if_neg (fun q => by have h7 := bZ_0.mp c59; rw [q.2.1] at h7; exact absurd h7 (by decide))]) ?_
            refine lv_lstore_n (lv' := [(3, .long (c_as C k wk (v + 1))), (7, .int (nI (wk + (cLd C (kP C v))))), (6, .ref (yE Y 0 v)), (5, .int (nI v)), (0, .ref s0.heap.size), (1, .ref (aI s0.heap.size k)), (2, .int (nI wk))]) hx hb dX1_asks_90 rfl hl (by decide) rfl (fun ls hl => ?_)
            refine lv_iinc (v := nI (v + 1)) (lv' := [(5, .int (nI (v + 1))), (3, .long (c_as C k wk (v + 1))), (7, .int (nI (wk + (cLd C (kP C v))))), (6, .ref (yE Y 0 v)), (0, .ref s0.heap.size), (1, .ref (aI s0.heap.size k)), (2, .int (nI wk))]) hx hb dX1_asks_91 hl (k := 3) rfl (nI_1 v) (by decide) rfl (fun ls hl => ?_)
            refine lv_goto (tgt := 5) hx hb dX1_asks_94 (by decide) ?_
            exact ih (v + 1) _ _ (by omega) (by omega) (lv_sub hl [1, 0, 4, 5, 6] rfl) hL
          · have hin2 := bZ_1.mp c59
            refine lv_iload hx hb dX1_asks_62 (lv_at hl 0 rfl) ?_
            refine lv_bipush (v := 12) hx hb dX1_asks_64 (by decide) ?_
            refine lv_icmp_ge (tgt := 88) hx hb dX1_asks_66 (by decide) (fun c66 => ?_) (fun c66 => ?_)
            · refine lv_lconst (v := 0) hx hb dX1_asks_88 (by decide) ?_
              refine lv_ladd hx hb dX1_asks_89 ?_
              refine gx_tl (c_as C k wk (v + 1)) (by rw [c_as, show c_as1 C k wk v = _ from if_neg (fun q => by have := n_ge (b := 12) c66 (by omega) (by omega); omega)]) ?_
              refine lv_lstore_n (lv' := [(3, .long (c_as C k wk (v + 1))), (7, .int (nI (wk + (cLd C (kP C v))))), (6, .ref (yE Y 0 v)), (5, .int (nI v)), (0, .ref s0.heap.size), (1, .ref (aI s0.heap.size k)), (2, .int (nI wk))]) hx hb dX1_asks_90 rfl hl (by decide) rfl (fun ls hl => ?_)
              refine lv_iinc (v := nI (v + 1)) (lv' := [(5, .int (nI (v + 1))), (3, .long (c_as C k wk (v + 1))), (7, .int (nI (wk + (cLd C (kP C v))))), (6, .ref (yE Y 0 v)), (0, .ref s0.heap.size), (1, .ref (aI s0.heap.size k)), (2, .int (nI wk))]) hx hb dX1_asks_91 hl (k := 3) rfl (nI_1 v) (by decide) rfl (fun ls hl => ?_)
              refine lv_goto (tgt := 5) hx hb dX1_asks_94 (by decide) ?_
              exact ih (v + 1) _ _ (by omega) (by omega) (lv_sub hl [1, 0, 4, 5, 6] rfl) hL
            · have hw2 : wk + cLd C (kP C v) < 12 := n_lt (b := 12) c66 (by omega) (by omega)
              refine lv_aload hx hb dX1_asks_69 (lv_at hl 1 rfl) ?_
              refine lv_aload hx hb dX1_asks_71 (lv_at hl 1 rfl) ?_
              refine cc_v (va_runV (b := yE Y 0 v) (As := []) (rest := [.ref (yE Y 0 v), .long (c_as C k wk v)]) ⟨hx, hb, hml, hown, hts⟩ (ct_X12_parent hE hR hv2) (cwV 0 hts (lw_V q462 q463 q464 q71 q465) rfl rfl rfl (by decide +kernel) ⟨Nat.le_of_ble_eq_true rfl, Nat.le_of_ble_eq_true rfl⟩) (cc_pV hW0 (cc_re hK (hR.lin v hv2) (show gcl[11]? = _ from rfl))) rfl rfl hl.1 rfl (lv_room (Nat.le_of_ble_eq_true rfl)) dX1_asks_73 ⟨Nat.le_of_ble_eq_true rfl, Nat.le_of_ble_eq_true rfl⟩) hL (fun H locs hP1 hL => ?_)
              subst hP1
              refine gx_getN (D := D) (cl := gcl) (ci := 8) (v := .ref (aA s0.heap.size 3 (kP C v))) (C := RX9) (T := TX9) (N := 19) hx hb hts in_X9 hown hK (hR.itm (kP C v) hpv) rfl 17 (by decide) (hE.nF hW0 q218) (fun _ h9 => h9) rfl dX1_asks_76 ?_
              refine lv_iload hx hb dX1_asks_79 (lv_at hl 0 rfl) ?_
              refine gx_lald (n := 12) hx hb hK 0 (hR.arr 3 (kP C v) (by decide) hpv) rfl (wk + cLd C (kP C v)) (rfl) (hw2) (by decide) dX1_asks_81 ?_
              refine cc_v (va_runV (b := yE Y 0 v) (As := [.long (kA C 3 (kP C v) (wk + cLd C (kP C v)))]) (rest := [.long (c_as C k wk v)]) ⟨hx, hb, hml, hown, hts⟩ (ct_X12_of hE hR hv2 (kA C 3 (kP C v) (wk + cLd C (kP C v)))) (cwV 1 hts (lw_V q474 q475 q476 q71 q477) rfl rfl rfl (by decide +kernel) ⟨Nat.le_of_ble_eq_true rfl, Nat.le_of_ble_eq_true rfl⟩) (cc_pV hW0 (cc_re hK (hR.lin v hv2) (show gcl[11]? = _ from rfl))) rfl rfl hl.1 rfl (lv_room (Nat.le_of_ble_eq_true rfl)) dX1_asks_82 ⟨Nat.le_of_ble_eq_true rfl, Nat.le_of_ble_eq_true rfl⟩) hL (fun H locs hP1 hL => ?_)
              subst hP1
              refine lv_goto (tgt := 89) hx hb dX1_asks_85 (by decide) ?_
              refine lv_ladd hx hb dX1_asks_89 ?_
              refine gx_tl (c_as C k wk (v + 1)) (by rw [c_as, show c_as1 C k wk v = _ from if_pos ⟨hck, hin2, hw2⟩]) ?_
              refine lv_lstore_n (lv' := [(3, .long (c_as C k wk (v + 1))), (7, .int (nI (wk + (cLd C (kP C v))))), (6, .ref (yE Y 0 v)), (5, .int (nI v)), (0, .ref s0.heap.size), (1, .ref (aI s0.heap.size k)), (2, .int (nI wk))]) hx hb dX1_asks_90 rfl hl (by decide) rfl (fun ls hl => ?_)
              refine lv_iinc (v := nI (v + 1)) (lv' := [(5, .int (nI (v + 1))), (3, .long (c_as C k wk (v + 1))), (7, .int (nI (wk + (cLd C (kP C v))))), (6, .ref (yE Y 0 v)), (0, .ref s0.heap.size), (1, .ref (aI s0.heap.size k)), (2, .int (nI wk))]) hx hb dX1_asks_91 hl (k := 3) rfl (nI_1 v) (by decide) rfl (fun ls hl => ?_)
              refine lv_goto (tgt := 5) hx hb dX1_asks_94 (by decide) ?_
              exact ih (v + 1) _ _ (by omega) (by omega) (lv_sub hl [1, 0, 4, 5, 6] rfl) hL
  refine lv_lconst (v := 0) hx hb dX1_asks_0 (by decide) ?_
  refine gx_tl (c_as C k wk 0) (rfl) ?_
  refine lv_lstore_n (lv' := [(3, .long (c_as C k wk 0)), (0, .ref s0.heap.size), (1, .ref (aI s0.heap.size k)), (2, .int (nI wk))]) hx hb dX1_asks_1 rfl hl (by decide) rfl (fun ls hl => ?_)
  refine lv_iconst (v := 0) hx hb dX1_asks_2 (by decide) ?_
  refine gx_ti (nI 0) (by decide) ?_
  refine lv_istore (lv' := [(5, .int (nI 0)), (3, .long (c_as C k wk 0)), (0, .ref s0.heap.size), (1, .ref (aI s0.heap.size k)), (2, .int (nI wk))]) hx hb dX1_asks_3 hl (by decide) rfl (fun ls hl => ?_)
  exact key (kN C 0 + 1) 0 _ _ (by omega) (by omega) (lv_sub hl [1, 0, 2, 3, 4] rfl) hL
set_option maxHeartbeats 4000000 in
set_option maxRecDepth 100000 in
/-- await -/
theorem ct_X1_await {l : Launch} {s0 : State} {D : va_G} {DA : Nat → ClassId} {z0 : Nat} {C : CS} {M : MS} {o : Int64} {H : Heap} (hE : G0 l s0 D DA z0) (hR : RR s0 D DA z0 C M o H) {k : Nat} (hk : k < 12) (h12 : kI C 13 k = 0 → kN C 4 < 12) : Met l yX1_await (ws_ yX1_await cX1_await 2 none) ({ frames := 8, cells := 1, slots := 36, locals := 193 }) (cP s0 [.ref s0.heap.size, .ref (aI s0.heap.size k)] H) (cQ0 (fun H1 => RR s0 D DA z0 (c_aw C k) M o H1)) 1 36 (cF s0) := by
  refine Met.ofW (cc := cX1_await) (maxL := 2) (ret := none) (by decide) rfl ?_
  intro p e s m args below meth c s₁ Bd hml hv
  obtain ⟨rfl, rfl, hW0⟩ := hv
  have hx := Bd.exec
  have hb := Bd.bytes
  have hr := Bd.returns
  have hts := atoms_spec (ws := (ws_ yX1_await cX1_await 2 none)) Bd.pre
  have hts : ∀ w ∈ lw_all, w.before _ s = true := fun w h => hts w (List.mem_cons_of_mem _ h)
  have hown : s.vm.findClass RX1 = some m.cls := findClass_of_methodNamed Bd.named
  have hlocks := Bd.notSynchronized
  have hK := va_K.moved hW0.alike hE.K
  have hL : gx_L s0.heap.size ([] : List Loc) := gx_L0
  obtain ⟨Y, hR⟩ := hR
  have hl := lv_entry ([.ref s0.heap.size, .ref (aI s0.heap.size k)]) (n := 2) (Nat.le_of_ble_eq_true rfl)
  rw [lg_entry_eq]
  generalize (lg_sl ([.ref s0.heap.size, .ref (aI s0.heap.size k)]) ++ List.replicate (2 - (lg_sl ([.ref s0.heap.size, .ref (aI s0.heap.size k)])).length) Slot.unset).toArray = ls at hl ⊢
  have hl : lv_has ls 2 [(0, .ref s0.heap.size), (1, .ref (aI s0.heap.size k))] := hl
  refine lv_aload_n hx hb dX1_await_0 rfl (lv_at hl 1 rfl) ?_
  refine gx_getN (D := D) (cl := gcl) (ci := 8) (v := .int (kI C 13 k)) (C := RX9) (T := TX9) (N := 19) hx hb hts in_X9 hown hK (hR.itm k hk) rfl 13 (by decide) (hE.nF hW0 q210) (fun _ h9 => h9) rfl dX1_await_1 ?_
  refine lv_if_eq (tgt := 8) hx hb dX1_await_4 (by decide) (fun c4 => ?_) (fun c4 => ?_)
  · refine lv_aload_n hx hb dX1_await_8 rfl (lv_at hl 1 rfl) ?_
    refine lv_iconst (v := 1) hx hb dX1_await_9 (by decide) ?_
    refine gx_putN (D := D) (cl := gcl) (ci := 8) (v := .int 1) (ty := .boolean) (C := RX9) (T := TX9) (N := 19) hx hb hts in_X9 tyX9 tyX9_ok nmX9 hown hK (hR.itm k hk) rfl 13 (by decide) (hE.nF hW0 q210) (fun _ h9 => h9) rfl (by decide +kernel) (rfl) rfl (Nat.le_of_ble_eq_true rfl) hL (by (try simp only [aI, aA, aT, aB, aL, mad]); omega) dX1_await_10 (fun H locs hU hA hL => ?_)
    have hR := GRb.pI (j := 13) (k := k) (by decide) (by decide) hk hR hU hA
    refine lv_aload_n hx hb dX1_await_13 rfl (lv_at hl 0 rfl) ?_
    refine gx_get (D := D) (cl := gcl) (ci := 0) (v := .ref (s0.heap.size + 16)) (C := RX1) (T := TX1) (N := 10) hx hb hts in_X1 hown hK hR.np rfl 6 (by decide) (hts _ q278) (fun _ h9 => h9) rfl dX1_await_14 ?_
    refine lv_aload_n hx hb dX1_await_17 rfl (lv_at hl 0 rfl) ?_
    refine gx_get (D := D) (cl := gcl) (ci := 0) (v := .ref (s0.heap.size + 18)) (C := RX1) (T := TX1) (N := 10) hx hb hts in_X1 hown hK hR.np rfl 7 (by decide) (hts _ q279) (fun _ h9 => h9) rfl dX1_await_18 ?_
    refine lv_aload_n hx hb dX1_await_21 rfl (lv_at hl 1 rfl) ?_
    refine gx_getN (D := D) (cl := gcl) (ci := 8) (v := .int (nI k)) (C := RX9) (T := TX9) (N := 19) hx hb hts in_X9 hown hK (hR.itm k hk) rfl 0 (by decide) (hE.nF hW0 q187) (fun _ h9 => h9) rfl dX1_await_22 ?_
    refine gx_aald (x := aT s0.heap.size k) hx hb hK 4 hR.trn rfl k (rfl) (by omega) (by decide) rfl dX1_await_25 ?_
    refine cc_0 (va_runV (b := s0.heap.size + 16) (As := [.ref (aT s0.heap.size k)]) (rest := []) ⟨hx, hb, hml, hown, hts⟩ (ct_X8_put hE ⟨_, hR⟩ hk (h12 c4)) (cwV 1 hts (lw_V q311 q312 q313 q57 q314) rfl rfl rfl (by decide +kernel) ⟨Nat.le_of_ble_eq_true rfl, Nat.le_of_ble_eq_true rfl⟩) (cc_pV hW0 (cc_re hK hR.wai (show gcl[7]? = _ from rfl))) rfl rfl hl.1 rfl (lv_room (Nat.le_of_ble_eq_true rfl)) dX1_await_26 ⟨Nat.le_of_ble_eq_true rfl, Nat.le_of_ble_eq_true rfl⟩) hL (fun H locs hP1 hL => ?_)
    obtain ⟨Y, hR⟩ := hP1
    exact W.vret hx hb hr (fun t ht hW => ⟨rfl, by rw [ht]; exact (RR_C (by unfold c_aw; rw [if_pos c4]; rfl) ⟨_, hR⟩)⟩) hL dX1_await_29
  · refine W.widen (k := 1) (n := 36) (by omega) (by omega) ?_
    exact W.vret hx hb hr (fun t ht hW => ⟨rfl, by rw [ht]; exact (RR_C (by unfold c_aw; rw [if_neg c4]) ⟨_, hR⟩)⟩) hL dX1_await_7
set_option maxHeartbeats 4000000 in
set_option maxRecDepth 100000 in
/-- grows -/
theorem ct_X1_grows {l : Launch} {s0 : State} {D : va_G} {DA : Nat → ClassId} {z0 : Nat} {C : CS} {M : MS} {o : Int64} {H : Heap} (hE : G0 l s0 D DA z0) (hR : RR s0 D DA z0 C M o H) {k : Nat} (hk : k < 12) (hC : CC C) : Met l yX1_grows (ws_ yX1_grows cX1_grows 6 (some .boolean)) ({ frames := 4, cells := 0, slots := 0, locals := 91 }) (cP s0 [.ref s0.heap.size, .ref (aI s0.heap.size k)] H) (cQv (.int (bZ (c_df C k 12))) (fun H1 => RR s0 D DA z0 (c_gr C k) M o H1)) 0 0 (cF s0) := by
  refine Met.ofW (cc := cX1_grows) (maxL := 6) (ret := (some .boolean)) (by decide) rfl ?_
  intro p e s m args below meth c s₁ Bd hml hv
  obtain ⟨rfl, rfl, hW0⟩ := hv
  have hx := Bd.exec
  have hb := Bd.bytes
  have hr := Bd.returns
  have hts := atoms_spec (ws := (ws_ yX1_grows cX1_grows 6 (some .boolean))) Bd.pre
  have hts : ∀ w ∈ lw_all, w.before _ s = true := fun w h => hts w (List.mem_cons_of_mem _ h)
  have hown : s.vm.findClass RX1 = some m.cls := findClass_of_methodNamed Bd.named
  have hlocks := Bd.notSynchronized
  have hK := va_K.moved hW0.alike hE.K
  have hL : gx_L s0.heap.size ([] : List Loc) := gx_L0
  obtain ⟨Y, hR⟩ := hR
  have hl := lv_entry ([.ref s0.heap.size, .ref (aI s0.heap.size k)]) (n := 6) (Nat.le_of_ble_eq_true rfl)
  rw [lg_entry_eq]
  generalize (lg_sl ([.ref s0.heap.size, .ref (aI s0.heap.size k)]) ++ List.replicate (6 - (lg_sl ([.ref s0.heap.size, .ref (aI s0.heap.size k)])).length) Slot.unset).toArray = ls at hl ⊢
  have hl : lv_has ls 6 [(0, .ref s0.heap.size), (1, .ref (aI s0.heap.size k))] := hl
  have key : ∀ (n : Nat) (v : Nat) (H : Heap) (locs : List Loc) (ls : Array Slot), v ≤ 12 → 12 < v + n → lv_has ls 6 [(2, .int (bZ (c_df C k v))), (3, .int (nI v)), (0, .ref s0.heap.size), (1, .ref (aI s0.heap.size k))] → gx_L s0.heap.size locs → GRb s0.heap.size s0.heap D DA z0 Y (c_wr C 0 k v (c_g C k)) M o H → W p l e (headSpec (ws_ yX1_grows cX1_grows 6 (some .boolean)) ({ frames := 4, cells := 0, slots := 0, locals := 91 })).room s m ([.ref s0.heap.size, .ref (aI s0.heap.size k)] : List Value).toArray below meth c H locs 0 0 (MQ below (cQv (.int (bZ (c_df C k 12))) (fun H1 => RR s0 D DA z0 (c_gr C k) M o H1)) ([.ref s0.heap.size, .ref (aI s0.heap.size k)] : List Value).toArray s 0 0 (cF s0)) (F0 m 4 ls []) := by
    intro n
    induction n with
    | zero =>
      intro v H locs ls hv hn hl hL hR
      omega
    | succ n ih =>
      intro v H locs ls hv hn hl hL hR
      refine lv_iload_n hx hb dX1_grows_4 rfl (lv_at hl 1 rfl) ?_
      refine lv_bipush (v := 12) hx hb dX1_grows_5 (by decide) ?_
      refine lv_icmp_ge (tgt := 67) hx hb dX1_grows_7 (by decide) (fun c7 => ?_) (fun c7 => ?_)
      · have hkc : v = 12 := by have := n_ge (b := 12) c7 (by omega) (by omega); omega
        refine lv_iload_n hx hb dX1_grows_67 rfl (lv_at hl 0 rfl) ?_
        exact W.zret (v := (bZ (c_df C k v))) hx hb hr (bZ_n _) (fun t ht hW => ⟨ovI (by rw [hkc]), by rw [ht]; exact (RR_C (by rw [hkc]; rfl) ⟨_, hR⟩)⟩) hL dX1_grows_68
      · have hkc : v < 12 := by have := n_lt (b := 12) c7 (by omega) (by omega); omega
        refine lv_aload_n hx hb dX1_grows_10 rfl (lv_at hl 2 rfl) ?_
        refine gx_get (D := D) (cl := gcl) (ci := 0) (v := .ref (aB s0.heap.size 1)) (C := RX1) (T := TX1) (N := 10) hx hb hts in_X1 hown hK hR.np rfl 2 (by decide) (hts _ q274) (fun _ h9 => h9) rfl dX1_grows_11 ?_
        refine lv_aload_n hx hb dX1_grows_14 rfl (lv_at hl 3 rfl) ?_
        refine gx_getN (D := D) (cl := gcl) (ci := 8) (v := .int (nI k)) (C := RX9) (T := TX9) (N := 19) hx hb hts in_X9 hown hK (hR.itm k hk) rfl 0 (by decide) (hE.nF hW0 q187) (fun _ h9 => h9) rfl dX1_grows_15 ?_
        refine lv_iload_n hx hb dX1_grows_18 rfl (lv_at hl 1 rfl) ?_
        refine cc_v (va_runV (b := aB s0.heap.size 1) (As := [.int (nI k), .int (nI v)]) (rest := []) ⟨hx, hb, hml, hown, hts⟩ (ct_X2_sum (j := 1) hE hR (by decide) (by decide) (nI k) (nI v)) (cwV 2 hts (lw_V q448 q449 q450 q51 q451) rfl rfl rfl (by decide +kernel) ⟨Nat.le_of_ble_eq_true rfl, Nat.le_of_ble_eq_true rfl⟩) (cc_pV hW0 (cc_re hK (hR.bok 1 (by decide) (by decide)) (show gcl[2]? = _ from rfl))) rfl rfl hl.1 rfl (lv_room (Nat.le_of_ble_eq_true rfl)) dX1_grows_19 ⟨Nat.le_of_ble_eq_true rfl, Nat.le_of_ble_eq_true rfl⟩) hL (fun H locs hP1 hL => ?_)
        subst hP1
        refine lv_aload_n hx hb dX1_grows_22 rfl (lv_at hl 2 rfl) ?_
        refine lv_aload_n hx hb dX1_grows_23 rfl (lv_at hl 3 rfl) ?_
        refine lv_iload_n hx hb dX1_grows_24 rfl (lv_at hl 1 rfl) ?_
        refine cc_v (va_runV (b := s0.heap.size) (As := [.ref (aI s0.heap.size k), .int (nI v)]) (rest := [.long (c_sum (c_wr C 0 k v (c_g C k)) 1 (nI k) (nI v) (kN (c_wr C 0 k v (c_g C k)) 1))]) ⟨hx, hb, hml, hown, hts⟩ (ct_X1_asks (k := k) (wk := v) hE hR hk hkc (hC.of rfl rfl rfl rfl rfl)) (cwV 2 hts (lw_V q455 q457 qs8 q47 q458) rfl rfl rfl (by decide +kernel) ⟨Nat.le_of_ble_eq_true rfl, Nat.le_of_ble_eq_true rfl⟩) (cc_pV hW0 (cc_re hK hR.np (show gcl[0]? = _ from rfl))) rfl rfl hl.1 rfl (lv_room (Nat.le_of_ble_eq_true rfl)) dX1_grows_25 ⟨Nat.le_of_ble_eq_true rfl, Nat.le_of_ble_eq_true rfl⟩) hL (fun H locs hP1 hL => ?_)
        subst hP1
        refine lv_ladd hx hb dX1_grows_28 ?_
        refine gx_tl (c_g C k v) (by rw [c_as_of (C := C) (C' := c_wr C 0 k v (c_g C k)) rfl (by funext k9; exact c_wr_o C _ (by omega)) rfl rfl rfl, c_sum_of (C := C) (C' := c_wr C 0 k v (c_g C k)) rfl]; rfl) ?_
        refine lv_lstore (lv' := [(4, .long (c_g C k v)), (2, .int (bZ (c_df C k v))), (3, .int (nI v)), (0, .ref s0.heap.size), (1, .ref (aI s0.heap.size k))]) hx hb dX1_grows_29 hl (by decide) rfl (fun ls hl => ?_)
        refine lv_iload_n hx hb dX1_grows_31 rfl (lv_at hl 1 rfl) ?_
        refine lv_if_ne (tgt := 47) hx hb dX1_grows_32 (by decide) (fun c32 => ?_) (fun c32 => ?_)
        · refine lv_iconst (v := 1) hx hb dX1_grows_47 (by decide) ?_
          refine lv_goto (tgt := 52) hx hb dX1_grows_48 (by decide) ?_
          refine gx_ti (bZ (c_df C k (v + 1))) ((bZ_t (by rw [c_df, bZ_1.mp c32]; rfl)).symm) ?_
          refine lv_istore_n (lv' := [(2, .int (bZ (c_df C k (v + 1)))), (4, .long (c_g C k v)), (3, .int (nI v)), (0, .ref s0.heap.size), (1, .ref (aI s0.heap.size k))]) hx hb dX1_grows_52 rfl hl (by decide) rfl (fun ls hl => ?_)
          refine lv_aload_n hx hb dX1_grows_53 rfl (lv_at hl 4 rfl) ?_
          refine gx_getN (D := D) (cl := gcl) (ci := 8) (v := .ref (aA s0.heap.size 0 k)) (C := RX9) (T := TX9) (N := 19) hx hb hts in_X9 hown hK (hR.itm k hk) rfl 14 (by decide) (hE.nF hW0 q212) (fun _ h9 => h9) rfl dX1_grows_54 ?_
          refine lv_iload_n hx hb dX1_grows_57 rfl (lv_at hl 2 rfl) ?_
          refine lv_lload hx hb dX1_grows_58 (lv_at hl 1 rfl) ?_
          refine gx_last (n := 12) hx hb hK 0 (hR.arr 0 k (by decide) hk) rfl v (rfl) (by omega) (by decide) hL (by (try simp only [aI, aA, aT, aB, aL, mad]); omega) dX1_grows_60 (fun H locs hU hA hL => ?_)
          have hR := GRb.pA (j := 0) (k := k) (by decide) hk hR hU hA
          have hR := GR_C (C := (rA (c_wr C 0 k v (c_g C k)) (up3 (kA (c_wr C 0 k v (c_g C k))) 0 k v (c_g C k v)))) (C' := c_wr C 0 k (v + 1) (c_g C k)) (c_wr_s C 0 k v _) hR
          refine lv_iinc (v := nI (v + 1)) (lv' := [(3, .int (nI (v + 1))), (2, .int (bZ (c_df C k (v + 1)))), (4, .long (c_g C k v)), (0, .ref s0.heap.size), (1, .ref (aI s0.heap.size k))]) hx hb dX1_grows_61 hl (k := 2) rfl (nI_1 v) (by decide) rfl (fun ls hl => ?_)
          refine lv_goto (tgt := 4) hx hb dX1_grows_64 (by decide) ?_
          exact ih (v + 1) _ _ _ (by omega) (by omega) (lv_sub hl [1, 0, 3, 4] rfl) hL hR
        · refine lv_lload hx hb dX1_grows_35 (lv_at hl 0 rfl) ?_
          refine lv_aload_n hx hb dX1_grows_37 rfl (lv_at hl 4 rfl) ?_
          refine gx_getN (D := D) (cl := gcl) (ci := 8) (v := .ref (aA s0.heap.size 0 k)) (C := RX9) (T := TX9) (N := 19) hx hb hts in_X9 hown hK (hR.itm k hk) rfl 14 (by decide) (hE.nF hW0 q212) (fun _ h9 => h9) rfl dX1_grows_38 ?_
          refine lv_iload_n hx hb dX1_grows_41 rfl (lv_at hl 2 rfl) ?_
          refine gx_lald (n := 12) hx hb hK 0 (hR.arr 0 k (by decide) hk) rfl v (rfl) (by omega) (by decide) dX1_grows_42 ?_
          refine gx_tl (kA C 0 k v) (c_wr_x C _ (Nat.le_refl _)) ?_
          refine gx_lc_eq (tgt := 51) (pc1 := 44) hx hb rfl dX1_grows_43 dX1_grows_44 (by decide) (fun c44 => ?_) (fun c44 => ?_)
          · refine lv_iconst (v := 0) hx hb dX1_grows_51 (by decide) ?_
            refine gx_ti (bZ (c_df C k (v + 1))) ((bZ_f (by rw [c_df, bZ_0.mp c32, decide_eq_false (fun q => q c44)]; rfl)).symm) ?_
            refine lv_istore_n (lv' := [(2, .int (bZ (c_df C k (v + 1)))), (4, .long (c_g C k v)), (3, .int (nI v)), (0, .ref s0.heap.size), (1, .ref (aI s0.heap.size k))]) hx hb dX1_grows_52 rfl hl (by decide) rfl (fun ls hl => ?_)
            refine lv_aload_n hx hb dX1_grows_53 rfl (lv_at hl 4 rfl) ?_
            refine gx_getN (D := D) (cl := gcl) (ci := 8) (v := .ref (aA s0.heap.size 0 k)) (C := RX9) (T := TX9) (N := 19) hx hb hts in_X9 hown hK (hR.itm k hk) rfl 14 (by decide) (hE.nF hW0 q212) (fun _ h9 => h9) rfl dX1_grows_54 ?_
            refine lv_iload_n hx hb dX1_grows_57 rfl (lv_at hl 2 rfl) ?_
            refine lv_lload hx hb dX1_grows_58 (lv_at hl 1 rfl) ?_
            refine gx_last (n := 12) hx hb hK 0 (hR.arr 0 k (by decide) hk) rfl v (rfl) (by omega) (by decide) hL (by (try simp only [aI, aA, aT, aB, aL, mad]); omega) dX1_grows_60 (fun H locs hU hA hL => ?_)
            have hR := GRb.pA (j := 0) (k := k) (by decide) hk hR hU hA
            have hR := GR_C (C := (rA (c_wr C 0 k v (c_g C k)) (up3 (kA (c_wr C 0 k v (c_g C k))) 0 k v (c_g C k v)))) (C' := c_wr C 0 k (v + 1) (c_g C k)) (c_wr_s C 0 k v _) hR
            refine lv_iinc (v := nI (v + 1)) (lv' := [(3, .int (nI (v + 1))), (2, .int (bZ (c_df C k (v + 1)))), (4, .long (c_g C k v)), (0, .ref s0.heap.size), (1, .ref (aI s0.heap.size k))]) hx hb dX1_grows_61 hl (k := 2) rfl (nI_1 v) (by decide) rfl (fun ls hl => ?_)
            refine lv_goto (tgt := 4) hx hb dX1_grows_64 (by decide) ?_
            exact ih (v + 1) _ _ _ (by omega) (by omega) (lv_sub hl [1, 0, 3, 4] rfl) hL hR
          · refine lv_iconst (v := 1) hx hb dX1_grows_47 (by decide) ?_
            refine lv_goto (tgt := 52) hx hb dX1_grows_48 (by decide) ?_
            refine gx_ti (bZ (c_df C k (v + 1))) ((bZ_t (by rw [c_df, decide_eq_true c44, Bool.or_true])).symm) ?_
            refine lv_istore_n (lv' := [(2, .int (bZ (c_df C k (v + 1)))), (4, .long (c_g C k v)), (3, .int (nI v)), (0, .ref s0.heap.size), (1, .ref (aI s0.heap.size k))]) hx hb dX1_grows_52 rfl hl (by decide) rfl (fun ls hl => ?_)
            refine lv_aload_n hx hb dX1_grows_53 rfl (lv_at hl 4 rfl) ?_
            refine gx_getN (D := D) (cl := gcl) (ci := 8) (v := .ref (aA s0.heap.size 0 k)) (C := RX9) (T := TX9) (N := 19) hx hb hts in_X9 hown hK (hR.itm k hk) rfl 14 (by decide) (hE.nF hW0 q212) (fun _ h9 => h9) rfl dX1_grows_54 ?_
            refine lv_iload_n hx hb dX1_grows_57 rfl (lv_at hl 2 rfl) ?_
            refine lv_lload hx hb dX1_grows_58 (lv_at hl 1 rfl) ?_
            refine gx_last (n := 12) hx hb hK 0 (hR.arr 0 k (by decide) hk) rfl v (rfl) (by omega) (by decide) hL (by (try simp only [aI, aA, aT, aB, aL, mad]); omega) dX1_grows_60 (fun H locs hU hA hL => ?_)
            have hR := GRb.pA (j := 0) (k := k) (by decide) hk hR hU hA
            have hR := GR_C (C := (rA (c_wr C 0 k v (c_g C k)) (up3 (kA (c_wr C 0 k v (c_g C k))) 0 k v (c_g C k v)))) (C' := c_wr C 0 k (v + 1) (c_g C k)) (c_wr_s C 0 k v _) hR
            refine lv_iinc (v := nI (v + 1)) (lv' := [(3, .int (nI (v + 1))), (2, .int (bZ (c_df C k (v + 1)))), (4, .long (c_g C k v)), (0, .ref s0.heap.size), (1, .ref (aI s0.heap.size k))]) hx hb dX1_grows_61 hl (k := 2) rfl (nI_1 v) (by decide) rfl (fun ls hl => ?_)
            refine lv_goto (tgt := 4) hx hb dX1_grows_64 (by decide) ?_
            exact ih (v + 1) _ _ _ (by omega) (by omega) (lv_sub hl [1, 0, 3, 4] rfl) hL hR
  have hR := GR_C (C := C) (C' := c_wr C 0 k 0 (c_g C k)) ((c_wr_0 C 0 k _).symm) hR
  refine lv_iconst (v := 0) hx hb dX1_grows_0 (by decide) ?_
  refine gx_ti (bZ (c_df C k 0)) (rfl) ?_
  refine lv_istore_n (lv' := [(2, .int (bZ (c_df C k 0))), (0, .ref s0.heap.size), (1, .ref (aI s0.heap.size k))]) hx hb dX1_grows_1 rfl hl (by decide) rfl (fun ls hl => ?_)
  refine lv_iconst (v := 0) hx hb dX1_grows_2 (by decide) ?_
  refine gx_ti (nI 0) (by decide) ?_
  refine lv_istore_n (lv' := [(3, .int (nI 0)), (2, .int (bZ (c_df C k 0))), (0, .ref s0.heap.size), (1, .ref (aI s0.heap.size k))]) hx hb dX1_grows_3 rfl hl (by decide) rfl (fun ls hl => ?_)
  exact key 13 0 _ _ _ (by omega) (by omega) (lv_sub hl [1, 0, 2, 3] rfl) hL hR
theorem mo_s (f : Nat → Int64) (n : Nat) : (if f n < p_mo f n then p_mo f n else f n) = p_mo f (n + 1) := by
  rw [p_mo]
  by_cases h : f n < p_mo f n
  · rw [if_pos h, if_neg (fun q => Int64.lt_irrefl (Int64.lt_trans h q))]
  · rw [if_neg h]
    by_cases h2 : p_mo f n < f n
    · rw [if_pos h2]
    · rw [if_neg h2]
      exact Int64.le_antisymm (Int64.not_lt.mp h2) (Int64.not_lt.mp h)
set_option maxHeartbeats 4000000 in
set_option maxRecDepth 100000 in
/-- net -/
theorem ct_X1_net {l : Launch} {s0 : State} {D : va_G} {DA : Nat → ClassId} {z0 : Nat} {C : CS} {M : MS} {o : Int64} {H : Heap} (hE : G0 l s0 D DA z0) (hR : RR s0 D DA z0 C M o H) {k : Nat} (hk : k < 12) (hC : CC C) : Met l yX1_net (ws_ yX1_net cX1_net 9 none) ({ frames := 4, cells := 0, slots := 0, locals := 93 }) (cP s0 [.ref s0.heap.size, .ref (aI s0.heap.size k)] H) (cQ0 (fun H1 => RR s0 D DA z0 (c_net C k) M o H1)) 0 0 (cF s0) := by
  refine Met.ofW (cc := cX1_net) (maxL := 9) (ret := none) (by decide) rfl ?_
  intro p e s m args below meth c s₁ Bd hml hv
  obtain ⟨rfl, rfl, hW0⟩ := hv
  have hx := Bd.exec
  have hb := Bd.bytes
  have hr := Bd.returns
  have hts := atoms_spec (ws := (ws_ yX1_net cX1_net 9 none)) Bd.pre
  have hts : ∀ w ∈ lw_all, w.before _ s = true := fun w h => hts w (List.mem_cons_of_mem _ h)
  have hown : s.vm.findClass RX1 = some m.cls := findClass_of_methodNamed Bd.named
  have hlocks := Bd.notSynchronized
  have hK := va_K.moved hW0.alike hE.K
  have hL : gx_L s0.heap.size ([] : List Loc) := gx_L0
  obtain ⟨Y, hR⟩ := hR
  have hl := lv_entry ([.ref s0.heap.size, .ref (aI s0.heap.size k)]) (n := 9) (Nat.le_of_ble_eq_true rfl)
  rw [lg_entry_eq]
  generalize (lg_sl ([.ref s0.heap.size, .ref (aI s0.heap.size k)]) ++ List.replicate (9 - (lg_sl ([.ref s0.heap.size, .ref (aI s0.heap.size k)])).length) Slot.unset).toArray = ls at hl ⊢
  have hl : lv_has ls 9 [(0, .ref s0.heap.size), (1, .ref (aI s0.heap.size k))] := hl
  have k2 : ∀ (n : Nat) (Y : YS) (v : Nat) (H : Heap) (locs : List Loc) (ls : Array Slot), v ≤ 12 → 12 < v + n → lv_has ls 9 [(6, .long (c_gt (c_pr (c_n1 C k 12) k) k v)), (8, .int (nI v)), (1, .ref (aI s0.heap.size k))] → gx_L s0.heap.size locs → GRb s0.heap.size s0.heap D DA z0 Y (c_n2 (c_pr (c_n1 C k 12) k) k v) M o H → W p l e (headSpec (ws_ yX1_net cX1_net 9 none) ({ frames := 4, cells := 0, slots := 0, locals := 93 })).room s m ([.ref s0.heap.size, .ref (aI s0.heap.size k)] : List Value).toArray below meth c H locs 0 0 (MQ below (cQ0 (fun H1 => RR s0 D DA z0 (c_net C k) M o H1)) ([.ref s0.heap.size, .ref (aI s0.heap.size k)] : List Value).toArray s 0 0 (cF s0)) (F0 m 114 ls []) := by
    intro n
    induction n with
    | zero =>
      intro Y v H locs ls hv hn hl hL hR
      omega
    | succ n ih =>
      intro Y v H locs ls hv hn hl hL hR
      refine lv_iload hx hb dX1_net_114 (lv_at hl 1 rfl) ?_
      refine lv_bipush (v := 12) hx hb dX1_net_116 (by decide) ?_
      refine lv_icmp_ge (tgt := 151) hx hb dX1_net_118 (by decide) (fun c118 => ?_) (fun c118 => ?_)
      · have hkc : v = 12 := by have := n_ge (b := 12) c118 (by omega) (by omega); omega
        exact W.vret hx hb hr (fun t ht hW => ⟨rfl, by rw [ht]; exact (RR_C (by rw [hkc]; rfl) ⟨_, hR⟩)⟩) hL dX1_net_151
      · have hkc : v < 12 := by have := n_lt (b := 12) c118 (by omega) (by omega); omega
        refine lv_lload hx hb dX1_net_121 (lv_at hl 0 rfl) ?_
        refine lv_aload_n hx hb dX1_net_123 rfl (lv_at hl 2 rfl) ?_
        refine gx_getN (D := D) (cl := gcl) (ci := 8) (v := .ref (aA s0.heap.size 3 k)) (C := RX9) (T := TX9) (N := 19) hx hb hts in_X9 hown hK (hR.itm k hk) rfl 17 (by decide) (hE.nF hW0 q218) (fun _ h9 => h9) rfl dX1_net_124 ?_
        refine lv_iload hx hb dX1_net_127 (lv_at hl 1 rfl) ?_
        refine gx_lald (n := 12) hx hb hK 0 (hR.arr 3 k (by decide) hk) rfl v (rfl) (by omega) (by decide) dX1_net_129 ?_
        refine gx_tl (kA (c_pr (c_n1 C k 12) k) 3 k v) (congrFun (c_wr_o (c_pr (c_n1 C k 12) k) _ (by omega)) v) ?_
        refine lv_ladd hx hb dX1_net_130 ?_
        refine gx_tl (c_gt (c_pr (c_n1 C k 12) k) k (v + 1)) (rfl) ?_
        refine lv_lstore (lv' := [(6, .long (c_gt (c_pr (c_n1 C k 12) k) k (v + 1))), (8, .int (nI v)), (1, .ref (aI s0.heap.size k))]) hx hb dX1_net_131 hl (by decide) rfl (fun ls hl => ?_)
        refine lv_aload_n hx hb dX1_net_133 rfl (lv_at hl 2 rfl) ?_
        refine gx_getN (D := D) (cl := gcl) (ci := 8) (v := .ref (aA s0.heap.size 4 k)) (C := RX9) (T := TX9) (N := 19) hx hb hts in_X9 hown hK (hR.itm k hk) rfl 18 (by decide) (hE.nF hW0 q220) (fun _ h9 => h9) rfl dX1_net_134 ?_
        refine lv_iload hx hb dX1_net_137 (lv_at hl 1 rfl) ?_
        refine lv_dup2_11 hx hb dX1_net_139 rfl rfl ?_
        refine gx_lald (n := 12) hx hb hK 0 (hR.arr 4 k (by decide) hk) rfl v (rfl) (by omega) (by decide) dX1_net_140 ?_
        refine gx_tl (kA (c_pr (c_n1 C k 12) k) 4 k v) (c_wr_x (c_pr (c_n1 C k 12) k) _ (Nat.le_refl _)) ?_
        refine lv_lload hx hb dX1_net_141 (lv_at hl 0 rfl) ?_
        refine lv_ladd hx hb dX1_net_143 ?_
        refine gx_last (n := 12) hx hb hK 0 (hR.arr 4 k (by decide) hk) rfl v (rfl) (by omega) (by decide) hL (by (try simp only [aI, aA, aT, aB, aL, mad]); omega) dX1_net_144 (fun H locs hU hA hL => ?_)
        have hR := GRb.pA (j := 4) (k := k) (by decide) hk hR hU hA
        have hR := GR_C (C := (rA (c_n2 (c_pr (c_n1 C k 12) k) k v) (up3 (kA (c_n2 (c_pr (c_n1 C k 12) k) k v)) 4 k v ((kA (c_pr (c_n1 C k 12) k) 4 k v) + (c_gt (c_pr (c_n1 C k 12) k) k (v + 1)))))) (C' := c_n2 (c_pr (c_n1 C k 12) k) k (v + 1)) (c_wr_s (c_pr (c_n1 C k 12) k) 4 k v _) hR
        refine lv_iinc (v := nI (v + 1)) (lv' := [(8, .int (nI (v + 1))), (6, .long (c_gt (c_pr (c_n1 C k 12) k) k (v + 1))), (1, .ref (aI s0.heap.size k))]) hx hb dX1_net_145 hl (k := 1) rfl (nI_1 v) (by decide) rfl (fun ls hl => ?_)
        refine lv_goto (tgt := 114) hx hb dX1_net_148 (by decide) ?_
        exact ih Y (v + 1) _ _ _ (by omega) (by omega) (lv_sub hl [1, 0, 2] rfl) hL hR
  have key : ∀ (n : Nat) (v : Nat) (H : Heap) (locs : List Loc) (ls : Array Slot), v ≤ 12 → 12 < v + n → lv_has ls 9 [(2, .long (c_ba C k v)), (4, .long (p_mo (c_la C k) v)), (6, .int (nI v)), (0, .ref s0.heap.size), (1, .ref (aI s0.heap.size k))] → gx_L s0.heap.size locs → GRb s0.heap.size s0.heap D DA z0 Y (c_n1 C k v) M o H → W p l e (headSpec (ws_ yX1_net cX1_net 9 none) ({ frames := 4, cells := 0, slots := 0, locals := 93 })).room s m ([.ref s0.heap.size, .ref (aI s0.heap.size k)] : List Value).toArray below meth c H locs 0 0 (MQ below (cQ0 (fun H1 => RR s0 D DA z0 (c_net C k) M o H1)) ([.ref s0.heap.size, .ref (aI s0.heap.size k)] : List Value).toArray s 0 0 (cF s0)) (F0 m 12 ls []) := by
    intro n
    induction n with
    | zero =>
      intro v H locs ls hv hn hl hL hR
      omega
    | succ n ih =>
      intro v H locs ls hv hn hl hL hR
      refine lv_iload hx hb dX1_net_12 (lv_at hl 2 rfl) ?_
      refine lv_bipush (v := 12) hx hb dX1_net_14 (by decide) ?_
      refine lv_icmp_ge (tgt := 95) hx hb dX1_net_16 (by decide) (fun c16 => ?_) (fun c16 => ?_)
      · have hkc : v = 12 := by have := n_ge (b := 12) c16 (by omega) (by omega); omega
        have hR := GR_C (C := c_n1 C k v) (C' := c_n1 C k 12) (by rw [hkc]) hR
        have hC1 : CC (c_n1 C k 12) := hC.of rfl rfl rfl rfl rfl
        have hru : cRu C k = 0 ∨ cRu C k = 1 ∨ cRu C k = 2 ∨ cRu C k = 3 := by have := hC.r3 hk; omega
        rcases hru with hru | hru | hru | hru
        · refine lv_aload_n hx hb dX1_net_95 rfl (lv_at hl 3 rfl) ?_
          refine gx_get (D := D) (cl := gcl) (ci := 0) (v := .ref (s0.heap.size + 9)) (C := RX1) (T := TX1) (N := 10) hx hb hts in_X1 hown hK hR.np rfl 5 (by decide) (hts _ q277) (fun _ h9 => h9) rfl dX1_net_96 ?_
          refine lv_aload_n hx hb dX1_net_99 rfl (lv_at hl 4 rfl) ?_
          refine gx_getN (D := D) (cl := gcl) (ci := 8) (v := .int (kI (c_n1 C k 12) 1 k)) (C := RX9) (T := TX9) (N := 19) hx hb hts in_X9 hown hK (hR.itm k hk) rfl 1 (by decide) (hE.nF hW0 q188) (fun _ h9 => h9) rfl dX1_net_100 ?_
          refine gx_aald (x := s0.heap.size + 10) hx hb hK 5 hR.rul rfl 0 (by rw [show kI (c_n1 C k 12) 1 k = nI (cRu C k) from hC.ru hk, hru]) (by decide) (by decide) rfl dX1_net_103 ?_
          refine lv_aload_n hx hb dX1_net_104 rfl (lv_at hl 4 rfl) ?_
          refine cc_0 (va_runU (b := s0.heap.size + 10) (As := [.ref (aI s0.heap.size k)]) (rest := []) ⟨hx, hb, hml, hown, hts⟩ (ct_X3_plan_0 hE ⟨_, hR⟩ hk hC1) (va_cwU 1 hts (lw_U (owner := "NettedPlans$LotRule") q486 q488 q489 q487 q52 q504) rfl rfl rfl rfl (by decide +kernel) ⟨Nat.le_of_ble_eq_true rfl, Nat.le_of_ble_eq_true rfl⟩) (cc_pV hW0 (cc_re hK hR.an (show gcl[3]? = _ from rfl))) rfl rfl hl.1 rfl (lv_room (Nat.le_of_ble_eq_true rfl)) dX1_net_105 ⟨Nat.le_of_ble_eq_true rfl, Nat.le_of_ble_eq_true rfl⟩) hL (fun H locs hP1 hL => ?_)
          obtain ⟨Y, hR⟩ := hP1
          have hR := GR_C (C := c_pl (c_n1 C k 12) 0 k) (C' := c_pr (c_n1 C k 12) k) (by unfold c_pr; rw [show cRu (c_n1 C k 12) k = 0 from hru]; rfl) hR
          refine lv_lconst (v := 0) hx hb dX1_net_108 (by decide) ?_
          refine gx_tl (c_gt (c_pr (c_n1 C k 12) k) k 0) (rfl) ?_
          refine lv_lstore (lv' := [(6, .long (c_gt (c_pr (c_n1 C k 12) k) k 0)), (2, .long (c_ba C k v)), (4, .long (p_mo (c_la C k) v)), (0, .ref s0.heap.size), (1, .ref (aI s0.heap.size k))]) hx hb dX1_net_109 hl (by decide) rfl (fun ls hl => ?_)
          refine lv_iconst (v := 0) hx hb dX1_net_111 (by decide) ?_
          refine gx_ti (nI 0) (by decide) ?_
          refine lv_istore (lv' := [(8, .int (nI 0)), (6, .long (c_gt (c_pr (c_n1 C k 12) k) k 0)), (2, .long (c_ba C k v)), (4, .long (p_mo (c_la C k) v)), (0, .ref s0.heap.size), (1, .ref (aI s0.heap.size k))]) hx hb dX1_net_112 hl (by decide) rfl (fun ls hl => ?_)
          have hR := GR_C (C := c_pr (c_n1 C k 12) k) (C' := c_n2 (c_pr (c_n1 C k 12) k) k 0) ((c_wr_0 _ 4 k _).symm) hR
          exact k2 13 Y 0 _ _ _ (by omega) (by omega) (lv_sub hl [1, 0, 5] rfl) hL hR
        · refine lv_aload_n hx hb dX1_net_95 rfl (lv_at hl 3 rfl) ?_
          refine gx_get (D := D) (cl := gcl) (ci := 0) (v := .ref (s0.heap.size + 9)) (C := RX1) (T := TX1) (N := 10) hx hb hts in_X1 hown hK hR.np rfl 5 (by decide) (hts _ q277) (fun _ h9 => h9) rfl dX1_net_96 ?_
          refine lv_aload_n hx hb dX1_net_99 rfl (lv_at hl 4 rfl) ?_
          refine gx_getN (D := D) (cl := gcl) (ci := 8) (v := .int (kI (c_n1 C k 12) 1 k)) (C := RX9) (T := TX9) (N := 19) hx hb hts in_X9 hown hK (hR.itm k hk) rfl 1 (by decide) (hE.nF hW0 q188) (fun _ h9 => h9) rfl dX1_net_100 ?_
          refine gx_aald (x := s0.heap.size + 11) hx hb hK 5 hR.rul rfl 1 (by rw [show kI (c_n1 C k 12) 1 k = nI (cRu C k) from hC.ru hk, hru]) (by decide) (by decide) rfl dX1_net_103 ?_
          refine lv_aload_n hx hb dX1_net_104 rfl (lv_at hl 4 rfl) ?_
          refine cc_0 (va_runU (b := s0.heap.size + 11) (As := [.ref (aI s0.heap.size k)]) (rest := []) ⟨hx, hb, hml, hown, hts⟩ (ct_X3_plan_1 hE ⟨_, hR⟩ hk hC1) (va_cwU 1 hts (lw_U (owner := "NettedPlans$LotRule") q486 q488 q503 q487 q52 q504) rfl rfl rfl rfl (by decide +kernel) ⟨Nat.le_of_ble_eq_true rfl, Nat.le_of_ble_eq_true rfl⟩) (cc_pV hW0 (cc_re hK hR.mu (show gcl[4]? = _ from rfl))) rfl rfl hl.1 rfl (lv_room (Nat.le_of_ble_eq_true rfl)) dX1_net_105 ⟨Nat.le_of_ble_eq_true rfl, Nat.le_of_ble_eq_true rfl⟩) hL (fun H locs hP1 hL => ?_)
          obtain ⟨Y, hR⟩ := hP1
          have hR := GR_C (C := c_pl (c_n1 C k 12) 1 k) (C' := c_pr (c_n1 C k 12) k) (by unfold c_pr; rw [show cRu (c_n1 C k 12) k = 1 from hru]; rfl) hR
          refine lv_lconst (v := 0) hx hb dX1_net_108 (by decide) ?_
          refine gx_tl (c_gt (c_pr (c_n1 C k 12) k) k 0) (rfl) ?_
          refine lv_lstore (lv' := [(6, .long (c_gt (c_pr (c_n1 C k 12) k) k 0)), (2, .long (c_ba C k v)), (4, .long (p_mo (c_la C k) v)), (0, .ref s0.heap.size), (1, .ref (aI s0.heap.size k))]) hx hb dX1_net_109 hl (by decide) rfl (fun ls hl => ?_)
          refine lv_iconst (v := 0) hx hb dX1_net_111 (by decide) ?_
          refine gx_ti (nI 0) (by decide) ?_
          refine lv_istore (lv' := [(8, .int (nI 0)), (6, .long (c_gt (c_pr (c_n1 C k 12) k) k 0)), (2, .long (c_ba C k v)), (4, .long (p_mo (c_la C k) v)), (0, .ref s0.heap.size), (1, .ref (aI s0.heap.size k))]) hx hb dX1_net_112 hl (by decide) rfl (fun ls hl => ?_)
          have hR := GR_C (C := c_pr (c_n1 C k 12) k) (C' := c_n2 (c_pr (c_n1 C k 12) k) k 0) ((c_wr_0 _ 4 k _).symm) hR
          exact k2 13 Y 0 _ _ _ (by omega) (by omega) (lv_sub hl [1, 0, 5] rfl) hL hR
        · refine lv_aload_n hx hb dX1_net_95 rfl (lv_at hl 3 rfl) ?_
          refine gx_get (D := D) (cl := gcl) (ci := 0) (v := .ref (s0.heap.size + 9)) (C := RX1) (T := TX1) (N := 10) hx hb hts in_X1 hown hK hR.np rfl 5 (by decide) (hts _ q277) (fun _ h9 => h9) rfl dX1_net_96 ?_
          refine lv_aload_n hx hb dX1_net_99 rfl (lv_at hl 4 rfl) ?_
          refine gx_getN (D := D) (cl := gcl) (ci := 8) (v := .int (kI (c_n1 C k 12) 1 k)) (C := RX9) (T := TX9) (N := 19) hx hb hts in_X9 hown hK (hR.itm k hk) rfl 1 (by decide) (hE.nF hW0 q188) (fun _ h9 => h9) rfl dX1_net_100 ?_
          refine gx_aald (x := s0.heap.size + 12) hx hb hK 5 hR.rul rfl 2 (by rw [show kI (c_n1 C k 12) 1 k = nI (cRu C k) from hC.ru hk, hru]) (by decide) (by decide) rfl dX1_net_103 ?_
          refine lv_aload_n hx hb dX1_net_104 rfl (lv_at hl 4 rfl) ?_
          refine cc_0 (va_runU (b := s0.heap.size + 12) (As := [.ref (aI s0.heap.size k)]) (rest := []) ⟨hx, hb, hml, hown, hts⟩ (ct_X3_plan_2 hE ⟨_, hR⟩ hk hC1) (va_cwU 1 hts (lw_U (owner := "NettedPlans$LotRule") q486 q488 q490 q487 q52 q504) rfl rfl rfl rfl (by decide +kernel) ⟨Nat.le_of_ble_eq_true rfl, Nat.le_of_ble_eq_true rfl⟩) (cc_pV hW0 (cc_re hK hR.co (show gcl[5]? = _ from rfl))) rfl rfl hl.1 rfl (lv_room (Nat.le_of_ble_eq_true rfl)) dX1_net_105 ⟨Nat.le_of_ble_eq_true rfl, Nat.le_of_ble_eq_true rfl⟩) hL (fun H locs hP1 hL => ?_)
          obtain ⟨Y, hR⟩ := hP1
          have hR := GR_C (C := c_pl (c_n1 C k 12) 2 k) (C' := c_pr (c_n1 C k 12) k) (by unfold c_pr; rw [show cRu (c_n1 C k 12) k = 2 from hru]; rfl) hR
          refine lv_lconst (v := 0) hx hb dX1_net_108 (by decide) ?_
          refine gx_tl (c_gt (c_pr (c_n1 C k 12) k) k 0) (rfl) ?_
          refine lv_lstore (lv' := [(6, .long (c_gt (c_pr (c_n1 C k 12) k) k 0)), (2, .long (c_ba C k v)), (4, .long (p_mo (c_la C k) v)), (0, .ref s0.heap.size), (1, .ref (aI s0.heap.size k))]) hx hb dX1_net_109 hl (by decide) rfl (fun ls hl => ?_)
          refine lv_iconst (v := 0) hx hb dX1_net_111 (by decide) ?_
          refine gx_ti (nI 0) (by decide) ?_
          refine lv_istore (lv' := [(8, .int (nI 0)), (6, .long (c_gt (c_pr (c_n1 C k 12) k) k 0)), (2, .long (c_ba C k v)), (4, .long (p_mo (c_la C k) v)), (0, .ref s0.heap.size), (1, .ref (aI s0.heap.size k))]) hx hb dX1_net_112 hl (by decide) rfl (fun ls hl => ?_)
          have hR := GR_C (C := c_pr (c_n1 C k 12) k) (C' := c_n2 (c_pr (c_n1 C k 12) k) k 0) ((c_wr_0 _ 4 k _).symm) hR
          exact k2 13 Y 0 _ _ _ (by omega) (by omega) (lv_sub hl [1, 0, 5] rfl) hL hR
        · refine lv_aload_n hx hb dX1_net_95 rfl (lv_at hl 3 rfl) ?_
          refine gx_get (D := D) (cl := gcl) (ci := 0) (v := .ref (s0.heap.size + 9)) (C := RX1) (T := TX1) (N := 10) hx hb hts in_X1 hown hK hR.np rfl 5 (by decide) (hts _ q277) (fun _ h9 => h9) rfl dX1_net_96 ?_
          refine lv_aload_n hx hb dX1_net_99 rfl (lv_at hl 4 rfl) ?_
          refine gx_getN (D := D) (cl := gcl) (ci := 8) (v := .int (kI (c_n1 C k 12) 1 k)) (C := RX9) (T := TX9) (N := 19) hx hb hts in_X9 hown hK (hR.itm k hk) rfl 1 (by decide) (hE.nF hW0 q188) (fun _ h9 => h9) rfl dX1_net_100 ?_
          refine gx_aald (x := s0.heap.size + 13) hx hb hK 5 hR.rul rfl 3 (by rw [show kI (c_n1 C k 12) 1 k = nI (cRu C k) from hC.ru hk, hru]) (by decide) (by decide) rfl dX1_net_103 ?_
          refine lv_aload_n hx hb dX1_net_104 rfl (lv_at hl 4 rfl) ?_
          refine cc_0 (va_runU (b := s0.heap.size + 13) (As := [.ref (aI s0.heap.size k)]) (rest := []) ⟨hx, hb, hml, hown, hts⟩ (ct_X7_plan hE ⟨_, hR⟩ hk hC1) (va_cwO 1 hts (lw_O (owner := "NettedPlans$LotRule") q486 q488 q487 q491 q492 q56 q493) rfl rfl rfl q504 (by decide +kernel) ⟨Nat.le_of_ble_eq_true rfl, Nat.le_of_ble_eq_true rfl⟩) (cc_pV hW0 (cc_re hK hR.lc (show gcl[6]? = _ from rfl))) rfl rfl hl.1 rfl (lv_room (Nat.le_of_ble_eq_true rfl)) dX1_net_105 ⟨Nat.le_of_ble_eq_true rfl, Nat.le_of_ble_eq_true rfl⟩) hL (fun H locs hP1 hL => ?_)
          obtain ⟨Y, hR⟩ := hP1
          have hR := GR_C (C := c_plc (c_n1 C k 12) k) (C' := c_pr (c_n1 C k 12) k) (by unfold c_pr; rw [show cRu (c_n1 C k 12) k = 3 from hru]; rfl) hR
          refine lv_lconst (v := 0) hx hb dX1_net_108 (by decide) ?_
          refine gx_tl (c_gt (c_pr (c_n1 C k 12) k) k 0) (rfl) ?_
          refine lv_lstore (lv' := [(6, .long (c_gt (c_pr (c_n1 C k 12) k) k 0)), (2, .long (c_ba C k v)), (4, .long (p_mo (c_la C k) v)), (0, .ref s0.heap.size), (1, .ref (aI s0.heap.size k))]) hx hb dX1_net_109 hl (by decide) rfl (fun ls hl => ?_)
          refine lv_iconst (v := 0) hx hb dX1_net_111 (by decide) ?_
          refine gx_ti (nI 0) (by decide) ?_
          refine lv_istore (lv' := [(8, .int (nI 0)), (6, .long (c_gt (c_pr (c_n1 C k 12) k) k 0)), (2, .long (c_ba C k v)), (4, .long (p_mo (c_la C k) v)), (0, .ref s0.heap.size), (1, .ref (aI s0.heap.size k))]) hx hb dX1_net_112 hl (by decide) rfl (fun ls hl => ?_)
          have hR := GR_C (C := c_pr (c_n1 C k 12) k) (C' := c_n2 (c_pr (c_n1 C k 12) k) k 0) ((c_wr_0 _ 4 k _).symm) hR
          exact k2 13 Y 0 _ _ _ (by omega) (by omega) (lv_sub hl [1, 0, 5] rfl) hL hR
      · have hkc : v < 12 := n_lt (b := 12) c16 (by omega) (by omega)
        have hl4 := hC.l4 hk
        refine lv_lload_n hx hb dX1_net_19 rfl (lv_at hl 0 rfl) ?_
        refine lv_aload_n hx hb dX1_net_20 rfl (lv_at hl 3 rfl) ?_
        refine gx_get (D := D) (cl := gcl) (ci := 0) (v := .ref (aB s0.heap.size 2)) (C := RX1) (T := TX1) (N := 10) hx hb hts in_X1 hown hK hR.np rfl 3 (by decide) (hts _ q275) (fun _ h9 => h9) rfl dX1_net_21 ?_
        refine lv_aload_n hx hb dX1_net_24 rfl (lv_at hl 4 rfl) ?_
        refine gx_getN (D := D) (cl := gcl) (ci := 8) (v := .int (nI k)) (C := RX9) (T := TX9) (N := 19) hx hb hts in_X9 hown hK (hR.itm k hk) rfl 0 (by decide) (hE.nF hW0 q187) (fun _ h9 => h9) rfl dX1_net_25 ?_
        refine lv_iload hx hb dX1_net_28 (lv_at hl 2 rfl) ?_
        refine cc_v (va_runV (b := aB s0.heap.size 2) (As := [.int (nI k), .int (nI v)]) (rest := [.long (c_ba C k v)]) ⟨hx, hb, hml, hown, hts⟩ (ct_X2_sum (j := 2) hE hR (by decide) (by decide) (nI k) (nI v)) (cwV 2 hts (lw_V q448 q449 q450 q51 q451) rfl rfl rfl (by decide +kernel) ⟨Nat.le_of_ble_eq_true rfl, Nat.le_of_ble_eq_true rfl⟩) (cc_pV hW0 (cc_re hK (hR.bok 2 (by decide) (by decide)) (show gcl[2]? = _ from rfl))) rfl rfl hl.1 rfl (lv_room (Nat.le_of_ble_eq_true rfl)) dX1_net_30 ⟨Nat.le_of_ble_eq_true rfl, Nat.le_of_ble_eq_true rfl⟩) hL (fun H locs hP1 hL => ?_)
        subst hP1
        refine lv_aload_n hx hb dX1_net_33 rfl (lv_at hl 4 rfl) ?_
        refine gx_getN (D := D) (cl := gcl) (ci := 8) (v := .ref (aA s0.heap.size 0 k)) (C := RX9) (T := TX9) (N := 19) hx hb hts in_X9 hown hK (hR.itm k hk) rfl 14 (by decide) (hE.nF hW0 q212) (fun _ h9 => h9) rfl dX1_net_34 ?_
        refine lv_iload hx hb dX1_net_37 (lv_at hl 2 rfl) ?_
        refine gx_lald (n := 12) hx hb hK 0 (hR.arr 0 k (by decide) hk) rfl v (rfl) (by omega) (by decide) dX1_net_39 ?_
        refine gx_tl (kA C 0 k v) (by rw [c_n1_g]) ?_
        refine lv_lsub hx hb dX1_net_40 ?_
        refine lv_ladd hx hb dX1_net_41 ?_
        refine gx_tl (c_ba C k (v + 1)) (by rw [c_sum_of (C := C) (C' := c_n1 C k v) rfl]; rfl) ?_
        refine lv_lstore_n (lv' := [(2, .long (c_ba C k (v + 1))), (4, .long (p_mo (c_la C k) v)), (6, .int (nI v)), (0, .ref s0.heap.size), (1, .ref (aI s0.heap.size k))]) hx hb dX1_net_42 rfl hl (by decide) rfl (fun ls hl => ?_)
        refine lv_aload_n hx hb dX1_net_43 rfl (lv_at hl 4 rfl) ?_
        refine gx_getN (D := D) (cl := gcl) (ci := 8) (v := .ref (aA s0.heap.size 4 k)) (C := RX9) (T := TX9) (N := 19) hx hb hts in_X9 hown hK (hR.itm k hk) rfl 18 (by decide) (hE.nF hW0 q220) (fun _ h9 => h9) rfl dX1_net_44 ?_
        refine lv_iload hx hb dX1_net_47 (lv_at hl 2 rfl) ?_
        refine lv_lload_n hx hb dX1_net_49 rfl (lv_at hl 0 rfl) ?_
        refine gx_last (n := 12) hx hb hK 0 (hR.arr 4 k (by decide) hk) rfl v (rfl) (by omega) (by decide) hL (by (try simp only [aI, aA, aT, aB, aL, mad]); omega) dX1_net_50 (fun H locs hU hA hL => ?_)
        have hR := GRb.pA (j := 4) (k := k) (by decide) hk hR hU hA
        refine lv_lload hx hb dX1_net_51 (lv_at hl 1 rfl) ?_
        refine lv_aload_n hx hb dX1_net_53 rfl (lv_at hl 4 rfl) ?_
        refine gx_getN (D := D) (cl := gcl) (ci := 8) (v := .int (kI (rA (c_n1 C k v) (up3 (kA (c_n1 C k v)) 4 k v (c_ba C k (v + 1)))) 4 k)) (C := RX9) (T := TX9) (N := 19) hx hb hts in_X9 hown hK (hR.itm k hk) rfl 4 (by decide) (hE.nF hW0 q196) (fun _ h9 => h9) rfl dX1_net_54 ?_
        refine lv_i2l (v := (kI (rA (c_n1 C k v) (up3 (kA (c_n1 C k v)) 4 k v (c_ba C k (v + 1)))) 4 k).toInt64) hx hb dX1_net_57 rfl ?_
        refine lv_lload_n hx hb dX1_net_58 rfl (lv_at hl 0 rfl) ?_
        refine lv_lsub hx hb dX1_net_59 ?_
        refine va_mmax_long hx hb (by rw [hml]; exact hl.1.symm) hown (hts _ q483) (hts _ q484) (hts _ q73) (hts _ q485) (Nat.le_of_ble_eq_true rfl) (Nat.le_of_ble_eq_true rfl) (Nat.le_of_ble_eq_true rfl) (Nat.le_of_ble_eq_true rfl) dX1_net_60 ?_
        refine gx_tl (p_mo (c_la C k) (v + 1)) (mo_s _ _) ?_
        refine lv_lstore (lv' := [(4, .long (p_mo (c_la C k) (v + 1))), (2, .long (c_ba C k (v + 1))), (6, .int (nI v)), (0, .ref s0.heap.size), (1, .ref (aI s0.heap.size k))]) hx hb dX1_net_63 hl (by decide) rfl (fun ls hl => ?_)
        refine lv_aload_n hx hb dX1_net_65 rfl (lv_at hl 4 rfl) ?_
        refine gx_getN (D := D) (cl := gcl) (ci := 8) (v := .ref (aA s0.heap.size 2 k)) (C := RX9) (T := TX9) (N := 19) hx hb hts in_X9 hown hK (hR.itm k hk) rfl 16 (by decide) (hE.nF hW0 q215) (fun _ h9 => h9) rfl dX1_net_66 ?_
        refine lv_iload hx hb dX1_net_69 (lv_at hl 2 rfl) ?_
        refine lv_iconst (v := 1) hx hb dX1_net_71 (by decide) ?_
        refine lv_iadd hx hb dX1_net_72 ?_
        refine gx_ti (nI (v + 1)) (nI_add v 1) ?_
        refine lv_iload hx hb dX1_net_73 (lv_at hl 2 rfl) ?_
        refine lv_aload_n hx hb dX1_net_75 rfl (lv_at hl 4 rfl) ?_
        refine gx_getN (D := D) (cl := gcl) (ci := 8) (v := .int (kI (rA (c_n1 C k v) (up3 (kA (c_n1 C k v)) 4 k v (c_ba C k (v + 1)))) 3 k)) (C := RX9) (T := TX9) (N := 19) hx hb hts in_X9 hown hK (hR.itm k hk) rfl 3 (by decide) (hE.nF hW0 q195) (fun _ h9 => h9) rfl dX1_net_76 ?_
        refine gx_ti (nI (cLd C k)) (hC.ld hk) ?_
        refine lv_icmp_ge (tgt := 86) hx hb dX1_net_79 (by decide) (fun c79 => ?_) (fun c79 => ?_)
        · refine lv_lload hx hb dX1_net_86 (lv_at hl 0 rfl) ?_
          refine gx_tl (p_nd (c_la C k) (cLd C k) (v + 1)) (by rw [p_nd]; exact (if_neg (fun q => absurd (nI_lt q (by omega)) (Int32.not_lt.mpr c79))).symm) ?_
          refine gx_last (n := 13) hx hb hK 0 (hR.arr 2 k (by decide) hk) rfl (v + 1) (rfl) (by omega) (by decide) hL (by (try simp only [aI, aA, aT, aB, aL, mad]); omega) dX1_net_88 (fun H locs hU hA hL => ?_)
          have hR := GRb.pA (j := 2) (k := k) (by decide) hk hR hU hA
          have hR := GR_C (C := (rA (rA (c_n1 C k v) (up3 (kA (c_n1 C k v)) 4 k v (c_ba C k (v + 1)))) (up3 (kA (rA (c_n1 C k v) (up3 (kA (c_n1 C k v)) 4 k v (c_ba C k (v + 1))))) 2 k (v + 1) (p_nd (c_la C k) (cLd C k) (v + 1))))) (C' := c_n1 C k (v + 1)) (c_n1_s C k v) hR
          refine lv_iinc (v := nI (v + 1)) (lv' := [(6, .int (nI (v + 1))), (4, .long (p_mo (c_la C k) (v + 1))), (2, .long (c_ba C k (v + 1))), (0, .ref s0.heap.size), (1, .ref (aI s0.heap.size k))]) hx hb dX1_net_89 hl (k := 2) rfl (nI_1 v) (by decide) rfl (fun ls hl => ?_)
          refine lv_goto (tgt := 12) hx hb dX1_net_92 (by decide) ?_
          exact ih (v + 1) _ _ _ (by omega) (by omega) (lv_sub hl [2, 1, 0, 3, 4] rfl) hL hR
        · refine lv_lconst (v := 0) hx hb dX1_net_82 (by decide) ?_
          refine lv_goto (tgt := 88) hx hb dX1_net_83 (by decide) ?_
          refine gx_tl (p_nd (c_la C k) (cLd C k) (v + 1)) (by rw [p_nd]; exact (if_pos (n_lt c79 (by omega) (by omega))).symm) ?_
          refine gx_last (n := 13) hx hb hK 0 (hR.arr 2 k (by decide) hk) rfl (v + 1) (rfl) (by omega) (by decide) hL (by (try simp only [aI, aA, aT, aB, aL, mad]); omega) dX1_net_88 (fun H locs hU hA hL => ?_)
          have hR := GRb.pA (j := 2) (k := k) (by decide) hk hR hU hA
          have hR := GR_C (C := (rA (rA (c_n1 C k v) (up3 (kA (c_n1 C k v)) 4 k v (c_ba C k (v + 1)))) (up3 (kA (rA (c_n1 C k v) (up3 (kA (c_n1 C k v)) 4 k v (c_ba C k (v + 1))))) 2 k (v + 1) (p_nd (c_la C k) (cLd C k) (v + 1))))) (C' := c_n1 C k (v + 1)) (c_n1_s C k v) hR
          refine lv_iinc (v := nI (v + 1)) (lv' := [(6, .int (nI (v + 1))), (4, .long (p_mo (c_la C k) (v + 1))), (2, .long (c_ba C k (v + 1))), (0, .ref s0.heap.size), (1, .ref (aI s0.heap.size k))]) hx hb dX1_net_89 hl (k := 2) rfl (nI_1 v) (by decide) rfl (fun ls hl => ?_)
          refine lv_goto (tgt := 12) hx hb dX1_net_92 (by decide) ?_
          exact ih (v + 1) _ _ _ (by omega) (by omega) (lv_sub hl [2, 1, 0, 3, 4] rfl) hL hR
  have hR := GR_C (C := C) (C' := c_n1 C k 0) ((c_n1_0 C k).symm) hR
  refine lv_aload_n hx hb dX1_net_0 rfl (lv_at hl 1 rfl) ?_
  refine gx_getN (D := D) (cl := gcl) (ci := 8) (v := .int (kI (c_n1 C k 0) 8 k)) (C := RX9) (T := TX9) (N := 19) hx hb hts in_X9 hown hK (hR.itm k hk) rfl 8 (by decide) (hE.nF hW0 q203) (fun _ h9 => h9) rfl dX1_net_1 ?_
  refine lv_i2l (v := (kI (c_n1 C k 0) 8 k).toInt64) hx hb dX1_net_4 rfl ?_
  refine gx_tl (c_ba C k 0) (rfl) ?_
  refine lv_lstore_n (lv' := [(2, .long (c_ba C k 0)), (0, .ref s0.heap.size), (1, .ref (aI s0.heap.size k))]) hx hb dX1_net_5 rfl hl (by decide) rfl (fun ls hl => ?_)
  refine lv_lconst (v := 0) hx hb dX1_net_6 (by decide) ?_
  refine gx_tl (p_mo (c_la C k) 0) (rfl) ?_
  refine lv_lstore (lv' := [(4, .long (p_mo (c_la C k) 0)), (2, .long (c_ba C k 0)), (0, .ref s0.heap.size), (1, .ref (aI s0.heap.size k))]) hx hb dX1_net_7 hl (by decide) rfl (fun ls hl => ?_)
  refine lv_iconst (v := 0) hx hb dX1_net_9 (by decide) ?_
  refine gx_ti (nI 0) (by decide) ?_
  refine lv_istore (lv' := [(6, .int (nI 0)), (4, .long (p_mo (c_la C k) 0)), (2, .long (c_ba C k 0)), (0, .ref s0.heap.size), (1, .ref (aI s0.heap.size k))]) hx hb dX1_net_10 hl (by decide) rfl (fun ls hl => ?_)
  exact key 13 0 _ _ _ (by omega) (by omega) (lv_sub hl [2, 1, 0, 3, 4] rfl) hL hR
