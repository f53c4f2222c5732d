set_option maxHeartbeats 4000000 in
set_option maxRecDepth 100000 in
/-- Book.sum -/
theorem ct_X2_sum {l : Launch} {s0 : State} {D : va_G} {DA : Nat → ClassId} {z0 : Nat} {Y : YS} {C : CS} {M : MS} {o : Int64} {H : Heap} (hE : G0 l s0 D DA z0) (hR : GRb s0.heap.size s0.heap D DA z0 Y C M o H) {j : Nat} (h1 : 1 ≤ j) (h3 : j ≤ 3) (i w : Int32) : Met l yX2_sum (ws_ yX2_sum cX2_sum 6 (some .long)) ({ frames := 3, cells := 0, slots := 0, locals := 64 }) (cP s0 [.ref (aB s0.heap.size j), .int i, .int w] H) (cQv (.long (c_sum C j i w (kN C j))) (fun H1 => H1 = H)) 0 0 (cF s0) := by
  refine Met.ofW (cc := cX2_sum) (maxL := 6) (ret := (some .long)) (by decide) rfl ?_
  intro p e s m args below meth c s₁ Bd hml hv
  obtain ⟨rfl, rfl, hW0⟩ := hv
  have hx := Bd.exec
  have hb := Bd.bytes
  have hr := Bd.returns
  have hts := atoms_spec (ws := (ws_ yX2_sum cX2_sum 6 (some .long))) Bd.pre
  have hts : ∀ w ∈ lw_all, w.before _ s = true := fun w h => hts w (List.mem_cons_of_mem _ h)
  have hown : s.vm.findClass RX2 = some m.cls := findClass_of_methodNamed Bd.named
  have hlocks := Bd.notSynchronized
  have hK := va_K.moved hW0.alike hE.K
  have hL : gx_L s0.heap.size ([] : List Loc) := gx_L0
  have hl := lv_entry ([.ref (aB s0.heap.size j), .int i, .int w]) (n := 6) (Nat.le_of_ble_eq_true rfl)
  rw [lg_entry_eq]
  generalize (lg_sl ([.ref (aB s0.heap.size j), .int i, .int w]) ++ List.replicate (6 - (lg_sl ([.ref (aB s0.heap.size j), .int i, .int w])).length) Slot.unset).toArray = ls at hl ⊢
  have hl : lv_has ls 6 [(0, .ref (aB s0.heap.size j)), (1, .int i), (2, .int w)] := hl
  have key : ∀ (n : Nat) (k : Nat) (locs : List Loc) (ls : Array Slot), k ≤ kN C j → kN C j < k + n → lv_has ls 6 [(3, .long (c_sum C j i w k)), (5, .int (nI k)), (0, .ref (aB s0.heap.size j)), (1, .int i), (2, .int w)] → gx_L s0.heap.size locs → W p l e (headSpec (ws_ yX2_sum cX2_sum 6 (some .long)) ({ frames := 3, cells := 0, slots := 0, locals := 64 })).room s m ([.ref (aB s0.heap.size j), .int i, .int w] : List Value).toArray below meth c s.heap locs 0 0 (MQ below (cQv (.long (c_sum C j i w (kN C j))) (fun H1 => H1 = s.heap)) ([.ref (aB s0.heap.size j), .int i, .int w] : List Value).toArray s 0 0 (cF s0)) (F0 m 5 ls []) := by
    intro n
    induction n with
    | zero =>
      intro k locs ls hk hn hl hL
      omega
    | succ n ih =>
      intro k locs ls hk hn hl hL
      have hl36 := hR.lay.1 j (by omega)
      refine lv_iload hx hb dX2_sum_5 (lv_at hl 1 rfl) ?_
      refine lv_aload_n hx hb dX2_sum_7 rfl (lv_at hl 2 rfl) ?_
      refine gx_get (D := D) (cl := gcl) (ci := 2) (v := .ref (aL s0.heap.size j)) (C := RX2) (T := TX2) (N := 1) hx hb hts in_X2 hown hK (hR.bok j h1 h3) rfl 0 (by decide) (hts _ q120) (fun _ h9 => h9) rfl dX2_sum_8 ?_
      refine cc_v (va_runV (b := aL s0.heap.size j) (As := []) (rest := [.int (nI k)]) ⟨hx, hb, hml, hown, hts⟩ (ct_J2_size hE (hR.lob j (by omega))) (cwV 0 hts (lw_V q452 q379 q380 q50 q381) rfl rfl rfl (by decide +kernel) ⟨Nat.le_of_ble_eq_true rfl, Nat.le_of_ble_eq_true rfl⟩) (cc_pV hW0 (cc_re hK (hR.lob j (by omega)) (show gcl[1]? = _ from rfl))) rfl rfl hl.1 rfl (lv_room (Nat.le_of_ble_eq_true rfl)) dX2_sum_11 ⟨Nat.le_of_ble_eq_true rfl, Nat.le_of_ble_eq_true rfl⟩) hL (fun H locs hP1 hL => ?_)
      subst hP1
      refine lv_icmp_ge (tgt := 84) hx hb dX2_sum_14 (by decide) (fun c14 => ?_) (fun c14 => ?_)
      · have hkc : k = kN C j := by have := n_ge c14 (by omega) (by omega); omega
        refine lv_lload_n hx hb dX2_sum_84 rfl (lv_at hl 0 rfl) ?_
        exact W.lret (v := (c_sum C j i w k)) hx hb hr (fun t ht hW => ⟨ovJ (by rw [hkc]), ht⟩) hL dX2_sum_85
      · have hkc : k < kN C j := by have := n_lt c14 (by omega) (by omega); omega
        refine lv_lload_n hx hb dX2_sum_17 rfl (lv_at hl 0 rfl) ?_
        refine lv_aload_n hx hb dX2_sum_18 rfl (lv_at hl 2 rfl) ?_
        refine gx_get (D := D) (cl := gcl) (ci := 2) (v := .ref (aL s0.heap.size j)) (C := RX2) (T := TX2) (N := 1) hx hb hts in_X2 hown hK (hR.bok j h1 h3) rfl 0 (by decide) (hts _ q120) (fun _ h9 => h9) rfl dX2_sum_19 ?_
        refine lv_iload hx hb dX2_sum_22 (lv_at hl 1 rfl) ?_
        refine cc_v (va_runV (b := aL s0.heap.size j) (As := [.int (nI k)]) (rest := [.long (c_sum C j i w k)]) ⟨hx, hb, hml, hown, hts⟩ (ct_J2_get (i := k) hE (hR.lob j (by omega)) (hR.lda j (by omega) (Nat.lt_of_lt_of_le (Nat.lt_of_le_of_lt (Nat.zero_le _) hkc) (hR.lay.1 j (by omega)).1)) (by have := (hR.lay.1 j (by omega)).2; omega) hkc (hR.lay.1 j (by omega)).1 (hR.lay.2.1 j (by omega) k hkc)) (cwV 1 hts (lw_V q453 q383 q384 q50 q385) rfl rfl rfl (by decide +kernel) ⟨Nat.le_of_ble_eq_true rfl, Nat.le_of_ble_eq_true rfl⟩) (cc_pV hW0 (cc_re hK (hR.lob j (by omega)) (show gcl[1]? = _ from rfl))) rfl rfl hl.1 rfl (lv_room (Nat.le_of_ble_eq_true rfl)) dX2_sum_24 ⟨Nat.le_of_ble_eq_true rfl, Nat.le_of_ble_eq_true rfl⟩) hL (fun H locs hP1 hL => ?_)
        subst hP1
        refine gx_castS (ci := 12) hx hb hown (hts _ q454) hK (hR.ent j k h1 h3 hkc) (show gcl[12]? = _ from rfl) dX2_sum_27 ?_
        refine gx_getN (D := D) (cl := gcl) (ci := 12) (v := .int (kE C j k 0)) (C := RX13) (T := TX13) (N := 3) hx hb hts in_X13 hown hK (hR.ent j k h1 h3 hkc) rfl 0 (by decide) (hE.nF hW0 q743) (fun _ h9 => h9) rfl dX2_sum_30 ?_
        refine lv_iload_n hx hb dX2_sum_33 rfl (lv_at hl 3 rfl) ?_
        refine lv_icmp_ne (tgt := 75) hx hb dX2_sum_34 (by decide) (fun c34 => ?_) (fun c34 => ?_)
        · refine lv_lconst (v := 0) hx hb dX2_sum_75 (by decide) ?_
          refine lv_ladd hx hb dX2_sum_76 ?_
          refine gx_tl (c_sum C j i w (k + 1)) (by rw [c_sum, if_neg (fun q => c34 q.1)]) ?_
          refine lv_lstore_n (lv' := [(3, .long (c_sum C j i w (k + 1))), (5, .int (nI k)), (0, .ref (aB s0.heap.size j)), (1, .int i), (2, .int w)]) hx hb dX2_sum_77 rfl hl (by decide) rfl (fun ls hl => ?_)
          refine lv_iinc (v := nI (k + 1)) (lv' := [(5, .int (nI (k + 1))), (3, .long (c_sum C j i w (k + 1))), (0, .ref (aB s0.heap.size j)), (1, .int i), (2, .int w)]) hx hb dX2_sum_78 hl (k := 1) rfl (nI_1 k) (by decide) rfl (fun ls hl => ?_)
          refine lv_goto (tgt := 5) hx hb dX2_sum_81 (by decide) ?_
          exact ih (k + 1) _ _ (by omega) (by omega) (lv_sub hl [1, 0, 2, 3, 4] rfl) hL
        · refine lv_aload_n hx hb dX2_sum_37 rfl (lv_at hl 2 rfl) ?_
          refine gx_get (D := D) (cl := gcl) (ci := 2) (v := .ref (aL s0.heap.size j)) (C := RX2) (T := TX2) (N := 1) hx hb hts in_X2 hown hK (hR.bok j h1 h3) rfl 0 (by decide) (hts _ q120) (fun _ h9 => h9) rfl dX2_sum_38 ?_
          refine lv_iload hx hb dX2_sum_41 (lv_at hl 1 rfl) ?_
          refine cc_v (va_runV (b := aL s0.heap.size j) (As := [.int (nI k)]) (rest := [.long (c_sum C j i w k)]) ⟨hx, hb, hml, hown, hts⟩ (ct_J2_get (i := k) hE (hR.lob j (by omega)) (hR.lda j (by omega) (Nat.lt_of_lt_of_le (Nat.lt_of_le_of_lt (Nat.zero_le _) hkc) (hR.lay.1 j (by omega)).1)) (by have := (hR.lay.1 j (by omega)).2; omega) hkc (hR.lay.1 j (by omega)).1 (hR.lay.2.1 j (by omega) k hkc)) (cwV 1 hts (lw_V q453 q383 q384 q50 q385) rfl rfl rfl (by decide +kernel) ⟨Nat.le_of_ble_eq_true rfl, Nat.le_of_ble_eq_true rfl⟩) (cc_pV hW0 (cc_re hK (hR.lob j (by omega)) (show gcl[1]? = _ from rfl))) rfl rfl hl.1 rfl (lv_room (Nat.le_of_ble_eq_true rfl)) dX2_sum_43 ⟨Nat.le_of_ble_eq_true rfl, Nat.le_of_ble_eq_true rfl⟩) hL (fun H locs hP1 hL => ?_)
          subst hP1
          refine gx_castS (ci := 12) hx hb hown (hts _ q454) hK (hR.ent j k h1 h3 hkc) (show gcl[12]? = _ from rfl) dX2_sum_46 ?_
          refine gx_getN (D := D) (cl := gcl) (ci := 12) (v := .int (kE C j k 1)) (C := RX13) (T := TX13) (N := 3) hx hb hts in_X13 hown hK (hR.ent j k h1 h3 hkc) rfl 1 (by decide) (hE.nF hW0 q746) (fun _ h9 => h9) rfl dX2_sum_49 ?_
          refine lv_iload_n hx hb dX2_sum_52 rfl (lv_at hl 4 rfl) ?_
          refine lv_icmp_ne (tgt := 75) hx hb dX2_sum_53 (by decide) (fun c53 => ?_) (fun c53 => ?_)
          · refine lv_lconst (v := 0) hx hb dX2_sum_75 (by decide) ?_
            refine lv_ladd hx hb dX2_sum_76 ?_
            refine gx_tl (c_sum C j i w (k + 1)) (by rw [c_sum, if_neg (fun q => c53 q.2)]) ?_
            refine lv_lstore_n (lv' := [(3, .long (c_sum C j i w (k + 1))), (5, .int (nI k)), (0, .ref (aB s0.heap.size j)), (1, .int i), (2, .int w)]) hx hb dX2_sum_77 rfl hl (by decide) rfl (fun ls hl => ?_)
            refine lv_iinc (v := nI (k + 1)) (lv' := [(5, .int (nI (k + 1))), (3, .long (c_sum C j i w (k + 1))), (0, .ref (aB s0.heap.size j)), (1, .int i), (2, .int w)]) hx hb dX2_sum_78 hl (k := 1) rfl (nI_1 k) (by decide) rfl (fun ls hl => ?_)
            refine lv_goto (tgt := 5) hx hb dX2_sum_81 (by decide) ?_
            exact ih (k + 1) _ _ (by omega) (by omega) (lv_sub hl [1, 0, 2, 3, 4] rfl) hL
          · refine lv_aload_n hx hb dX2_sum_56 rfl (lv_at hl 2 rfl) ?_
            refine gx_get (D := D) (cl := gcl) (ci := 2) (v := .ref (aL s0.heap.size j)) (C := RX2) (T := TX2) (N := 1) hx hb hts in_X2 hown hK (hR.bok j h1 h3) rfl 0 (by decide) (hts _ q120) (fun _ h9 => h9) rfl dX2_sum_57 ?_
            refine lv_iload hx hb dX2_sum_60 (lv_at hl 1 rfl) ?_
            refine cc_v (va_runV (b := aL s0.heap.size j) (As := [.int (nI k)]) (rest := [.long (c_sum C j i w k)]) ⟨hx, hb, hml, hown, hts⟩ (ct_J2_get (i := k) hE (hR.lob j (by omega)) (hR.lda j (by omega) (Nat.lt_of_lt_of_le (Nat.lt_of_le_of_lt (Nat.zero_le _) hkc) (hR.lay.1 j (by omega)).1)) (by have := (hR.lay.1 j (by omega)).2; omega) hkc (hR.lay.1 j (by omega)).1 (hR.lay.2.1 j (by omega) k hkc)) (cwV 1 hts (lw_V q453 q383 q384 q50 q385) rfl rfl rfl (by decide +kernel) ⟨Nat.le_of_ble_eq_true rfl, Nat.le_of_ble_eq_true rfl⟩) (cc_pV hW0 (cc_re hK (hR.lob j (by omega)) (show gcl[1]? = _ from rfl))) rfl rfl hl.1 rfl (lv_room (Nat.le_of_ble_eq_true rfl)) dX2_sum_62 ⟨Nat.le_of_ble_eq_true rfl, Nat.le_of_ble_eq_true rfl⟩) hL (fun H locs hP1 hL => ?_)
            subst hP1
            refine gx_castS (ci := 12) hx hb hown (hts _ q454) hK (hR.ent j k h1 h3 hkc) (show gcl[12]? = _ from rfl) dX2_sum_65 ?_
            refine gx_getN (D := D) (cl := gcl) (ci := 12) (v := .int (kE C j k 2)) (C := RX13) (T := TX13) (N := 3) hx hb hts in_X13 hown hK (hR.ent j k h1 h3 hkc) rfl 2 (by decide) (hE.nF hW0 q749) (fun _ h9 => h9) rfl dX2_sum_68 ?_
            refine lv_i2l (v := (kE C j k 2).toInt64) hx hb dX2_sum_71 rfl ?_
            refine lv_goto (tgt := 76) hx hb dX2_sum_72 (by decide) ?_
            refine lv_ladd hx hb dX2_sum_76 ?_
            refine gx_tl (c_sum C j i w (k + 1)) (by rw [c_sum, if_pos ⟨c34, c53⟩]) ?_
            refine lv_lstore_n (lv' := [(3, .long (c_sum C j i w (k + 1))), (5, .int (nI k)), (0, .ref (aB s0.heap.size j)), (1, .int i), (2, .int w)]) hx hb dX2_sum_77 rfl hl (by decide) rfl (fun ls hl => ?_)
            refine lv_iinc (v := nI (k + 1)) (lv' := [(5, .int (nI (k + 1))), (3, .long (c_sum C j i w (k + 1))), (0, .ref (aB s0.heap.size j)), (1, .int i), (2, .int w)]) hx hb dX2_sum_78 hl (k := 1) rfl (nI_1 k) (by decide) rfl (fun ls hl => ?_)
            refine lv_goto (tgt := 5) hx hb dX2_sum_81 (by decide) ?_
            exact ih (k + 1) _ _ (by omega) (by omega) (lv_sub hl [1, 0, 2, 3, 4] rfl) hL
  refine lv_lconst (v := 0) hx hb dX2_sum_0 (by decide) ?_
  refine gx_tl (c_sum C j i w 0) (rfl) ?_
  refine lv_lstore_n (lv' := [(3, .long (c_sum C j i w 0)), (0, .ref (aB s0.heap.size j)), (1, .int i), (2, .int w)]) hx hb dX2_sum_1 rfl hl (by decide) rfl (fun ls hl => ?_)
  refine lv_iconst (v := 0) hx hb dX2_sum_2 (by decide) ?_
  refine gx_ti (nI 0) (by decide) ?_
  refine lv_istore (lv' := [(5, .int (nI 0)), (3, .long (c_sum C j i w 0)), (0, .ref (aB s0.heap.size j)), (1, .int i), (2, .int w)]) hx hb dX2_sum_3 hl (by decide) rfl (fun ls hl => ?_)
  exact key (kN C j + 1) 0 _ _ (by omega) (by omega) (lv_sub hl [1, 0, 2, 3, 4] rfl) hL
set_option maxHeartbeats 4000000 in
set_option maxRecDepth 100000 in
/-- Book.sumBefore -/
theorem ct_X2_sumBefore {l : Launch} {s0 : State} {D : va_G} {DA : Nat → ClassId} {z0 : Nat} {Y : YS} {C : CS} {M : MS} {o : Int64} {H : Heap} (hE : G0 l s0 D DA z0) (hR : GRb s0.heap.size s0.heap D DA z0 Y C M o H) {j : Nat} (h1 : 1 ≤ j) (h3 : j ≤ 3) {u : Nat} (hu : u < kN C j) : Met l yX2_sumBefore (ws_ yX2_sumBefore cX2_sumBefore 5 (some .long)) ({ frames := 3, cells := 0, slots := 0, locals := 64 }) (cP s0 [.ref (aB s0.heap.size j), .int (nI u)] H) (cQv (.long (c_sumB C j u u)) (fun H1 => H1 = H)) 0 0 (cF s0) := by
  refine Met.ofW (cc := cX2_sumBefore) (maxL := 5) (ret := (some .long)) (by decide) rfl ?_
  intro p e s m args below meth c s₁ Bd hml hv
  obtain ⟨rfl, rfl, hW0⟩ := hv
  have hx := Bd.exec
  have hb := Bd.bytes
  have hr := Bd.returns
  have hts := atoms_spec (ws := (ws_ yX2_sumBefore cX2_sumBefore 5 (some .long))) Bd.pre
  have hts : ∀ w ∈ lw_all, w.before _ s = true := fun w h => hts w (List.mem_cons_of_mem _ h)
  have hown : s.vm.findClass RX2 = some m.cls := findClass_of_methodNamed Bd.named
  have hlocks := Bd.notSynchronized
  have hK := va_K.moved hW0.alike hE.K
  have hL : gx_L s0.heap.size ([] : List Loc) := gx_L0
  have hl := lv_entry ([.ref (aB s0.heap.size j), .int (nI u)]) (n := 5) (Nat.le_of_ble_eq_true rfl)
  rw [lg_entry_eq]
  generalize (lg_sl ([.ref (aB s0.heap.size j), .int (nI u)]) ++ List.replicate (5 - (lg_sl ([.ref (aB s0.heap.size j), .int (nI u)])).length) Slot.unset).toArray = ls at hl ⊢
  have hl : lv_has ls 5 [(0, .ref (aB s0.heap.size j)), (1, .int (nI u))] := hl
  have key : ∀ (n : Nat) (k : Nat) (locs : List Loc) (ls : Array Slot), k ≤ u → u < k + n → lv_has ls 5 [(2, .long (c_sumB C j u k)), (4, .int (nI k)), (0, .ref (aB s0.heap.size j)), (1, .int (nI u))] → gx_L s0.heap.size locs → W p l e (headSpec (ws_ yX2_sumBefore cX2_sumBefore 5 (some .long)) ({ frames := 3, cells := 0, slots := 0, locals := 64 })).room s m ([.ref (aB s0.heap.size j), .int (nI u)] : List Value).toArray below meth c s.heap locs 0 0 (MQ below (cQv (.long (c_sumB C j u u)) (fun H1 => H1 = s.heap)) ([.ref (aB s0.heap.size j), .int (nI u)] : List Value).toArray s 0 0 (cF s0)) (F0 m 5 ls []) := by
    intro n
    induction n with
    | zero =>
      intro k locs ls hk hn hl hL
      omega
    | succ n ih =>
      intro k locs ls hk hn hl hL
      have hl36 := hR.lay.1 j (by omega)
      refine lv_iload hx hb dX2_sumBefore_5 (lv_at hl 1 rfl) ?_
      refine lv_iload_n hx hb dX2_sumBefore_7 rfl (lv_at hl 3 rfl) ?_
      refine lv_icmp_ge (tgt := 104) hx hb dX2_sumBefore_8 (by decide) (fun c8 => ?_) (fun c8 => ?_)
      · have hkc : k = u := by have := n_ge c8 (by omega) (by omega); omega
        refine lv_lload_n hx hb dX2_sumBefore_104 rfl (lv_at hl 0 rfl) ?_
        exact W.lret (v := (c_sumB C j u k)) hx hb hr (fun t ht hW => ⟨ovJ (by rw [hkc]), ht⟩) hL dX2_sumBefore_105
      · have hkc : k < u := by have := n_lt c8 (by omega) (by omega); omega
        refine lv_lload_n hx hb dX2_sumBefore_11 rfl (lv_at hl 0 rfl) ?_
        refine lv_aload_n hx hb dX2_sumBefore_12 rfl (lv_at hl 2 rfl) ?_
        refine gx_get (D := D) (cl := gcl) (ci := 2) (v := .ref (aL s0.heap.size j)) (C := RX2) (T := TX2) (N := 1) hx hb hts in_X2 hown hK (hR.bok j h1 h3) rfl 0 (by decide) (hts _ q120) (fun _ h9 => h9) rfl dX2_sumBefore_13 ?_
        refine lv_iload hx hb dX2_sumBefore_16 (lv_at hl 1 rfl) ?_
        refine cc_v (va_runV (b := aL s0.heap.size j) (As := [.int (nI k)]) (rest := [.long (c_sumB C j u k)]) ⟨hx, hb, hml, hown, hts⟩ (ct_J2_get (i := k) hE (hR.lob j (by omega)) (hR.lda j (by omega) (Nat.lt_of_lt_of_le (Nat.lt_of_le_of_lt (Nat.zero_le _) (by omega)) (hR.lay.1 j (by omega)).1)) (by have := (hR.lay.1 j (by omega)).2; omega) (by omega) (hR.lay.1 j (by omega)).1 (hR.lay.2.1 j (by omega) k (by omega))) (cwV 1 hts (lw_V q453 q383 q384 q50 q385) rfl rfl rfl (by decide +kernel) ⟨Nat.le_of_ble_eq_true rfl, Nat.le_of_ble_eq_true rfl⟩) (cc_pV hW0 (cc_re hK (hR.lob j (by omega)) (show gcl[1]? = _ from rfl))) rfl rfl hl.1 rfl (lv_room (Nat.le_of_ble_eq_true rfl)) dX2_sumBefore_18 ⟨Nat.le_of_ble_eq_true rfl, Nat.le_of_ble_eq_true rfl⟩) hL (fun H locs hP1 hL => ?_)
        subst hP1
        refine gx_castS (ci := 12) hx hb hown (hts _ q454) hK (hR.ent j k h1 h3 (by omega)) (show gcl[12]? = _ from rfl) dX2_sumBefore_21 ?_
        refine gx_getN (D := D) (cl := gcl) (ci := 12) (v := .int (kE C j k 0)) (C := RX13) (T := TX13) (N := 3) hx hb hts in_X13 hown hK (hR.ent j k h1 h3 (by omega)) rfl 0 (by decide) (hE.nF hW0 q743) (fun _ h9 => h9) rfl dX2_sumBefore_24 ?_
        refine lv_aload_n hx hb dX2_sumBefore_27 rfl (lv_at hl 2 rfl) ?_
        refine gx_get (D := D) (cl := gcl) (ci := 2) (v := .ref (aL s0.heap.size j)) (C := RX2) (T := TX2) (N := 1) hx hb hts in_X2 hown hK (hR.bok j h1 h3) rfl 0 (by decide) (hts _ q120) (fun _ h9 => h9) rfl dX2_sumBefore_28 ?_
        refine lv_iload_n hx hb dX2_sumBefore_31 rfl (lv_at hl 3 rfl) ?_
        refine cc_v (va_runV (b := aL s0.heap.size j) (As := [.int (nI u)]) (rest := [.int (kE C j k 0), .long (c_sumB C j u k)]) ⟨hx, hb, hml, hown, hts⟩ (ct_J2_get (i := u) hE (hR.lob j (by omega)) (hR.lda j (by omega) (Nat.lt_of_lt_of_le (Nat.lt_of_le_of_lt (Nat.zero_le _) hu) (hR.lay.1 j (by omega)).1)) (by have := (hR.lay.1 j (by omega)).2; omega) hu (hR.lay.1 j (by omega)).1 (hR.lay.2.1 j (by omega) u hu)) (cwV 1 hts (lw_V q453 q383 q384 q50 q385) rfl rfl rfl (by decide +kernel) ⟨Nat.le_of_ble_eq_true rfl, Nat.le_of_ble_eq_true rfl⟩) (cc_pV hW0 (cc_re hK (hR.lob j (by omega)) (show gcl[1]? = _ from rfl))) rfl rfl hl.1 rfl (lv_room (Nat.le_of_ble_eq_true rfl)) dX2_sumBefore_32 ⟨Nat.le_of_ble_eq_true rfl, Nat.le_of_ble_eq_true rfl⟩) hL (fun H locs hP1 hL => ?_)
        subst hP1
        refine gx_castS (ci := 12) hx hb hown (hts _ q454) hK (hR.ent j u h1 h3 hu) (show gcl[12]? = _ from rfl) dX2_sumBefore_35 ?_
        refine gx_getN (D := D) (cl := gcl) (ci := 12) (v := .int (kE C j u 0)) (C := RX13) (T := TX13) (N := 3) hx hb hts in_X13 hown hK (hR.ent j u h1 h3 hu) rfl 0 (by decide) (hE.nF hW0 q743) (fun _ h9 => h9) rfl dX2_sumBefore_38 ?_
        refine lv_icmp_ne (tgt := 95) hx hb dX2_sumBefore_41 (by decide) (fun c41 => ?_) (fun c41 => ?_)
        · refine lv_lconst (v := 0) hx hb dX2_sumBefore_95 (by decide) ?_
          refine lv_ladd hx hb dX2_sumBefore_96 ?_
          refine gx_tl (c_sumB C j u (k + 1)) (by rw [c_sumB, if_neg (fun q => c41 q.1)]) ?_
          refine lv_lstore_n (lv' := [(2, .long (c_sumB C j u (k + 1))), (4, .int (nI k)), (0, .ref (aB s0.heap.size j)), (1, .int (nI u))]) hx hb dX2_sumBefore_97 rfl hl (by decide) rfl (fun ls hl => ?_)
          refine lv_iinc (v := nI (k + 1)) (lv' := [(4, .int (nI (k + 1))), (2, .long (c_sumB C j u (k + 1))), (0, .ref (aB s0.heap.size j)), (1, .int (nI u))]) hx hb dX2_sumBefore_98 hl (k := 1) rfl (nI_1 k) (by decide) rfl (fun ls hl => ?_)
          refine lv_goto (tgt := 5) hx hb dX2_sumBefore_101 (by decide) ?_
          exact ih (k + 1) _ _ (by omega) (by omega) (lv_sub hl [1, 0, 2, 3] rfl) hL
        · refine lv_aload_n hx hb dX2_sumBefore_44 rfl (lv_at hl 2 rfl) ?_
          refine gx_get (D := D) (cl := gcl) (ci := 2) (v := .ref (aL s0.heap.size j)) (C := RX2) (T := TX2) (N := 1) hx hb hts in_X2 hown hK (hR.bok j h1 h3) rfl 0 (by decide) (hts _ q120) (fun _ h9 => h9) rfl dX2_sumBefore_45 ?_
          refine lv_iload hx hb dX2_sumBefore_48 (lv_at hl 1 rfl) ?_
          refine cc_v (va_runV (b := aL s0.heap.size j) (As := [.int (nI k)]) (rest := [.long (c_sumB C j u k)]) ⟨hx, hb, hml, hown, hts⟩ (ct_J2_get (i := k) hE (hR.lob j (by omega)) (hR.lda j (by omega) (Nat.lt_of_lt_of_le (Nat.lt_of_le_of_lt (Nat.zero_le _) (by omega)) (hR.lay.1 j (by omega)).1)) (by have := (hR.lay.1 j (by omega)).2; omega) (by omega) (hR.lay.1 j (by omega)).1 (hR.lay.2.1 j (by omega) k (by omega))) (cwV 1 hts (lw_V q453 q383 q384 q50 q385) rfl rfl rfl (by decide +kernel) ⟨Nat.le_of_ble_eq_true rfl, Nat.le_of_ble_eq_true rfl⟩) (cc_pV hW0 (cc_re hK (hR.lob j (by omega)) (show gcl[1]? = _ from rfl))) rfl rfl hl.1 rfl (lv_room (Nat.le_of_ble_eq_true rfl)) dX2_sumBefore_50 ⟨Nat.le_of_ble_eq_true rfl, Nat.le_of_ble_eq_true rfl⟩) hL (fun H locs hP1 hL => ?_)
          subst hP1
          refine gx_castS (ci := 12) hx hb hown (hts _ q454) hK (hR.ent j k h1 h3 (by omega)) (show gcl[12]? = _ from rfl) dX2_sumBefore_53 ?_
          refine gx_getN (D := D) (cl := gcl) (ci := 12) (v := .int (kE C j k 1)) (C := RX13) (T := TX13) (N := 3) hx hb hts in_X13 hown hK (hR.ent j k h1 h3 (by omega)) rfl 1 (by decide) (hE.nF hW0 q746) (fun _ h9 => h9) rfl dX2_sumBefore_56 ?_
          refine lv_aload_n hx hb dX2_sumBefore_59 rfl (lv_at hl 2 rfl) ?_
          refine gx_get (D := D) (cl := gcl) (ci := 2) (v := .ref (aL s0.heap.size j)) (C := RX2) (T := TX2) (N := 1) hx hb hts in_X2 hown hK (hR.bok j h1 h3) rfl 0 (by decide) (hts _ q120) (fun _ h9 => h9) rfl dX2_sumBefore_60 ?_
          refine lv_iload_n hx hb dX2_sumBefore_63 rfl (lv_at hl 3 rfl) ?_
          refine cc_v (va_runV (b := aL s0.heap.size j) (As := [.int (nI u)]) (rest := [.int (kE C j k 1), .long (c_sumB C j u k)]) ⟨hx, hb, hml, hown, hts⟩ (ct_J2_get (i := u) hE (hR.lob j (by omega)) (hR.lda j (by omega) (Nat.lt_of_lt_of_le (Nat.lt_of_le_of_lt (Nat.zero_le _) hu) (hR.lay.1 j (by omega)).1)) (by have := (hR.lay.1 j (by omega)).2; omega) hu (hR.lay.1 j (by omega)).1 (hR.lay.2.1 j (by omega) u hu)) (cwV 1 hts (lw_V q453 q383 q384 q50 q385) rfl rfl rfl (by decide +kernel) ⟨Nat.le_of_ble_eq_true rfl, Nat.le_of_ble_eq_true rfl⟩) (cc_pV hW0 (cc_re hK (hR.lob j (by omega)) (show gcl[1]? = _ from rfl))) rfl rfl hl.1 rfl (lv_room (Nat.le_of_ble_eq_true rfl)) dX2_sumBefore_64 ⟨Nat.le_of_ble_eq_true rfl, Nat.le_of_ble_eq_true rfl⟩) hL (fun H locs hP1 hL => ?_)
          subst hP1
          refine gx_castS (ci := 12) hx hb hown (hts _ q454) hK (hR.ent j u h1 h3 hu) (show gcl[12]? = _ from rfl) dX2_sumBefore_67 ?_
          refine gx_getN (D := D) (cl := gcl) (ci := 12) (v := .int (kE C j u 1)) (C := RX13) (T := TX13) (N := 3) hx hb hts in_X13 hown hK (hR.ent j u h1 h3 hu) rfl 1 (by decide) (hE.nF hW0 q746) (fun _ h9 => h9) rfl dX2_sumBefore_70 ?_
          refine lv_icmp_ne (tgt := 95) hx hb dX2_sumBefore_73 (by decide) (fun c73 => ?_) (fun c73 => ?_)
          · refine lv_lconst (v := 0) hx hb dX2_sumBefore_95 (by decide) ?_
            refine lv_ladd hx hb dX2_sumBefore_96 ?_
            refine gx_tl (c_sumB C j u (k + 1)) (by rw [c_sumB, if_neg (fun q => c73 q.2)]) ?_
            refine lv_lstore_n (lv' := [(2, .long (c_sumB C j u (k + 1))), (4, .int (nI k)), (0, .ref (aB s0.heap.size j)), (1, .int (nI u))]) hx hb dX2_sumBefore_97 rfl hl (by decide) rfl (fun ls hl => ?_)
            refine lv_iinc (v := nI (k + 1)) (lv' := [(4, .int (nI (k + 1))), (2, .long (c_sumB C j u (k + 1))), (0, .ref (aB s0.heap.size j)), (1, .int (nI u))]) hx hb dX2_sumBefore_98 hl (k := 1) rfl (nI_1 k) (by decide) rfl (fun ls hl => ?_)
            refine lv_goto (tgt := 5) hx hb dX2_sumBefore_101 (by decide) ?_
            exact ih (k + 1) _ _ (by omega) (by omega) (lv_sub hl [1, 0, 2, 3] rfl) hL
          · refine lv_aload_n hx hb dX2_sumBefore_76 rfl (lv_at hl 2 rfl) ?_
            refine gx_get (D := D) (cl := gcl) (ci := 2) (v := .ref (aL s0.heap.size j)) (C := RX2) (T := TX2) (N := 1) hx hb hts in_X2 hown hK (hR.bok j h1 h3) rfl 0 (by decide) (hts _ q120) (fun _ h9 => h9) rfl dX2_sumBefore_77 ?_
            refine lv_iload hx hb dX2_sumBefore_80 (lv_at hl 1 rfl) ?_
            refine cc_v (va_runV (b := aL s0.heap.size j) (As := [.int (nI k)]) (rest := [.long (c_sumB C j u k)]) ⟨hx, hb, hml, hown, hts⟩ (ct_J2_get (i := k) hE (hR.lob j (by omega)) (hR.lda j (by omega) (Nat.lt_of_lt_of_le (Nat.lt_of_le_of_lt (Nat.zero_le _) (by omega)) (hR.lay.1 j (by omega)).1)) (by have := (hR.lay.1 j (by omega)).2; omega) (by omega) (hR.lay.1 j (by omega)).1 (hR.lay.2.1 j (by omega) k (by omega))) (cwV 1 hts (lw_V q453 q383 q384 q50 q385) rfl rfl rfl (by decide +kernel) ⟨Nat.le_of_ble_eq_true rfl, Nat.le_of_ble_eq_true rfl⟩) (cc_pV hW0 (cc_re hK (hR.lob j (by omega)) (show gcl[1]? = _ from rfl))) rfl rfl hl.1 rfl (lv_room (Nat.le_of_ble_eq_true rfl)) dX2_sumBefore_82 ⟨Nat.le_of_ble_eq_true rfl, Nat.le_of_ble_eq_true rfl⟩) hL (fun H locs hP1 hL => ?_)
            subst hP1
            refine gx_castS (ci := 12) hx hb hown (hts _ q454) hK (hR.ent j k h1 h3 (by omega)) (show gcl[12]? = _ from rfl) dX2_sumBefore_85 ?_
            refine gx_getN (D := D) (cl := gcl) (ci := 12) (v := .int (kE C j k 2)) (C := RX13) (T := TX13) (N := 3) hx hb hts in_X13 hown hK (hR.ent j k h1 h3 (by omega)) rfl 2 (by decide) (hE.nF hW0 q749) (fun _ h9 => h9) rfl dX2_sumBefore_88 ?_
            refine lv_i2l (v := (kE C j k 2).toInt64) hx hb dX2_sumBefore_91 rfl ?_
            refine lv_goto (tgt := 96) hx hb dX2_sumBefore_92 (by decide) ?_
            refine lv_ladd hx hb dX2_sumBefore_96 ?_
            refine gx_tl (c_sumB C j u (k + 1)) (by rw [c_sumB, if_pos ⟨c41, c73⟩]) ?_
            refine lv_lstore_n (lv' := [(2, .long (c_sumB C j u (k + 1))), (4, .int (nI k)), (0, .ref (aB s0.heap.size j)), (1, .int (nI u))]) hx hb dX2_sumBefore_97 rfl hl (by decide) rfl (fun ls hl => ?_)
            refine lv_iinc (v := nI (k + 1)) (lv' := [(4, .int (nI (k + 1))), (2, .long (c_sumB C j u (k + 1))), (0, .ref (aB s0.heap.size j)), (1, .int (nI u))]) hx hb dX2_sumBefore_98 hl (k := 1) rfl (nI_1 k) (by decide) rfl (fun ls hl => ?_)
            refine lv_goto (tgt := 5) hx hb dX2_sumBefore_101 (by decide) ?_
            exact ih (k + 1) _ _ (by omega) (by omega) (lv_sub hl [1, 0, 2, 3] rfl) hL
  refine lv_lconst (v := 0) hx hb dX2_sumBefore_0 (by decide) ?_
  refine gx_tl (c_sumB C j u 0) (rfl) ?_
  refine lv_lstore_n (lv' := [(2, .long (c_sumB C j u 0)), (0, .ref (aB s0.heap.size j)), (1, .int (nI u))]) hx hb dX2_sumBefore_1 rfl hl (by decide) rfl (fun ls hl => ?_)
  refine lv_iconst (v := 0) hx hb dX2_sumBefore_2 (by decide) ?_
  refine gx_ti (nI 0) (by decide) ?_
  refine lv_istore (lv' := [(4, .int (nI 0)), (2, .long (c_sumB C j u 0)), (0, .ref (aB s0.heap.size j)), (1, .int (nI u))]) hx hb dX2_sumBefore_3 hl (by decide) rfl (fun ls hl => ?_)
  exact key (u + 1) 0 _ _ (by omega) (by omega) (lv_sub hl [1, 0, 2, 3] rfl) hL
set_option maxHeartbeats 4000000 in
set_option maxRecDepth 100000 in
/-- Book.isFull -/
theorem ct_X2_isFull {l : Launch} {s0 : State} {D : va_G} {DA : Nat → ClassId} {z0 : Nat} {Y : YS} {C : CS} {M : MS} {o : Int64} {H : Heap} (hE : G0 l s0 D DA z0) (hR : GRb s0.heap.size s0.heap D DA z0 Y C M o H) {j : Nat} (h1 : 1 ≤ j) (h3 : j ≤ 3) : Met l yX2_isFull (ws_ yX2_isFull cX2_isFull 1 (some .boolean)) ({ frames := 1, cells := 0, slots := 0, locals := 20 }) (cP s0 [.ref (aB s0.heap.size j)] H) (cQv (.int (bZ (decide (kN C j = 24)))) (fun H1 => H1 = H)) 0 0 (cF s0) := by
  refine Met.ofW (cc := cX2_isFull) (maxL := 1) (ret := (some .boolean)) (by decide) rfl ?_
  intro p e s m args below meth c s₁ Bd hml hv
  obtain ⟨rfl, rfl, hW0⟩ := hv
  have hx := Bd.exec
  have hb := Bd.bytes
  have hr := Bd.returns
  have hts := atoms_spec (ws := (ws_ yX2_isFull cX2_isFull 1 (some .boolean))) Bd.pre
  have hts : ∀ w ∈ lw_all, w.before _ s = true := fun w h => hts w (List.mem_cons_of_mem _ h)
  have hown : s.vm.findClass RX2 = some m.cls := findClass_of_methodNamed Bd.named
  have hlocks := Bd.notSynchronized
  have hK := va_K.moved hW0.alike hE.K
  have hL : gx_L s0.heap.size ([] : List Loc) := gx_L0
  have hl := lv_entry ([.ref (aB s0.heap.size j)]) (n := 1) (Nat.le_of_ble_eq_true rfl)
  rw [lg_entry_eq]
  generalize (lg_sl ([.ref (aB s0.heap.size j)]) ++ List.replicate (1 - (lg_sl ([.ref (aB s0.heap.size j)])).length) Slot.unset).toArray = ls at hl ⊢
  have hl : lv_has ls 1 [(0, .ref (aB s0.heap.size j))] := hl
  have hl36 := hR.lay.1 j (by omega)
  refine lv_aload_n hx hb dX2_isFull_0 rfl (lv_at hl 0 rfl) ?_
  refine gx_get (D := D) (cl := gcl) (ci := 2) (v := .ref (aL s0.heap.size j)) (C := RX2) (T := TX2) (N := 1) hx hb hts in_X2 hown hK (hR.bok j h1 h3) rfl 0 (by decide) (hts _ q120) (fun _ h9 => h9) rfl dX2_isFull_1 ?_
  refine cc_v (va_runV (b := aL s0.heap.size j) (As := []) (rest := []) ⟨hx, hb, hml, hown, hts⟩ (ct_J2_size hE (hR.lob j (by omega))) (cwV 0 hts (lw_V q452 q379 q380 q50 q381) rfl rfl rfl (by decide +kernel) ⟨Nat.le_of_ble_eq_true rfl, Nat.le_of_ble_eq_true rfl⟩) (cc_pV hW0 (cc_re hK (hR.lob j (by omega)) (show gcl[1]? = _ from rfl))) rfl rfl hl.1 rfl (lv_room (Nat.le_of_ble_eq_true rfl)) dX2_isFull_4 ⟨Nat.le_of_ble_eq_true rfl, Nat.le_of_ble_eq_true rfl⟩) hL (fun H locs hP1 hL => ?_)
  subst hP1
  refine lv_bipush (v := 24) hx hb dX2_isFull_7 (by decide) ?_
  refine lv_icmp_ne (tgt := 16) hx hb dX2_isFull_9 (by decide) (fun c9 => ?_) (fun c9 => ?_)
  · refine lv_iconst (v := 0) hx hb dX2_isFull_16 (by decide) ?_
    exact W.zret (v := 0) hx hb hr (rfl) (fun t ht hW => ⟨ovI ((bZ_f (decide_eq_false (fun q => c9 (by rw [q]; rfl)))).symm), ht⟩) hL dX2_isFull_17
  · refine lv_iconst (v := 1) hx hb dX2_isFull_12 (by decide) ?_
    refine lv_goto (tgt := 17) hx hb dX2_isFull_13 (by decide) ?_
    exact W.zret (v := 1) hx hb hr (rfl) (fun t ht hW => ⟨ovI ((bZ_t (decide_eq_true ((nI_eq (b := 24) (by omega) (by omega)).mp c9))).symm), ht⟩) hL dX2_isFull_17
set_option maxHeartbeats 4000000 in
set_option maxRecDepth 100000 in
/-- Book.add -/
theorem ct_X2_add {l : Launch} {s0 : State} {D : va_G} {DA : Nat → ClassId} {z0 : Nat} {Y : YS} {C : CS} {M : MS} {o : Int64} {H : Heap} (hE : G0 l s0 D DA z0) (hR : GRb s0.heap.size s0.heap D DA z0 Y C M o H) {j : Nat} (h1 : 1 ≤ j) (h3 : j ≤ 3) {v : Nat} {xa xb xn : Int32} (hv : va_at D gcl (v, .inr (12, [.int xa, .int xb, .int xn])) H) (hfr : yFr s0.heap.size Y C v) (h24 : kN C j < 24) : Met l yX2_add (ws_ yX2_add cX2_add 2 (some .int)) ({ frames := 7, cells := 1, slots := 36, locals := 171 }) (cP s0 [.ref (aB s0.heap.size j), .ref v] H) (cQv (.int (nI (kN C j))) (fun H1 => RR s0 D DA z0 (cAddE C j xa xb xn) M o H1)) 1 36 (cF s0) := by
  refine Met.ofW (cc := cX2_add) (maxL := 2) (ret := (some .int)) (by decide) rfl ?_
  intro p e s m args below meth c s₁ Bd hml hv
  obtain ⟨rfl, rfl, hW0⟩ := hv
  have hx := Bd.exec
  have hb := Bd.bytes
  have hr := Bd.returns
  have hts := atoms_spec (ws := (ws_ yX2_add cX2_add 2 (some .int))) Bd.pre
  have hts : ∀ w ∈ lw_all, w.before _ s = true := fun w h => hts w (List.mem_cons_of_mem _ h)
  have hown : s.vm.findClass RX2 = some m.cls := findClass_of_methodNamed Bd.named
  have hlocks := Bd.notSynchronized
  have hK := va_K.moved hW0.alike hE.K
  have hL : gx_L s0.heap.size ([] : List Loc) := gx_L0
  have hl := lv_entry ([.ref (aB s0.heap.size j), .ref v]) (n := 2) (Nat.le_of_ble_eq_true rfl)
  rw [lg_entry_eq]
  generalize (lg_sl ([.ref (aB s0.heap.size j), .ref v]) ++ List.replicate (2 - (lg_sl ([.ref (aB s0.heap.size j), .ref v])).length) Slot.unset).toArray = ls at hl ⊢
  have hl : lv_has ls 2 [(0, .ref (aB s0.heap.size j)), (1, .ref v)] := hl
  refine lv_aload_n hx hb dX2_add_0 rfl (lv_at hl 0 rfl) ?_
  refine gx_get (D := D) (cl := gcl) (ci := 2) (v := .ref (aL s0.heap.size j)) (C := RX2) (T := TX2) (N := 1) hx hb hts in_X2 hown hK (hR.bok j h1 h3) rfl 0 (by decide) (hts _ q120) (fun _ h9 => h9) rfl dX2_add_1 ?_
  refine lv_aload_n hx hb dX2_add_4 rfl (lv_at hl 1 rfl) ?_
  refine cc_v (va_runV (b := aL s0.heap.size j) (As := [.ref v]) (rest := []) ⟨hx, hb, hml, hown, hts⟩ (ct_J2_add (v := v) hE (hR.lob j (by omega)) (fun h => hR.lda j (by omega) h) hR.old (by have := hR.sz; omega) (aL_in _ (by omega)).1 (hR.lay.1 j (by omega)).1 (by omega) (hR.lay.1 j (by omega)).2 (yD_z hR.lay (by omega)) (aL_ne_yD hR.lay (by omega)) (fun h => by have := (yD_far hR.lay (by omega) h).1; omega) (fun h i hi y hy => hR.elE h1 h3 (by omega) hy) (⟨12, _, _, hv, rfl, q1177, by have h9 := hfr.1; have h8 := aL_in s0.heap.size (j := j) (by omega); omega⟩)) (cwV 1 hts (lw_V q762 q316 q317 q50 q318) rfl rfl rfl (by decide +kernel) ⟨Nat.le_of_ble_eq_true rfl, Nat.le_of_ble_eq_true rfl⟩) (cc_pV hW0 (cc_re hK (hR.lob j (by omega)) (show gcl[1]? = _ from rfl))) rfl rfl hl.1 rfl (lv_room (Nat.le_of_ble_eq_true rfl)) dX2_add_5 ⟨Nat.le_of_ble_eq_true rfl, Nat.le_of_ble_eq_true rfl⟩) hL (fun H locs hP1 hL => ?_)
  obtain ⟨Y2, hR⟩ := GRb.addE h1 h3 hR hv hfr h24 hP1
  refine lv_pop hx hb dX2_add_8 rfl ?_
  refine lv_aload_n hx hb dX2_add_9 rfl (lv_at hl 0 rfl) ?_
  refine gx_get (D := D) (cl := gcl) (ci := 2) (v := .ref (aL s0.heap.size j)) (C := RX2) (T := TX2) (N := 1) hx hb hts in_X2 hown hK (hR.bok j h1 h3) rfl 0 (by decide) (hts _ q120) (fun _ h9 => h9) rfl dX2_add_10 ?_
  refine cc_v (va_runV (b := aL s0.heap.size j) (As := []) (rest := []) ⟨hx, hb, hml, hown, hts⟩ (ct_J2_size hE (hR.lob j (by omega))) (cwV 0 hts (lw_V q452 q379 q380 q50 q381) rfl rfl rfl (by decide +kernel) ⟨Nat.le_of_ble_eq_true rfl, Nat.le_of_ble_eq_true rfl⟩) (cc_pV hW0 (cc_re hK (hR.lob j (by omega)) (show gcl[1]? = _ from rfl))) rfl rfl hl.1 rfl (lv_room (Nat.le_of_ble_eq_true rfl)) dX2_add_13 ⟨Nat.le_of_ble_eq_true rfl, Nat.le_of_ble_eq_true rfl⟩) hL (fun H locs hP1 hL => ?_)
  subst hP1
  refine lv_iconst (v := 1) hx hb dX2_add_16 (by decide) ?_
  refine lv_isub hx hb dX2_add_17 ?_
  refine gx_ti (nI (kN C j)) (by rw [show kN (cAddE C j xa xb xn) j = kN C j + 1 from va_up_self _ _ _]; exact nI_pred _) ?_
  exact W.iret (v := (nI (kN C j))) hx hb hr (fun t ht hW => ⟨rfl, by rw [ht]; exact ⟨_, hR⟩⟩) hL dX2_add_18
set_option maxHeartbeats 4000000 in
set_option maxRecDepth 100000 in
/-- X13_init -/
theorem ct_X13_init {l : Launch} {s0 : State} {D : va_G} {DA : Nat → ClassId} {z0 : Nat} {H : Heap} (hE : G0 l s0 D DA z0) {a : Nat} (x y z : Int32) (hQ : va_at D gcl (a, .inr (12, [.int 0, .int 0, .int 0])) H) (ha : s0.heap.size ≤ a) : Met l yX13_init (ws_ yX13_init cX13_init 4 none) ({ frames := 1, cells := 0, slots := 0, locals := 12 }) (cP s0 [.ref a, .int x, .int y, .int z] H) (cQ0 (fun H1 => gx_U a H H1 ∧ va_at D gcl (a, .inr (12, [.int x, .int y, .int z])) H1)) 0 0 (cF s0) := by
  refine Met.ofW (cc := cX13_init) (maxL := 4) (ret := none) (by decide) rfl ?_
  intro p e s m args below meth c s₁ Bd hml hv
  obtain ⟨rfl, rfl, hW0⟩ := hv
  have hx := Bd.exec
  have hb := Bd.bytes
  have hr := Bd.returns
  have hts := atoms_spec (ws := (ws_ yX13_init cX13_init 4 none)) Bd.pre
  have hts : ∀ w ∈ lw_all, w.before _ s = true := fun w h => hts w (List.mem_cons_of_mem _ h)
  have hown : s.vm.findClass RX13 = some m.cls := findClass_of_methodNamed Bd.named
  have hlocks := Bd.notSynchronized
  have hin : meth.name = "<init>" := (name_of_methodNamed Bd.named Bd.method).1
  have hK := va_K.moved hW0.alike hE.K
  have hL : gx_L s0.heap.size ([] : List Loc) := gx_L0
  have hl := lv_entry ([.ref a, .int x, .int y, .int z]) (n := 4) (Nat.le_of_ble_eq_true rfl)
  rw [lg_entry_eq]
  generalize (lg_sl ([.ref a, .int x, .int y, .int z]) ++ List.replicate (4 - (lg_sl ([.ref a, .int x, .int y, .int z])).length) Slot.unset).toArray = ls at hl ⊢
  have hl : lv_has ls 4 [(0, .ref a), (1, .int x), (2, .int y), (3, .int z)] := hl
  have hUU : gx_U a s.heap s.heap := ⟨rfl, fun _ _ => rfl⟩
  refine lv_aload_n hx hb dX13_init_0 rfl (lv_at hl 0 rfl) ?_
  refine W.objInit hx hb hown (hts _ q741) (hts _ q82) (hts _ q83) rfl (by rw [hml]; exact hl.1) rfl dX13_init_1 (Nat.le_of_ble_eq_true rfl) (Nat.le_of_ble_eq_true rfl) ?_
  refine W.eq (g2 := F0 m 4 ls []) rfl ?_
  refine lv_aload_n hx hb dX13_init_4 rfl (lv_at hl 0 rfl) ?_
  refine lv_iload_n hx hb dX13_init_5 rfl (lv_at hl 1 rfl) ?_
  refine gx_putF (D := D) (cl := gcl) (ci := 12) (v := .int x) (ty := .int) (C := RX13) (T := TX13) (N := 3) hx hb hts in_X13 tyX13 tyX13_ok nmX13 hown hK hQ rfl 0 (by decide) (hts _ q742) (fun _ h9 => h9) rfl hin rfl (by decide +kernel) (rfl) rfl (Nat.le_of_ble_eq_true rfl) hL (by (try simp only [aI, aA, aT, aB, aL, mad]); omega) dX13_init_6 (fun H locs hU hA hL => ?_)
  have hQ : va_at D gcl (a, .inr (12, [.int x, .int 0, .int 0])) H := hA
  have hUU := hUU.tr hU
  refine lv_aload_n hx hb dX13_init_9 rfl (lv_at hl 0 rfl) ?_
  refine lv_iload_n hx hb dX13_init_10 rfl (lv_at hl 2 rfl) ?_
  refine gx_putF (D := D) (cl := gcl) (ci := 12) (v := .int y) (ty := .int) (C := RX13) (T := TX13) (N := 3) hx hb hts in_X13 tyX13 tyX13_ok nmX13 hown hK hQ rfl 1 (by decide) (hts _ q745) (fun _ h9 => h9) rfl hin rfl (by decide +kernel) (rfl) rfl (Nat.le_of_ble_eq_true rfl) hL (by (try simp only [aI, aA, aT, aB, aL, mad]); omega) dX13_init_11 (fun H locs hU hA hL => ?_)
  have hQ : va_at D gcl (a, .inr (12, [.int x, .int y, .int 0])) H := hA
  have hUU := hUU.tr hU
  refine lv_aload_n hx hb dX13_init_14 rfl (lv_at hl 0 rfl) ?_
  refine lv_iload_n hx hb dX13_init_15 rfl (lv_at hl 3 rfl) ?_
  refine gx_put (D := D) (cl := gcl) (ci := 12) (v := .int z) (ty := .int) (C := RX13) (T := TX13) (N := 3) hx hb hts in_X13 tyX13 tyX13_ok nmX13 hown hK hQ rfl 2 (by decide) (hts _ q748) (fun _ h9 => h9) rfl (by decide +kernel) (rfl) rfl (Nat.le_of_ble_eq_true rfl) hL (by (try simp only [aI, aA, aT, aB, aL, mad]); omega) dX13_init_16 (fun H locs hU hA hL => ?_)
  have hQ : va_at D gcl (a, .inr (12, [.int x, .int y, .int z])) H := hA
  have hUU := hUU.tr hU
  exact W.vret hx hb hr (fun t ht hW => ⟨rfl, by rw [ht]; exact ⟨hUU, hQ⟩⟩) hL dX13_init_19
set_option maxHeartbeats 4000000 in
set_option maxRecDepth 100000 in
/-- X12_init -/
theorem ct_X12_init {l : Launch} {s0 : State} {D : va_G} {DA : Nat → ClassId} {z0 : Nat} {H : Heap} (hE : G0 l s0 D DA z0) {a : Nat} {pa ch : Nat} (x y z : Int32) (hQ : va_at D gcl (a, .inr (11, [.null, .null, .int 0, .int 0, .int 0])) H) (ha : s0.heap.size ≤ a) : Met l yX12_init (ws_ yX12_init cX12_init 6 none) ({ frames := 2, cells := 0, slots := 0, locals := 32 }) (cP s0 [.ref a, .ref pa, .ref ch, .int x, .int y, .int z] H) (cQ0 (fun H1 => gx_U a H H1 ∧ va_at D gcl (a, .inr (11, [.ref pa, .ref ch, .int x, .int y, .int z])) H1)) 0 0 (cF s0) := by
  refine Met.ofW (cc := cX12_init) (maxL := 6) (ret := none) (by decide) rfl ?_
  intro p e s m args below meth c s₁ Bd hml hv
  obtain ⟨rfl, rfl, hW0⟩ := hv
  have hx := Bd.exec
  have hb := Bd.bytes
  have hr := Bd.returns
  have hts := atoms_spec (ws := (ws_ yX12_init cX12_init 6 none)) Bd.pre
  have hts : ∀ w ∈ lw_all, w.before _ s = true := fun w h => hts w (List.mem_cons_of_mem _ h)
  have hown : s.vm.findClass RX12 = some m.cls := findClass_of_methodNamed Bd.named
  have hlocks := Bd.notSynchronized
  have hin : meth.name = "<init>" := (name_of_methodNamed Bd.named Bd.method).1
  have hK := va_K.moved hW0.alike hE.K
  have hL : gx_L s0.heap.size ([] : List Loc) := gx_L0
  have hl := lv_entry ([.ref a, .ref pa, .ref ch, .int x, .int y, .int z]) (n := 6) (Nat.le_of_ble_eq_true rfl)
  rw [lg_entry_eq]
  generalize (lg_sl ([.ref a, .ref pa, .ref ch, .int x, .int y, .int z]) ++ List.replicate (6 - (lg_sl ([.ref a, .ref pa, .ref ch, .int x, .int y, .int z])).length) Slot.unset).toArray = ls at hl ⊢
  have hl : lv_has ls 6 [(0, .ref a), (1, .ref pa), (2, .ref ch), (3, .int x), (4, .int y), (5, .int z)] := hl
  have hUU : gx_U a s.heap s.heap := ⟨rfl, fun _ _ => rfl⟩
  refine lv_aload_n hx hb dX12_init_0 rfl (lv_at hl 0 rfl) ?_
  refine cc_0 (va_runI (b := a) (As := []) (rest := []) ⟨hx, hb, hml, hown, hts⟩ (ct_J3_init (a := a) hE) (cwI 0 hts (lw_meth q266) rfl rfl rfl (hts _ q59) (hts _ q689) (hts _ q265) rfl (by decide +kernel) ⟨Nat.le_of_ble_eq_true rfl, Nat.le_of_ble_eq_true rfl⟩) (cc_pS hW0) rfl rfl hl.1 rfl (lv_room (Nat.le_of_ble_eq_true rfl)) dX12_init_1 ⟨Nat.le_of_ble_eq_true rfl, Nat.le_of_ble_eq_true rfl⟩) hL (fun H locs hP1 hL => ?_)
  subst hP1
  refine lv_aload_n hx hb dX12_init_4 rfl (lv_at hl 0 rfl) ?_
  refine lv_aload_n hx hb dX12_init_5 rfl (lv_at hl 1 rfl) ?_
  refine gx_putF (D := D) (cl := gcl) (ci := 11) (v := .ref pa) (ty := (.object "NettedPlans$Item")) (C := RX12) (T := TX12) (N := 5) hx hb hts in_X12 tyX12 tyX12_ok nmX12 hown hK hQ rfl 0 (by decide) (hts _ q690) (fun _ h9 => h9) rfl hin rfl (by decide +kernel) (rfl) rfl (Nat.le_of_ble_eq_true rfl) hL (by (try simp only [aI, aA, aT, aB, aL, mad]); omega) dX12_init_6 (fun H locs hU hA hL => ?_)
  have hQ : va_at D gcl (a, .inr (11, [.ref pa, .null, .int 0, .int 0, .int 0])) H := hA
  have hUU := hUU.tr hU
  refine lv_aload_n hx hb dX12_init_9 rfl (lv_at hl 0 rfl) ?_
  refine lv_aload_n hx hb dX12_init_10 rfl (lv_at hl 2 rfl) ?_
  refine gx_putF (D := D) (cl := gcl) (ci := 11) (v := .ref ch) (ty := (.object "NettedPlans$Item")) (C := RX12) (T := TX12) (N := 5) hx hb hts in_X12 tyX12 tyX12_ok nmX12 hown hK hQ rfl 1 (by decide) (hts _ q691) (fun _ h9 => h9) rfl hin rfl (by decide +kernel) (rfl) rfl (Nat.le_of_ble_eq_true rfl) hL (by (try simp only [aI, aA, aT, aB, aL, mad]); omega) dX12_init_11 (fun H locs hU hA hL => ?_)
  have hQ : va_at D gcl (a, .inr (11, [.ref pa, .ref ch, .int 0, .int 0, .int 0])) H := hA
  have hUU := hUU.tr hU
  refine lv_aload_n hx hb dX12_init_14 rfl (lv_at hl 0 rfl) ?_
  refine lv_iload_n hx hb dX12_init_15 rfl (lv_at hl 3 rfl) ?_
  refine gx_putF (D := D) (cl := gcl) (ci := 11) (v := .int x) (ty := .int) (C := RX12) (T := TX12) (N := 5) hx hb hts in_X12 tyX12 tyX12_ok nmX12 hown hK hQ rfl 2 (by decide) (hts _ q692) (fun _ h9 => h9) rfl hin rfl (by decide +kernel) (rfl) rfl (Nat.le_of_ble_eq_true rfl) hL (by (try simp only [aI, aA, aT, aB, aL, mad]); omega) dX12_init_16 (fun H locs hU hA hL => ?_)
  have hQ : va_at D gcl (a, .inr (11, [.ref pa, .ref ch, .int x, .int 0, .int 0])) H := hA
  have hUU := hUU.tr hU
  refine lv_aload_n hx hb dX12_init_19 rfl (lv_at hl 0 rfl) ?_
  refine lv_iload hx hb dX12_init_20 (lv_at hl 4 rfl) ?_
  refine gx_putF (D := D) (cl := gcl) (ci := 11) (v := .int y) (ty := .int) (C := RX12) (T := TX12) (N := 5) hx hb hts in_X12 tyX12 tyX12_ok nmX12 hown hK hQ rfl 3 (by decide) (hts _ q693) (fun _ h9 => h9) rfl hin rfl (by decide +kernel) (rfl) rfl (Nat.le_of_ble_eq_true rfl) hL (by (try simp only [aI, aA, aT, aB, aL, mad]); omega) dX12_init_22 (fun H locs hU hA hL => ?_)
  have hQ : va_at D gcl (a, .inr (11, [.ref pa, .ref ch, .int x, .int y, .int 0])) H := hA
  have hUU := hUU.tr hU
  refine lv_aload_n hx hb dX12_init_25 rfl (lv_at hl 0 rfl) ?_
  refine lv_iload hx hb dX12_init_26 (lv_at hl 5 rfl) ?_
  refine gx_putF (D := D) (cl := gcl) (ci := 11) (v := .int z) (ty := .int) (C := RX12) (T := TX12) (N := 5) hx hb hts in_X12 tyX12 tyX12_ok nmX12 hown hK hQ rfl 4 (by decide) (hts _ q694) (fun _ h9 => h9) rfl hin rfl (by decide +kernel) (rfl) rfl (Nat.le_of_ble_eq_true rfl) hL (by (try simp only [aI, aA, aT, aB, aL, mad]); omega) dX12_init_28 (fun H locs hU hA hL => ?_)
  have hQ : va_at D gcl (a, .inr (11, [.ref pa, .ref ch, .int x, .int y, .int z])) H := hA
  have hUU := hUU.tr hU
  exact W.vret hx hb hr (fun t ht hW => ⟨rfl, by rw [ht]; exact ⟨hUU, hQ⟩⟩) hL dX12_init_31
set_option maxHeartbeats 4000000 in
set_option maxRecDepth 100000 in
/-- X10_init -/
theorem ct_X10_init {l : Launch} {s0 : State} {D : va_G} {DA : Nat → ClassId} {z0 : Nat} {H : Heap} (hE : G0 l s0 D DA z0) {a : Nat} {it : Nat} (hQ : va_at D gcl (a, .inr (9, [.null])) H) (ha : s0.heap.size ≤ a) : Met l yX10_init (ws_ yX10_init cX10_init 2 none) ({ frames := 2, cells := 0, slots := 0, locals := 32 }) (cP s0 [.ref a, .ref it] H) (cQ0 (fun H1 => gx_U a H H1 ∧ va_at D gcl (a, .inr (9, [.ref it])) H1)) 0 0 (cF s0) := by
  refine Met.ofW (cc := cX10_init) (maxL := 2) (ret := none) (by decide) rfl ?_
  intro p e s m args below meth c s₁ Bd hml hv
  obtain ⟨rfl, rfl, hW0⟩ := hv
  have hx := Bd.exec
  have hb := Bd.bytes
  have hr := Bd.returns
  have hts := atoms_spec (ws := (ws_ yX10_init cX10_init 2 none)) Bd.pre
  have hts : ∀ w ∈ lw_all, w.before _ s = true := fun w h => hts w (List.mem_cons_of_mem _ h)
  have hown : s.vm.findClass RX10 = some m.cls := findClass_of_methodNamed Bd.named
  have hlocks := Bd.notSynchronized
  have hin : meth.name = "<init>" := (name_of_methodNamed Bd.named Bd.method).1
  have hK := va_K.moved hW0.alike hE.K
  have hL : gx_L s0.heap.size ([] : List Loc) := gx_L0
  have hl := lv_entry ([.ref a, .ref it]) (n := 2) (Nat.le_of_ble_eq_true rfl)
  rw [lg_entry_eq]
  generalize (lg_sl ([.ref a, .ref it]) ++ List.replicate (2 - (lg_sl ([.ref a, .ref it])).length) Slot.unset).toArray = ls at hl ⊢
  have hl : lv_has ls 2 [(0, .ref a), (1, .ref it)] := hl
  have hUU : gx_U a s.heap s.heap := ⟨rfl, fun _ _ => rfl⟩
  refine lv_aload_n hx hb dX10_init_0 rfl (lv_at hl 0 rfl) ?_
  refine cc_0 (va_runI (b := a) (As := []) (rest := []) ⟨hx, hb, hml, hown, hts⟩ (ct_J3_init (a := a) hE) (cwI 0 hts (lw_meth q266) rfl rfl rfl (hts _ q59) (hts _ q264) (hts _ q265) rfl (by decide +kernel) ⟨Nat.le_of_ble_eq_true rfl, Nat.le_of_ble_eq_true rfl⟩) (cc_pS hW0) rfl rfl hl.1 rfl (lv_room (Nat.le_of_ble_eq_true rfl)) dX10_init_1 ⟨Nat.le_of_ble_eq_true rfl, Nat.le_of_ble_eq_true rfl⟩) hL (fun H locs hP1 hL => ?_)
  subst hP1
  refine lv_aload_n hx hb dX10_init_4 rfl (lv_at hl 0 rfl) ?_
  refine lv_aload_n hx hb dX10_init_5 rfl (lv_at hl 1 rfl) ?_
  refine gx_putF (D := D) (cl := gcl) (ci := 9) (v := .ref it) (ty := (.object "NettedPlans$Item")) (C := RX10) (T := TX10) (N := 1) hx hb hts in_X10 tyX10 tyX10_ok nmX10 hown hK hQ rfl 0 (by decide) (hts _ q268) (fun _ h9 => h9) rfl hin rfl (by decide +kernel) (rfl) rfl (Nat.le_of_ble_eq_true rfl) hL (by (try simp only [aI, aA, aT, aB, aL, mad]); omega) dX10_init_6 (fun H locs hU hA hL => ?_)
  have hQ : va_at D gcl (a, .inr (9, [.ref it])) H := hA
  have hUU := hUU.tr hU
  exact W.vret hx hb hr (fun t ht hW => ⟨rfl, by rw [ht]; exact ⟨hUU, hQ⟩⟩) hL dX10_init_9
set_option maxHeartbeats 4000000 in
set_option maxRecDepth 100000 in
/-- Line.isIn -/
theorem ct_X12_isIn {l : Launch} {s0 : State} {D : va_G} {DA : Nat → ClassId} {z0 : Nat} {Y : YS} {C : CS} {M : MS} {o : Int64} {H : Heap} (hE : G0 l s0 D DA z0) (hR : GRb s0.heap.size s0.heap D DA z0 Y C M o H) {i : Nat} (hi : i < kN C 0) (x : Int32) : Met l yX12_isIn (ws_ yX12_isIn cX12_isIn 2 (some .boolean)) ({ frames := 0, cells := 0, slots := 0, locals := 0 }) (cP s0 [.ref (yE Y 0 i), .int x] H) (cQv (.int (bZ (inR x (kL C 1 i) (kL C 2 i)))) (fun H1 => H1 = H)) 0 0 (cF s0) := by
  refine Met.ofW (cc := cX12_isIn) (maxL := 2) (ret := (some .boolean)) (by decide) rfl ?_
  intro p e s m args below meth c s₁ Bd hml hv
  obtain ⟨rfl, rfl, hW0⟩ := hv
  have hx := Bd.exec
  have hb := Bd.bytes
  have hr := Bd.returns
  have hts := atoms_spec (ws := (ws_ yX12_isIn cX12_isIn 2 (some .boolean))) Bd.pre
  have hts : ∀ w ∈ lw_all, w.before _ s = true := fun w h => hts w (List.mem_cons_of_mem _ h)
  have hown : s.vm.findClass RX12 = some m.cls := findClass_of_methodNamed Bd.named
  have hlocks := Bd.notSynchronized
  have hK := va_K.moved hW0.alike hE.K
  have hL : gx_L s0.heap.size ([] : List Loc) := gx_L0
  have hl := lv_entry ([.ref (yE Y 0 i), .int x]) (n := 2) (Nat.le_of_ble_eq_true rfl)
  rw [lg_entry_eq]
  generalize (lg_sl ([.ref (yE Y 0 i), .int x]) ++ List.replicate (2 - (lg_sl ([.ref (yE Y 0 i), .int x])).length) Slot.unset).toArray = ls at hl ⊢
  have hl : lv_has ls 2 [(0, .ref (yE Y 0 i)), (1, .int x)] := hl
  refine lv_iload_n hx hb dX12_isIn_0 rfl (lv_at hl 1 rfl) ?_
  refine lv_aload_n hx hb dX12_isIn_1 rfl (lv_at hl 0 rfl) ?_
  refine gx_get (D := D) (cl := gcl) (ci := 11) (v := .int (kL C 1 i)) (C := RX12) (T := TX12) (N := 5) hx hb hts in_X12 hown hK (hR.lin i hi) rfl 3 (by decide) (hts _ q693) (fun _ h9 => h9) rfl dX12_isIn_2 ?_
  refine lv_icmp_lt (tgt := 20) hx hb dX12_isIn_5 (by decide) (fun c5 => ?_) (fun c5 => ?_)
  · refine lv_iconst (v := 0) hx hb dX12_isIn_20 (by decide) ?_
    exact W.zret (v := 0) hx hb hr (rfl) (fun t ht hW => ⟨ovI ((bZ_f (by unfold inR; rw [decide_eq_false (Int32.not_le.mpr c5)]; rfl)).symm), ht⟩) hL dX12_isIn_21
  · refine lv_iload_n hx hb dX12_isIn_8 rfl (lv_at hl 1 rfl) ?_
    refine lv_aload_n hx hb dX12_isIn_9 rfl (lv_at hl 0 rfl) ?_
    refine gx_get (D := D) (cl := gcl) (ci := 11) (v := .int (kL C 2 i)) (C := RX12) (T := TX12) (N := 5) hx hb hts in_X12 hown hK (hR.lin i hi) rfl 4 (by decide) (hts _ q694) (fun _ h9 => h9) rfl dX12_isIn_10 ?_
    refine lv_icmp_gt (tgt := 20) hx hb dX12_isIn_13 (by decide) (fun c13 => ?_) (fun c13 => ?_)
    · refine lv_iconst (v := 0) hx hb dX12_isIn_20 (by decide) ?_
      exact W.zret (v := 0) hx hb hr (rfl) (fun t ht hW => ⟨ovI ((bZ_f (by unfold inR; rw [decide_eq_false (Int32.not_le.mpr c13), Bool.and_false])).symm), ht⟩) hL dX12_isIn_21
    · refine lv_iconst (v := 1) hx hb dX12_isIn_16 (by decide) ?_
      refine lv_goto (tgt := 21) hx hb dX12_isIn_17 (by decide) ?_
      exact W.zret (v := 1) hx hb hr (rfl) (fun t ht hW => ⟨ovI ((bZ_t (by unfold inR; rw [decide_eq_true (i_nlt c5), decide_eq_true (i_nlt c13)]; rfl)).symm), ht⟩) hL dX12_isIn_21
set_option maxHeartbeats 4000000 in
set_option maxRecDepth 100000 in
/-- Line.of -/
theorem ct_X12_of {l : Launch} {s0 : State} {D : va_G} {DA : Nat → ClassId} {z0 : Nat} {Y : YS} {C : CS} {M : MS} {o : Int64} {H : Heap} (hE : G0 l s0 D DA z0) (hR : GRb s0.heap.size s0.heap D DA z0 Y C M o H) {i : Nat} (hi : i < kN C 0) (x : Int64) : Met l yX12_of (ws_ yX12_of cX12_of 3 (some .long)) ({ frames := 0, cells := 0, slots := 0, locals := 0 }) (cP s0 [.ref (yE Y 0 i), .long x] H) (cQv (.long (c_of C i x)) (fun H1 => H1 = H)) 0 0 (cF s0) := by
  refine Met.ofW (cc := cX12_of) (maxL := 3) (ret := (some .long)) (by decide) rfl ?_
  intro p e s m args below meth c s₁ Bd hml hv
  obtain ⟨rfl, rfl, hW0⟩ := hv
  have hx := Bd.exec
  have hb := Bd.bytes
  have hr := Bd.returns
  have hts := atoms_spec (ws := (ws_ yX12_of cX12_of 3 (some .long))) Bd.pre
  have hts : ∀ w ∈ lw_all, w.before _ s = true := fun w h => hts w (List.mem_cons_of_mem _ h)
  have hown : s.vm.findClass RX12 = some m.cls := findClass_of_methodNamed Bd.named
  have hlocks := Bd.notSynchronized
  have hK := va_K.moved hW0.alike hE.K
  have hL : gx_L s0.heap.size ([] : List Loc) := gx_L0
  have hl := lv_entry ([.ref (yE Y 0 i), .long x]) (n := 3) (Nat.le_of_ble_eq_true rfl)
  rw [lg_entry_eq]
  generalize (lg_sl ([.ref (yE Y 0 i), .long x]) ++ List.replicate (3 - (lg_sl ([.ref (yE Y 0 i), .long x])).length) Slot.unset).toArray = ls at hl ⊢
  have hl : lv_has ls 3 [(0, .ref (yE Y 0 i)), (1, .long x)] := hl
  refine lv_lload_n hx hb dX12_of_0 rfl (lv_at hl 1 rfl) ?_
  refine lv_aload_n hx hb dX12_of_1 rfl (lv_at hl 0 rfl) ?_
  refine gx_get (D := D) (cl := gcl) (ci := 11) (v := .int (kL C 0 i)) (C := RX12) (T := TX12) (N := 5) hx hb hts in_X12 hown hK (hR.lin i hi) rfl 2 (by decide) (hts _ q692) (fun _ h9 => h9) rfl dX12_of_2 ?_
  refine lv_i2l (v := (kL C 0 i).toInt64) hx hb dX12_of_5 rfl ?_
  refine lv_lmul hx hb dX12_of_6 ?_
  refine lv_sipush (v := 1000) hx hb dX12_of_7 (by decide) ?_
  refine lv_aload_n hx hb dX12_of_10 rfl (lv_at hl 0 rfl) ?_
  refine gx_get (D := D) (cl := gcl) (ci := 11) (v := .ref (aI s0.heap.size (kC C i))) (C := RX12) (T := TX12) (N := 5) hx hb hts in_X12 hown hK (hR.lin i hi) rfl 1 (by decide) (hts _ q691) (fun _ h9 => h9) rfl dX12_of_11 ?_
  refine gx_getN (D := D) (cl := gcl) (ci := 8) (v := .int (kI C 5 (kC C i))) (C := RX9) (T := TX9) (N := 19) hx hb hts in_X9 hown hK (hR.itm (kC C i) ((hR.lay.2.2.2.1 i hi).2.2.2)) rfl 5 (by decide) (hE.nF hW0 q197) (fun _ h9 => h9) rfl dX12_of_14 ?_
  refine lv_iadd hx hb dX12_of_17 ?_
  refine lv_i2l (v := (1000 + (kI C 5 (kC C i))).toInt64) hx hb dX12_of_18 rfl ?_
  refine lv_lmul hx hb dX12_of_19 ?_
  refine lv_ldc2 (v := 1000) hx hb hown (hts _ q478) dX12_of_20 ?_
  refine lv_ladd hx hb dX12_of_23 ?_
  refine lv_lconst (v := 1) hx hb dX12_of_24 (by decide) ?_
  refine lv_lsub hx hb dX12_of_25 ?_
  refine lv_ldc2 (v := 1000) hx hb hown (hts _ q478) dX12_of_26 ?_
  refine lv_ldiv hx hb dX12_of_29 (by decide) ?_
  exact W.lret (v := (((((x * ((kL C 0 i).toInt64)) * ((1000 + (kI C 5 (kC C i))).toInt64)) + 1000) - 1) / 1000)) hx hb hr (fun t ht hW => ⟨rfl, ht⟩) hL dX12_of_30
set_option maxHeartbeats 4000000 in
set_option maxRecDepth 100000 in
/-- Line.parent -/
theorem ct_X12_parent {l : Launch} {s0 : State} {D : va_G} {DA : Nat → ClassId} {z0 : Nat} {Y : YS} {C : CS} {M : MS} {o : Int64} {H : Heap} (hE : G0 l s0 D DA z0) (hR : GRb s0.heap.size s0.heap D DA z0 Y C M o H) {i : Nat} (hi : i < kN C 0) : Met l yX12_parent (ws_ yX12_parent cX12_parent 1 (some (.object "NettedPlans$Item"))) ({ frames := 0, cells := 0, slots := 0, locals := 0 }) (cP s0 [.ref (yE Y 0 i)] H) (cQv (.ref (aI s0.heap.size (kP C i))) (fun H1 => H1 = H)) 0 0 (cF s0) := by
  refine Met.ofW (cc := cX12_parent) (maxL := 1) (ret := (some (.object "NettedPlans$Item"))) (by decide) rfl ?_
  intro p e s m args below meth c s₁ Bd hml hv
  obtain ⟨rfl, rfl, hW0⟩ := hv
  have hx := Bd.exec
  have hb := Bd.bytes
  have hr := Bd.returns
  have hts := atoms_spec (ws := (ws_ yX12_parent cX12_parent 1 (some (.object "NettedPlans$Item")))) Bd.pre
  have hts : ∀ w ∈ lw_all, w.before _ s = true := fun w h => hts w (List.mem_cons_of_mem _ h)
  have hown : s.vm.findClass RX12 = some m.cls := findClass_of_methodNamed Bd.named
  have hlocks := Bd.notSynchronized
  have hK := va_K.moved hW0.alike hE.K
  have hL : gx_L s0.heap.size ([] : List Loc) := gx_L0
  have hl := lv_entry ([.ref (yE Y 0 i)]) (n := 1) (Nat.le_of_ble_eq_true rfl)
  rw [lg_entry_eq]
  generalize (lg_sl ([.ref (yE Y 0 i)]) ++ List.replicate (1 - (lg_sl ([.ref (yE Y 0 i)])).length) Slot.unset).toArray = ls at hl ⊢
  have hl : lv_has ls 1 [(0, .ref (yE Y 0 i))] := hl
  refine lv_aload_n hx hb dX12_parent_0 rfl (lv_at hl 0 rfl) ?_
  refine gx_get (D := D) (cl := gcl) (ci := 11) (v := .ref (aI s0.heap.size (kP C i))) (C := RX12) (T := TX12) (N := 5) hx hb hts in_X12 hown hK (hR.lin i hi) rfl 0 (by decide) (hts _ q690) (fun _ h9 => h9) rfl dX12_parent_1 ?_
  exact W.aret hx hb hr (Or.inl ⟨_, rfl⟩) (Or.inr ⟨_, rfl⟩) (fun t ht hW => ⟨rfl, ht⟩) hL dX12_parent_4
set_option maxHeartbeats 4000000 in
set_option maxRecDepth 100000 in
/-- Line.child -/
theorem ct_X12_child {l : Launch} {s0 : State} {D : va_G} {DA : Nat → ClassId} {z0 : Nat} {Y : YS} {C : CS} {M : MS} {o : Int64} {H : Heap} (hE : G0 l s0 D DA z0) (hR : GRb s0.heap.size s0.heap D DA z0 Y C M o H) {i : Nat} (hi : i < kN C 0) : Met l yX12_child (ws_ yX12_child cX12_child 1 (some (.object "NettedPlans$Item"))) ({ frames := 0, cells := 0, slots := 0, locals := 0 }) (cP s0 [.ref (yE Y 0 i)] H) (cQv (.ref (aI s0.heap.size (kC C i))) (fun H1 => H1 = H)) 0 0 (cF s0) := by
  refine Met.ofW (cc := cX12_child) (maxL := 1) (ret := (some (.object "NettedPlans$Item"))) (by decide) rfl ?_
  intro p e s m args below meth c s₁ Bd hml hv
  obtain ⟨rfl, rfl, hW0⟩ := hv
  have hx := Bd.exec
  have hb := Bd.bytes
  have hr := Bd.returns
  have hts := atoms_spec (ws := (ws_ yX12_child cX12_child 1 (some (.object "NettedPlans$Item")))) Bd.pre
  have hts : ∀ w ∈ lw_all, w.before _ s = true := fun w h => hts w (List.mem_cons_of_mem _ h)
  have hown : s.vm.findClass RX12 = some m.cls := findClass_of_methodNamed Bd.named
  have hlocks := Bd.notSynchronized
  have hK := va_K.moved hW0.alike hE.K
  have hL : gx_L s0.heap.size ([] : List Loc) := gx_L0
  have hl := lv_entry ([.ref (yE Y 0 i)]) (n := 1) (Nat.le_of_ble_eq_true rfl)
  rw [lg_entry_eq]
  generalize (lg_sl ([.ref (yE Y 0 i)]) ++ List.replicate (1 - (lg_sl ([.ref (yE Y 0 i)])).length) Slot.unset).toArray = ls at hl ⊢
  have hl : lv_has ls 1 [(0, .ref (yE Y 0 i))] := hl
  refine lv_aload_n hx hb dX12_child_0 rfl (lv_at hl 0 rfl) ?_
  refine gx_get (D := D) (cl := gcl) (ci := 11) (v := .ref (aI s0.heap.size (kC C i))) (C := RX12) (T := TX12) (N := 5) hx hb hts in_X12 hown hK (hR.lin i hi) rfl 1 (by decide) (hts _ q691) (fun _ h9 => h9) rfl dX12_child_1 ?_
  exact W.aret hx hb hr (Or.inl ⟨_, rfl⟩) (Or.inr ⟨_, rfl⟩) (fun t ht hW => ⟨rfl, ht⟩) hL dX12_child_4
set_option maxHeartbeats 4000000 in
set_option maxRecDepth 100000 in
/-- Turn.rank -/
theorem ct_X10_rank {l : Launch} {s0 : State} {D : va_G} {DA : Nat → ClassId} {z0 : Nat} {Y : YS} {C : CS} {M : MS} {o : Int64} {H : Heap} (hE : G0 l s0 D DA z0) (hR : GRb s0.heap.size s0.heap D DA z0 Y C M o H) {k : Nat} (hk : k < 12) : Met l yX10_rank (ws_ yX10_rank cX10_rank 1 (some .int)) ({ frames := 0, cells := 0, slots := 0, locals := 0 }) (cP s0 [.ref (aT s0.heap.size k)] H) (cQv (.int (q_rank C k)) (fun H1 => H1 = H)) 0 0 (cF s0) := by
  refine Met.ofW (cc := cX10_rank) (maxL := 1) (ret := (some .int)) (by decide) rfl ?_
  intro p e s m args below meth c s₁ Bd hml hv
  obtain ⟨rfl, rfl, hW0⟩ := hv
  have hx := Bd.exec
  have hb := Bd.bytes
  have hr := Bd.returns
  have hts := atoms_spec (ws := (ws_ yX10_rank cX10_rank 1 (some .int))) Bd.pre
  have hts : ∀ w ∈ lw_all, w.before _ s = true := fun w h => hts w (List.mem_cons_of_mem _ h)
  have hown : s.vm.findClass RX10 = some m.cls := findClass_of_methodNamed Bd.named
  have hlocks := Bd.notSynchronized
  have hK := va_K.moved hW0.alike hE.K
  have hL : gx_L s0.heap.size ([] : List Loc) := gx_L0
  have hl := lv_entry ([.ref (aT s0.heap.size k)]) (n := 1) (Nat.le_of_ble_eq_true rfl)
  rw [lg_entry_eq]
  generalize (lg_sl ([.ref (aT s0.heap.size k)]) ++ List.replicate (1 - (lg_sl ([.ref (aT s0.heap.size k)])).length) Slot.unset).toArray = ls at hl ⊢
  have hl : lv_has ls 1 [(0, .ref (aT s0.heap.size k))] := hl
  refine lv_bipush (v := 12) hx hb dX10_rank_0 (by decide) ?_
  refine lv_aload_n hx hb dX10_rank_2 rfl (lv_at hl 0 rfl) ?_
  refine gx_get (D := D) (cl := gcl) (ci := 9) (v := .ref (aI s0.heap.size k)) (C := RX10) (T := TX10) (N := 1) hx hb hts in_X10 hown hK (hR.tur k hk) rfl 0 (by decide) (hts _ q268) (fun _ h9 => h9) rfl dX10_rank_3 ?_
  refine gx_getN (D := D) (cl := gcl) (ci := 8) (v := .int (kI C 11 k)) (C := RX9) (T := TX9) (N := 19) hx hb hts in_X9 hown hK (hR.itm k hk) rfl 11 (by decide) (hE.nF hW0 q206) (fun _ h9 => h9) rfl dX10_rank_6 ?_
  refine lv_imul hx hb dX10_rank_9 ?_
  refine lv_aload_n hx hb dX10_rank_10 rfl (lv_at hl 0 rfl) ?_
  refine gx_get (D := D) (cl := gcl) (ci := 9) (v := .ref (aI s0.heap.size k)) (C := RX10) (T := TX10) (N := 1) hx hb hts in_X10 hown hK (hR.tur k hk) rfl 0 (by decide) (hts _ q268) (fun _ h9 => h9) rfl dX10_rank_11 ?_
  refine gx_getN (D := D) (cl := gcl) (ci := 8) (v := .int (nI k)) (C := RX9) (T := TX9) (N := 19) hx hb hts in_X9 hown hK (hR.itm k hk) rfl 0 (by decide) (hE.nF hW0 q186) (fun _ h9 => h9) rfl dX10_rank_14 ?_
  refine lv_iadd hx hb dX10_rank_17 ?_
  exact W.iret (v := ((12 * (kI C 11 k)) + (nI k))) hx hb hr (fun t ht hW => ⟨rfl, ht⟩) hL dX10_rank_18
set_option maxHeartbeats 4000000 in
set_option maxRecDepth 100000 in
/-- Turn.whose -/
theorem ct_X10_whose {l : Launch} {s0 : State} {D : va_G} {DA : Nat → ClassId} {z0 : Nat} {Y : YS} {C : CS} {M : MS} {o : Int64} {H : Heap} (hE : G0 l s0 D DA z0) (hR : GRb s0.heap.size s0.heap D DA z0 Y C M o H) {k : Nat} (hk : k < 12) : Met l yX10_whose (ws_ yX10_whose cX10_whose 1 (some (.object "NettedPlans$Item"))) ({ frames := 0, cells := 0, slots := 0, locals := 0 }) (cP s0 [.ref (aT s0.heap.size k)] H) (cQv (.ref (aI s0.heap.size k)) (fun H1 => H1 = H)) 0 0 (cF s0) := by
  refine Met.ofW (cc := cX10_whose) (maxL := 1) (ret := (some (.object "NettedPlans$Item"))) (by decide) rfl ?_
  intro p e s m args below meth c s₁ Bd hml hv
  obtain ⟨rfl, rfl, hW0⟩ := hv
  have hx := Bd.exec
  have hb := Bd.bytes
  have hr := Bd.returns
  have hts := atoms_spec (ws := (ws_ yX10_whose cX10_whose 1 (some (.object "NettedPlans$Item")))) Bd.pre
  have hts : ∀ w ∈ lw_all, w.before _ s = true := fun w h => hts w (List.mem_cons_of_mem _ h)
  have hown : s.vm.findClass RX10 = some m.cls := findClass_of_methodNamed Bd.named
  have hlocks := Bd.notSynchronized
  have hK := va_K.moved hW0.alike hE.K
  have hL : gx_L s0.heap.size ([] : List Loc) := gx_L0
  have hl := lv_entry ([.ref (aT s0.heap.size k)]) (n := 1) (Nat.le_of_ble_eq_true rfl)
  rw [lg_entry_eq]
  generalize (lg_sl ([.ref (aT s0.heap.size k)]) ++ List.replicate (1 - (lg_sl ([.ref (aT s0.heap.size k)])).length) Slot.unset).toArray = ls at hl ⊢
  have hl : lv_has ls 1 [(0, .ref (aT s0.heap.size k))] := hl
  refine lv_aload_n hx hb dX10_whose_0 rfl (lv_at hl 0 rfl) ?_
  refine gx_get (D := D) (cl := gcl) (ci := 9) (v := .ref (aI s0.heap.size k)) (C := RX10) (T := TX10) (N := 1) hx hb hts in_X10 hown hK (hR.tur k hk) rfl 0 (by decide) (hts _ q268) (fun _ h9 => h9) rfl dX10_whose_1 ?_
  exact W.aret hx hb hr (Or.inl ⟨_, rfl⟩) (Or.inr ⟨_, rfl⟩) (fun t ht hW => ⟨rfl, ht⟩) hL dX10_whose_4
set_option maxHeartbeats 4000000 in
set_option maxRecDepth 100000 in
/-- Item.growth -/
theorem ct_X9_growth {l : Launch} {s0 : State} {D : va_G} {DA : Nat → ClassId} {z0 : Nat} {Y : YS} {C : CS} {M : MS} {o : Int64} {H : Heap} (hE : G0 l s0 D DA z0) (hR : GRb s0.heap.size s0.heap D DA z0 Y C M o H) {k wk : Nat} (hk : k < 12) (hw : wk < 12) : Met l yX9_growth (ws_ yX9_growth cX9_growth 2 (some .long)) ({ frames := 0, cells := 0, slots := 0, locals := 0 }) (cP s0 [.ref (aI s0.heap.size k), .int (nI wk)] H) (cQv (.long (kA C 2 k (wk + 1) - kA C 2 k wk)) (fun H1 => H1 = H)) 0 0 (cF s0) := by
  refine Met.ofW (cc := cX9_growth) (maxL := 2) (ret := (some .long)) (by decide) rfl ?_
  intro p e s m args below meth c s₁ Bd hml hv
  obtain ⟨rfl, rfl, hW0⟩ := hv
  have hx := Bd.exec
  have hb := Bd.bytes
  have hr := Bd.returns
  have hts := atoms_spec (ws := (ws_ yX9_growth cX9_growth 2 (some .long))) Bd.pre
  have hts : ∀ w ∈ lw_all, w.before _ s = true := fun w h => hts w (List.mem_cons_of_mem _ h)
  have hown : s.vm.findClass RX9 = some m.cls := findClass_of_methodNamed Bd.named
  have hlocks := Bd.notSynchronized
  have hK := va_K.moved hW0.alike hE.K
  have hL : gx_L s0.heap.size ([] : List Loc) := gx_L0
  have hl := lv_entry ([.ref (aI s0.heap.size k), .int (nI wk)]) (n := 2) (Nat.le_of_ble_eq_true rfl)
  rw [lg_entry_eq]
  generalize (lg_sl ([.ref (aI s0.heap.size k), .int (nI wk)]) ++ List.replicate (2 - (lg_sl ([.ref (aI s0.heap.size k), .int (nI wk)])).length) Slot.unset).toArray = ls at hl ⊢
  have hl : lv_has ls 2 [(0, .ref (aI s0.heap.size k)), (1, .int (nI wk))] := hl
  refine lv_aload_n hx hb dX9_growth_0 rfl (lv_at hl 0 rfl) ?_
  refine gx_get (D := D) (cl := gcl) (ci := 8) (v := .ref (aA s0.heap.size 2 k)) (C := RX9) (T := TX9) (N := 19) hx hb hts in_X9 hown hK (hR.itm k hk) rfl 16 (by decide) (hts _ q214) (fun _ h9 => h9) rfl dX9_growth_1 ?_
  refine lv_iload_n hx hb dX9_growth_4 rfl (lv_at hl 1 rfl) ?_
  refine lv_iconst (v := 1) hx hb dX9_growth_5 (by decide) ?_
  refine lv_iadd hx hb dX9_growth_6 ?_
  refine gx_ti (nI (wk + 1)) (nI_add wk 1) ?_
  refine gx_lald (n := 13) hx hb hK 0 (hR.arr 2 k (by decide) hk) rfl (wk + 1) (rfl) (by omega) (by decide) dX9_growth_7 ?_
  refine lv_aload_n hx hb dX9_growth_8 rfl (lv_at hl 0 rfl) ?_
  refine gx_get (D := D) (cl := gcl) (ci := 8) (v := .ref (aA s0.heap.size 2 k)) (C := RX9) (T := TX9) (N := 19) hx hb hts in_X9 hown hK (hR.itm k hk) rfl 16 (by decide) (hts _ q214) (fun _ h9 => h9) rfl dX9_growth_9 ?_
  refine lv_iload_n hx hb dX9_growth_12 rfl (lv_at hl 1 rfl) ?_
  refine gx_lald (n := 13) hx hb hK 0 (hR.arr 2 k (by decide) hk) rfl wk (rfl) (by omega) (by decide) dX9_growth_13 ?_
  refine lv_lsub hx hb dX9_growth_14 ?_
  exact W.lret (v := ((kA C 2 k (wk + 1)) - (kA C 2 k wk))) hx hb hr (fun t ht hW => ⟨rfl, ht⟩) hL dX9_growth_15
set_option maxHeartbeats 4000000 in
set_option maxRecDepth 100000 in
/-- Item.need -/
theorem ct_X9_need {l : Launch} {s0 : State} {D : va_G} {DA : Nat → ClassId} {z0 : Nat} {Y : YS} {C : CS} {M : MS} {o : Int64} {H : Heap} (hE : G0 l s0 D DA z0) (hR : GRb s0.heap.size s0.heap D DA z0 Y C M o H) {k wk : Nat} (hk : k < 12) (hw : wk < 12) : Met l yX9_need (ws_ yX9_need cX9_need 2 (some .long)) ({ frames := 0, cells := 0, slots := 0, locals := 0 }) (cP s0 [.ref (aI s0.heap.size k), .int (nI wk)] H) (cQv (.long (kA C 2 k (wk + 1))) (fun H1 => H1 = H)) 0 0 (cF s0) := by
  refine Met.ofW (cc := cX9_need) (maxL := 2) (ret := (some .long)) (by decide) rfl ?_
  intro p e s m args below meth c s₁ Bd hml hv
  obtain ⟨rfl, rfl, hW0⟩ := hv
  have hx := Bd.exec
  have hb := Bd.bytes
  have hr := Bd.returns
  have hts := atoms_spec (ws := (ws_ yX9_need cX9_need 2 (some .long))) Bd.pre
  have hts : ∀ w ∈ lw_all, w.before _ s = true := fun w h => hts w (List.mem_cons_of_mem _ h)
  have hown : s.vm.findClass RX9 = some m.cls := findClass_of_methodNamed Bd.named
  have hlocks := Bd.notSynchronized
  have hK := va_K.moved hW0.alike hE.K
  have hL : gx_L s0.heap.size ([] : List Loc) := gx_L0
  have hl := lv_entry ([.ref (aI s0.heap.size k), .int (nI wk)]) (n := 2) (Nat.le_of_ble_eq_true rfl)
  rw [lg_entry_eq]
  generalize (lg_sl ([.ref (aI s0.heap.size k), .int (nI wk)]) ++ List.replicate (2 - (lg_sl ([.ref (aI s0.heap.size k), .int (nI wk)])).length) Slot.unset).toArray = ls at hl ⊢
  have hl : lv_has ls 2 [(0, .ref (aI s0.heap.size k)), (1, .int (nI wk))] := hl
  refine lv_aload_n hx hb dX9_need_0 rfl (lv_at hl 0 rfl) ?_
  refine gx_get (D := D) (cl := gcl) (ci := 8) (v := .ref (aA s0.heap.size 2 k)) (C := RX9) (T := TX9) (N := 19) hx hb hts in_X9 hown hK (hR.itm k hk) rfl 16 (by decide) (hts _ q214) (fun _ h9 => h9) rfl dX9_need_1 ?_
  refine lv_iload_n hx hb dX9_need_4 rfl (lv_at hl 1 rfl) ?_
  refine lv_iconst (v := 1) hx hb dX9_need_5 (by decide) ?_
  refine lv_iadd hx hb dX9_need_6 ?_
  refine gx_ti (nI (wk + 1)) (nI_add wk 1) ?_
  refine gx_lald (n := 13) hx hb hK 0 (hR.arr 2 k (by decide) hk) rfl (wk + 1) (rfl) (by omega) (by decide) dX9_need_7 ?_
  exact W.lret (v := (kA C 2 k (wk + 1))) hx hb hr (fun t ht hW => ⟨rfl, ht⟩) hL dX9_need_8
set_option maxHeartbeats 4000000 in
set_option maxRecDepth 100000 in
/-- Item.isShort -/
theorem ct_X9_isShort {l : Launch} {s0 : State} {D : va_G} {DA : Nat → ClassId} {z0 : Nat} {Y : YS} {C : CS} {M : MS} {o : Int64} {H : Heap} (hE : G0 l s0 D DA z0) (hR : GRb s0.heap.size s0.heap D DA z0 Y C M o H) {k : Nat} (hk : k < 12) : Met l yX9_isShort (ws_ yX9_isShort cX9_isShort 7 (some .boolean)) ({ frames := 0, cells := 0, slots := 0, locals := 0 }) (cP s0 [.ref (aI s0.heap.size k)] H) (cQv (.int (bZ (c_sh (kA C 4 k) 12))) (fun H1 => H1 = H)) 0 0 (cF s0) := by
  refine Met.ofW (cc := cX9_isShort) (maxL := 7) (ret := (some .boolean)) (by decide) rfl ?_
  intro p e s m args below meth c s₁ Bd hml hv
  obtain ⟨rfl, rfl, hW0⟩ := hv
  have hx := Bd.exec
  have hb := Bd.bytes
  have hr := Bd.returns
  have hts := atoms_spec (ws := (ws_ yX9_isShort cX9_isShort 7 (some .boolean))) Bd.pre
  have hts : ∀ w ∈ lw_all, w.before _ s = true := fun w h => hts w (List.mem_cons_of_mem _ h)
  have hown : s.vm.findClass RX9 = some m.cls := findClass_of_methodNamed Bd.named
  have hlocks := Bd.notSynchronized
  have hK := va_K.moved hW0.alike hE.K
  have hL : gx_L s0.heap.size ([] : List Loc) := gx_L0
  have hl := lv_entry ([.ref (aI s0.heap.size k)]) (n := 7) (Nat.le_of_ble_eq_true rfl)
  rw [lg_entry_eq]
  generalize (lg_sl ([.ref (aI s0.heap.size k)]) ++ List.replicate (7 - (lg_sl ([.ref (aI s0.heap.size k)])).length) Slot.unset).toArray = ls at hl ⊢
  have hl : lv_has ls 7 [(0, .ref (aI s0.heap.size k))] := hl
  have key : ∀ (n : Nat) (v : Nat) (locs : List Loc) (ls : Array Slot), v ≤ 12 → 12 < v + n → lv_has ls 7 [(1, .int (bZ (c_sh (kA C 4 k) v))), (2, .ref (aA s0.heap.size 4 k)), (3, .int (nI 12)), (4, .int (nI v))] → gx_L s0.heap.size locs → W p l e (headSpec (ws_ yX9_isShort cX9_isShort 7 (some .boolean)) ({ frames := 0, cells := 0, slots := 0, locals := 0 })).room s m ([.ref (aI s0.heap.size k)] : List Value).toArray below meth c s.heap locs 0 0 (MQ below (cQv (.int (bZ (c_sh (kA C 4 k) 12))) (fun H1 => H1 = s.heap)) ([.ref (aI s0.heap.size k)] : List Value).toArray s 0 0 (cF s0)) (F0 m 13 ls []) := by
    intro n
    induction n with
    | zero =>
      intro v locs ls hv hn hl hL
      omega
    | succ n ih =>
      intro v locs ls hv hn hl hL
      refine lv_iload hx hb dX9_isShort_13 (lv_at hl 3 rfl) ?_
      refine lv_iload_n hx hb dX9_isShort_15 rfl (lv_at hl 2 rfl) ?_
      refine lv_icmp_ge (tgt := 48) hx hb dX9_isShort_16 (by decide) (fun c16 => ?_) (fun c16 => ?_)
      · have hkc : v = 12 := by have := n_ge (b := 12) c16 (by omega) (by omega); omega
        refine lv_iload_n hx hb dX9_isShort_48 rfl (lv_at hl 0 rfl) ?_
        exact W.zret (v := (bZ (c_sh (kA C 4 k) v))) hx hb hr (bZ_n _) (fun t ht hW => ⟨ovI (by rw [hkc]), ht⟩) hL dX9_isShort_49
      · have hkc : v < 12 := by have := n_lt (b := 12) c16 (by omega) (by omega); omega
        refine lv_aload_n hx hb dX9_isShort_19 rfl (lv_at hl 1 rfl) ?_
        refine lv_iload hx hb dX9_isShort_20 (lv_at hl 3 rfl) ?_
        refine gx_lald (n := 12) hx hb hK 0 (hR.arr 4 k (by decide) hk) rfl v (rfl) (by omega) (by decide) dX9_isShort_22 ?_
        refine lv_lstore (lv' := [(5, .long (kA C 4 k v)), (1, .int (bZ (c_sh (kA C 4 k) v))), (2, .ref (aA s0.heap.size 4 k)), (3, .int (nI 12)), (4, .int (nI v))]) hx hb dX9_isShort_23 hl (by decide) rfl (fun ls hl => ?_)
        refine lv_iload_n hx hb dX9_isShort_25 rfl (lv_at hl 1 rfl) ?_
        refine lv_if_ne (tgt := 36) hx hb dX9_isShort_26 (by decide) (fun c26 => ?_) (fun c26 => ?_)
        · refine lv_iconst (v := 1) hx hb dX9_isShort_36 (by decide) ?_
          refine lv_goto (tgt := 41) hx hb dX9_isShort_37 (by decide) ?_
          refine gx_ti (bZ (c_sh (kA C 4 k) (v + 1))) ((bZ_t (by rw [c_sh, bZ_1.mp c26]; rfl)).symm) ?_
          refine lv_istore_n (lv' := [(1, .int (bZ (c_sh (kA C 4 k) (v + 1)))), (5, .long (kA C 4 k v)), (2, .ref (aA s0.heap.size 4 k)), (3, .int (nI 12)), (4, .int (nI v))]) hx hb dX9_isShort_41 rfl hl (by decide) rfl (fun ls hl => ?_)
          refine lv_iinc (v := nI (v + 1)) (lv' := [(4, .int (nI (v + 1))), (1, .int (bZ (c_sh (kA C 4 k) (v + 1)))), (5, .long (kA C 4 k v)), (2, .ref (aA s0.heap.size 4 k)), (3, .int (nI 12))]) hx hb dX9_isShort_42 hl (k := 4) rfl (nI_1 v) (by decide) rfl (fun ls hl => ?_)
          refine lv_goto (tgt := 13) hx hb dX9_isShort_45 (by decide) ?_
          exact ih (v + 1) _ _ (by omega) (by omega) (lv_sub hl [1, 3, 4, 0] rfl) hL
        · refine lv_lload hx hb dX9_isShort_29 (lv_at hl 0 rfl) ?_
          refine lv_lconst (v := 0) hx hb dX9_isShort_31 (by decide) ?_
          refine gx_lc_ge (tgt := 40) (pc1 := 33) hx hb rfl dX9_isShort_32 dX9_isShort_33 (by decide) (fun c33 => ?_) (fun c33 => ?_)
          · refine lv_iconst (v := 0) hx hb dX9_isShort_40 (by decide) ?_
            refine gx_ti (bZ (c_sh (kA C 4 k) (v + 1))) ((bZ_f (by rw [c_sh, bZ_0.mp c26, decide_eq_false (Int64.not_lt.mpr c33)]; rfl)).symm) ?_
            refine lv_istore_n (lv' := [(1, .int (bZ (c_sh (kA C 4 k) (v + 1)))), (5, .long (kA C 4 k v)), (2, .ref (aA s0.heap.size 4 k)), (3, .int (nI 12)), (4, .int (nI v))]) hx hb dX9_isShort_41 rfl hl (by decide) rfl (fun ls hl => ?_)
            refine lv_iinc (v := nI (v + 1)) (lv' := [(4, .int (nI (v + 1))), (1, .int (bZ (c_sh (kA C 4 k) (v + 1)))), (5, .long (kA C 4 k v)), (2, .ref (aA s0.heap.size 4 k)), (3, .int (nI 12))]) hx hb dX9_isShort_42 hl (k := 4) rfl (nI_1 v) (by decide) rfl (fun ls hl => ?_)
            refine lv_goto (tgt := 13) hx hb dX9_isShort_45 (by decide) ?_
            exact ih (v + 1) _ _ (by omega) (by omega) (lv_sub hl [1, 3, 4, 0] rfl) hL
          · refine lv_iconst (v := 1) hx hb dX9_isShort_36 (by decide) ?_
            refine lv_goto (tgt := 41) hx hb dX9_isShort_37 (by decide) ?_
            refine gx_ti (bZ (c_sh (kA C 4 k) (v + 1))) ((bZ_t (by rw [c_sh, decide_eq_true (l_nle c33), Bool.or_true])).symm) ?_
            refine lv_istore_n (lv' := [(1, .int (bZ (c_sh (kA C 4 k) (v + 1)))), (5, .long (kA C 4 k v)), (2, .ref (aA s0.heap.size 4 k)), (3, .int (nI 12)), (4, .int (nI v))]) hx hb dX9_isShort_41 rfl hl (by decide) rfl (fun ls hl => ?_)
            refine lv_iinc (v := nI (v + 1)) (lv' := [(4, .int (nI (v + 1))), (1, .int (bZ (c_sh (kA C 4 k) (v + 1)))), (5, .long (kA C 4 k v)), (2, .ref (aA s0.heap.size 4 k)), (3, .int (nI 12))]) hx hb dX9_isShort_42 hl (k := 4) rfl (nI_1 v) (by decide) rfl (fun ls hl => ?_)
            refine lv_goto (tgt := 13) hx hb dX9_isShort_45 (by decide) ?_
            exact ih (v + 1) _ _ (by omega) (by omega) (lv_sub hl [1, 3, 4, 0] rfl) hL
  refine lv_iconst (v := 0) hx hb dX9_isShort_0 (by decide) ?_
  refine gx_ti (bZ (c_sh (kA C 4 k) 0)) (rfl) ?_
  refine lv_istore_n (lv' := [(1, .int (bZ (c_sh (kA C 4 k) 0))), (0, .ref (aI s0.heap.size k))]) hx hb dX9_isShort_1 rfl hl (by decide) rfl (fun ls hl => ?_)
  refine lv_aload_n hx hb dX9_isShort_2 rfl (lv_at hl 1 rfl) ?_
  refine gx_get (D := D) (cl := gcl) (ci := 8) (v := .ref (aA s0.heap.size 4 k)) (C := RX9) (T := TX9) (N := 19) hx hb hts in_X9 hown hK (hR.itm k hk) rfl 18 (by decide) (hts _ q219) (fun _ h9 => h9) rfl dX9_isShort_3 ?_
  refine lv_astore_n (lv' := [(2, .ref (aA s0.heap.size 4 k)), (1, .int (bZ (c_sh (kA C 4 k) 0))), (0, .ref (aI s0.heap.size k))]) hx hb dX9_isShort_6 rfl hl (by decide) rfl (fun ls hl => ?_)
  refine lv_aload_n hx hb dX9_isShort_7 rfl (lv_at hl 0 rfl) ?_
  refine gx_alen hx hb hK 0 (hR.arr 4 k (by decide) hk) rfl dX9_isShort_8 ?_
  refine gx_ti (nI 12) rfl ?_
  refine lv_istore_n (lv' := [(3, .int (nI 12)), (2, .ref (aA s0.heap.size 4 k)), (1, .int (bZ (c_sh (kA C 4 k) 0))), (0, .ref (aI s0.heap.size k))]) hx hb dX9_isShort_9 rfl hl (by decide) rfl (fun ls hl => ?_)
  refine lv_iconst (v := 0) hx hb dX9_isShort_10 (by decide) ?_
  refine gx_ti (nI 0) (by decide) ?_
  refine lv_istore (lv' := [(4, .int (nI 0)), (3, .int (nI 12)), (2, .ref (aA s0.heap.size 4 k)), (1, .int (bZ (c_sh (kA C 4 k) 0))), (0, .ref (aI s0.heap.size k))]) hx hb dX9_isShort_11 hl (by decide) rfl (fun ls hl => ?_)
  exact key 13 0 _ _ (by omega) (by omega) (lv_sub hl [3, 2, 1, 0] rfl) hL
