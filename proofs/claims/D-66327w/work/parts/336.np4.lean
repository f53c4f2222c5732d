set_option maxHeartbeats 4000000 in
set_option maxRecDepth 100000 in
/-- suppliedBefore -/
theorem ct_X1_suppliedBefore {l : Launch} {s0 : State} {D : va_G} {DA : Nat → ClassId} {z0 : Nat} {Y : YS} {C : CS} {M : MS} {o : Int64} {H : Heap} (hE : G0 l s0 D DA z0) (hR : GRb s0.heap.size s0.heap D DA z0 Y C M o H) {k wk : Nat} (hk : k < 12) (hw : wk < 12) : Met l yX1_suppliedBefore (ws_ yX1_suppliedBefore cX1_suppliedBefore 6 (some .long)) ({ frames := 4, cells := 0, slots := 0, locals := 89 }) (cP s0 [.ref s0.heap.size, .ref (aI s0.heap.size k), .int (nI wk)] H) (cQv (.long (c_sp C k wk)) (fun H1 => H1 = H)) 0 0 (cF s0) := by
  refine Met.ofW (cc := cX1_suppliedBefore) (maxL := 6) (ret := (some .long)) (by decide) rfl ?_
  intro p e s m args below meth c s₁ Bd hml hv
  obtain ⟨rfl, rfl, hW0⟩ := hv
  have hx := Bd.exec
  have hb := Bd.bytes
  have hr := Bd.returns
  have hts := atoms_spec (ws := (ws_ yX1_suppliedBefore cX1_suppliedBefore 6 (some .long))) Bd.pre
  have hts : ∀ w ∈ lw_all, w.before _ s = true := fun w h => hts w (List.mem_cons_of_mem _ h)
  have hown : s.vm.findClass RX1 = some m.cls := findClass_of_methodNamed Bd.named
  have hlocks := Bd.notSynchronized
  have hK := va_K.moved hW0.alike hE.K
  have hL : gx_L s0.heap.size ([] : List Loc) := gx_L0
  have hl := lv_entry ([.ref s0.heap.size, .ref (aI s0.heap.size k), .int (nI wk)]) (n := 6) (Nat.le_of_ble_eq_true rfl)
  rw [lg_entry_eq]
  generalize (lg_sl ([.ref s0.heap.size, .ref (aI s0.heap.size k), .int (nI wk)]) ++ List.replicate (6 - (lg_sl ([.ref s0.heap.size, .ref (aI s0.heap.size k), .int (nI wk)])).length) Slot.unset).toArray = ls at hl ⊢
  have hl : lv_has ls 6 [(0, .ref s0.heap.size), (1, .ref (aI s0.heap.size k)), (2, .int (nI wk))] := hl
  have key : ∀ (n : Nat) (v : Nat) (locs : List Loc) (ls : Array Slot), v ≤ wk → wk < v + n → lv_has ls 6 [(3, .long (c_sp C k v)), (5, .int (nI v)), (0, .ref s0.heap.size), (1, .ref (aI s0.heap.size k)), (2, .int (nI wk))] → gx_L s0.heap.size locs → W p l e (headSpec (ws_ yX1_suppliedBefore cX1_suppliedBefore 6 (some .long)) ({ frames := 4, cells := 0, slots := 0, locals := 89 })).room s m ([.ref s0.heap.size, .ref (aI s0.heap.size k), .int (nI wk)] : List Value).toArray below meth c s.heap locs 0 0 (MQ below (cQv (.long (c_sp C k wk)) (fun H1 => H1 = s.heap)) ([.ref s0.heap.size, .ref (aI s0.heap.size k), .int (nI wk)] : List Value).toArray s 0 0 (cF s0)) (F0 m 9 ls []) := by
    intro n
    induction n with
    | zero =>
      intro v locs ls hv hn hl hL
      omega
    | succ n ih =>
      intro v locs ls hv hn hl hL
      refine lv_iload hx hb dX1_suppliedBefore_9 (lv_at hl 1 rfl) ?_
      refine lv_iload_n hx hb dX1_suppliedBefore_11 rfl (lv_at hl 4 rfl) ?_
      refine lv_icmp_ge (tgt := 45) hx hb dX1_suppliedBefore_12 (by decide) (fun c12 => ?_) (fun c12 => ?_)
      · have hkc : v = wk := by have := n_ge c12 (by omega) (by omega); omega
        refine lv_lload_n hx hb dX1_suppliedBefore_45 rfl (lv_at hl 0 rfl) ?_
        exact W.lret (v := (c_sp C k v)) hx hb hr (fun t ht hW => ⟨ovJ (by rw [hkc]), ht⟩) hL dX1_suppliedBefore_46
      · have hkc : v < wk := n_lt c12 (by omega) (by omega)
        refine lv_lload_n hx hb dX1_suppliedBefore_15 rfl (lv_at hl 0 rfl) ?_
        refine lv_aload_n hx hb dX1_suppliedBefore_16 rfl (lv_at hl 2 rfl) ?_
        refine gx_get (D := D) (cl := gcl) (ci := 0) (v := .ref (aB s0.heap.size 2)) (C := RX1) (T := TX1) (N := 10) hx hb hts in_X1 hown hK hR.np rfl 3 (by decide) (hts _ q275) (fun _ h9 => h9) rfl dX1_suppliedBefore_17 ?_
        refine lv_aload_n hx hb dX1_suppliedBefore_20 rfl (lv_at hl 3 rfl) ?_
        refine gx_getN (D := D) (cl := gcl) (ci := 8) (v := .int (nI k)) (C := RX9) (T := TX9) (N := 19) hx hb hts in_X9 hown hK (hR.itm k hk) rfl 0 (by decide) (hE.nF hW0 q187) (fun _ h9 => h9) rfl dX1_suppliedBefore_21 ?_
        refine lv_iload hx hb dX1_suppliedBefore_24 (lv_at hl 1 rfl) ?_
        refine cc_v (va_runV (b := aB s0.heap.size 2) (As := [.int (nI k), .int (nI v)]) (rest := [.long (c_sp C k v)]) ⟨hx, hb, hml, hown, hts⟩ (ct_X2_sum (j := 2) hE hR (by decide) (by decide) (nI k) (nI v)) (cwV 2 hts (lw_V q448 q449 q450 q51 q451) rfl rfl rfl (by decide +kernel) ⟨Nat.le_of_ble_eq_true rfl, Nat.le_of_ble_eq_true rfl⟩) (cc_pV hW0 (cc_re hK (hR.bok 2 (by decide) (by decide)) (show gcl[2]? = _ from rfl))) rfl rfl hl.1 rfl (lv_room (Nat.le_of_ble_eq_true rfl)) dX1_suppliedBefore_26 ⟨Nat.le_of_ble_eq_true rfl, Nat.le_of_ble_eq_true rfl⟩) hL (fun H locs hP1 hL => ?_)
        subst hP1
        refine lv_aload_n hx hb dX1_suppliedBefore_29 rfl (lv_at hl 3 rfl) ?_
        refine gx_getN (D := D) (cl := gcl) (ci := 8) (v := .ref (aA s0.heap.size 3 k)) (C := RX9) (T := TX9) (N := 19) hx hb hts in_X9 hown hK (hR.itm k hk) rfl 17 (by decide) (hE.nF hW0 q218) (fun _ h9 => h9) rfl dX1_suppliedBefore_30 ?_
        refine lv_iload hx hb dX1_suppliedBefore_33 (lv_at hl 1 rfl) ?_
        refine gx_lald (n := 12) hx hb hK 0 (hR.arr 3 k (by decide) hk) rfl v (rfl) (by omega) (by decide) dX1_suppliedBefore_35 ?_
        refine lv_ladd hx hb dX1_suppliedBefore_36 ?_
        refine lv_ladd hx hb dX1_suppliedBefore_37 ?_
        refine gx_tl (c_sp C k (v + 1)) (rfl) ?_
        refine lv_lstore_n (lv' := [(3, .long (c_sp C k (v + 1))), (5, .int (nI v)), (0, .ref s0.heap.size), (1, .ref (aI s0.heap.size k)), (2, .int (nI wk))]) hx hb dX1_suppliedBefore_38 rfl hl (by decide) rfl (fun ls hl => ?_)
        refine lv_iinc (v := nI (v + 1)) (lv' := [(5, .int (nI (v + 1))), (3, .long (c_sp C k (v + 1))), (0, .ref s0.heap.size), (1, .ref (aI s0.heap.size k)), (2, .int (nI wk))]) hx hb dX1_suppliedBefore_39 hl (k := 1) rfl (nI_1 v) (by decide) rfl (fun ls hl => ?_)
        refine lv_goto (tgt := 9) hx hb dX1_suppliedBefore_42 (by decide) ?_
        exact ih (v + 1) _ _ (by omega) (by omega) (lv_sub hl [1, 0, 2, 3, 4] rfl) hL
  refine lv_aload_n hx hb dX1_suppliedBefore_0 rfl (lv_at hl 1 rfl) ?_
  refine gx_getN (D := D) (cl := gcl) (ci := 8) (v := .int (kI C 8 k)) (C := RX9) (T := TX9) (N := 19) hx hb hts in_X9 hown hK (hR.itm k hk) rfl 8 (by decide) (hE.nF hW0 q203) (fun _ h9 => h9) rfl dX1_suppliedBefore_1 ?_
  refine lv_i2l (v := (kI C 8 k).toInt64) hx hb dX1_suppliedBefore_4 rfl ?_
  refine gx_tl (c_sp C k 0) (rfl) ?_
  refine lv_lstore_n (lv' := [(3, .long (c_sp C k 0)), (0, .ref s0.heap.size), (1, .ref (aI s0.heap.size k)), (2, .int (nI wk))]) hx hb dX1_suppliedBefore_5 rfl hl (by decide) rfl (fun ls hl => ?_)
  refine lv_iconst (v := 0) hx hb dX1_suppliedBefore_6 (by decide) ?_
  refine gx_ti (nI 0) (by decide) ?_
  refine lv_istore (lv' := [(5, .int (nI 0)), (3, .long (c_sp C k 0)), (0, .ref s0.heap.size), (1, .ref (aI s0.heap.size k)), (2, .int (nI wk))]) hx hb dX1_suppliedBefore_7 hl (by decide) rfl (fun ls hl => ?_)
  exact key (wk + 1) 0 _ _ (by omega) (by omega) (lv_sub hl [1, 0, 2, 3, 4] rfl) hL
set_option maxHeartbeats 4000000 in
set_option maxRecDepth 100000 in
/-- claimedBefore -/
theorem ct_X1_claimedBefore {l : Launch} {s0 : State} {D : va_G} {DA : Nat → ClassId} {z0 : Nat} {Y : YS} {C : CS} {M : MS} {o : Int64} {H : Heap} (hE : G0 l s0 D DA z0) (hR : GRb s0.heap.size s0.heap D DA z0 Y C M o H) {k wk : Nat} (hk : k < 12) (hw : wk < 12) : Met l yX1_claimedBefore (ws_ yX1_claimedBefore cX1_claimedBefore 6 (some .long)) ({ frames := 0, cells := 0, slots := 0, locals := 0 }) (cP s0 [.ref s0.heap.size, .ref (aI s0.heap.size k), .int (nI wk)] H) (cQv (.long (c_cb C k wk)) (fun H1 => H1 = H)) 0 0 (cF s0) := by
  refine Met.ofW (cc := cX1_claimedBefore) (maxL := 6) (ret := (some .long)) (by decide) rfl ?_
  intro p e s m args below meth c s₁ Bd hml hv
  obtain ⟨rfl, rfl, hW0⟩ := hv
  have hx := Bd.exec
  have hb := Bd.bytes
  have hr := Bd.returns
  have hts := atoms_spec (ws := (ws_ yX1_claimedBefore cX1_claimedBefore 6 (some .long))) Bd.pre
  have hts : ∀ w ∈ lw_all, w.before _ s = true := fun w h => hts w (List.mem_cons_of_mem _ h)
  have hown : s.vm.findClass RX1 = some m.cls := findClass_of_methodNamed Bd.named
  have hlocks := Bd.notSynchronized
  have hK := va_K.moved hW0.alike hE.K
  have hL : gx_L s0.heap.size ([] : List Loc) := gx_L0
  have hl := lv_entry ([.ref s0.heap.size, .ref (aI s0.heap.size k), .int (nI wk)]) (n := 6) (Nat.le_of_ble_eq_true rfl)
  rw [lg_entry_eq]
  generalize (lg_sl ([.ref s0.heap.size, .ref (aI s0.heap.size k), .int (nI wk)]) ++ List.replicate (6 - (lg_sl ([.ref s0.heap.size, .ref (aI s0.heap.size k), .int (nI wk)])).length) Slot.unset).toArray = ls at hl ⊢
  have hl : lv_has ls 6 [(0, .ref s0.heap.size), (1, .ref (aI s0.heap.size k)), (2, .int (nI wk))] := hl
  have key : ∀ (n : Nat) (v : Nat) (locs : List Loc) (ls : Array Slot), v ≤ wk → wk < v + n → lv_has ls 6 [(3, .long (c_cb C k v)), (5, .int (nI v)), (1, .ref (aI s0.heap.size k)), (2, .int (nI wk))] → gx_L s0.heap.size locs → W p l e (headSpec (ws_ yX1_claimedBefore cX1_claimedBefore 6 (some .long)) ({ frames := 0, cells := 0, slots := 0, locals := 0 })).room s m ([.ref s0.heap.size, .ref (aI s0.heap.size k), .int (nI wk)] : List Value).toArray below meth c s.heap locs 0 0 (MQ below (cQv (.long (c_cb C k wk)) (fun H1 => H1 = s.heap)) ([.ref s0.heap.size, .ref (aI s0.heap.size k), .int (nI wk)] : List Value).toArray s 0 0 (cF s0)) (F0 m 5 ls []) := by
    intro n
    induction n with
    | zero =>
      intro v locs ls hv hn hl hL
      omega
    | succ n ih =>
      intro v locs ls hv hn hl hL
      refine lv_iload hx hb dX1_claimedBefore_5 (lv_at hl 1 rfl) ?_
      refine lv_iload_n hx hb dX1_claimedBefore_7 rfl (lv_at hl 3 rfl) ?_
      refine lv_icmp_ge (tgt := 27) hx hb dX1_claimedBefore_8 (by decide) (fun c8 => ?_) (fun c8 => ?_)
      · have hkc : v = wk := by have := n_ge c8 (by omega) (by omega); omega
        refine lv_lload_n hx hb dX1_claimedBefore_27 rfl (lv_at hl 0 rfl) ?_
        exact W.lret (v := (c_cb C k v)) hx hb hr (fun t ht hW => ⟨ovJ (by rw [hkc]), ht⟩) hL dX1_claimedBefore_28
      · have hkc : v < wk := n_lt c8 (by omega) (by omega)
        refine lv_lload_n hx hb dX1_claimedBefore_11 rfl (lv_at hl 0 rfl) ?_
        refine lv_aload_n hx hb dX1_claimedBefore_12 rfl (lv_at hl 2 rfl) ?_
        refine gx_getN (D := D) (cl := gcl) (ci := 8) (v := .ref (aA s0.heap.size 0 k)) (C := RX9) (T := TX9) (N := 19) hx hb hts in_X9 hown hK (hR.itm k hk) rfl 14 (by decide) (hE.nF hW0 q212) (fun _ h9 => h9) rfl dX1_claimedBefore_13 ?_
        refine lv_iload hx hb dX1_claimedBefore_16 (lv_at hl 1 rfl) ?_
        refine gx_lald (n := 12) hx hb hK 0 (hR.arr 0 k (by decide) hk) rfl v (rfl) (by omega) (by decide) dX1_claimedBefore_18 ?_
        refine lv_ladd hx hb dX1_claimedBefore_19 ?_
        refine gx_tl (c_cb C k (v + 1)) (rfl) ?_
        refine lv_lstore_n (lv' := [(3, .long (c_cb C k (v + 1))), (5, .int (nI v)), (1, .ref (aI s0.heap.size k)), (2, .int (nI wk))]) hx hb dX1_claimedBefore_20 rfl hl (by decide) rfl (fun ls hl => ?_)
        refine lv_iinc (v := nI (v + 1)) (lv' := [(5, .int (nI (v + 1))), (3, .long (c_cb C k (v + 1))), (1, .ref (aI s0.heap.size k)), (2, .int (nI wk))]) hx hb dX1_claimedBefore_21 hl (k := 1) rfl (nI_1 v) (by decide) rfl (fun ls hl => ?_)
        refine lv_goto (tgt := 5) hx hb dX1_claimedBefore_24 (by decide) ?_
        exact ih (v + 1) _ _ (by omega) (by omega) (lv_sub hl [1, 0, 2, 3] rfl) hL
  refine lv_lconst (v := 0) hx hb dX1_claimedBefore_0 (by decide) ?_
  refine gx_tl (c_cb C k 0) (rfl) ?_
  refine lv_lstore_n (lv' := [(3, .long (c_cb C k 0)), (0, .ref s0.heap.size), (1, .ref (aI s0.heap.size k)), (2, .int (nI wk))]) hx hb dX1_claimedBefore_1 rfl hl (by decide) rfl (fun ls hl => ?_)
  refine lv_iconst (v := 0) hx hb dX1_claimedBefore_2 (by decide) ?_
  refine gx_ti (nI 0) (by decide) ?_
  refine lv_istore (lv' := [(5, .int (nI 0)), (3, .long (c_cb C k 0)), (0, .ref s0.heap.size), (1, .ref (aI s0.heap.size k)), (2, .int (nI wk))]) hx hb dX1_claimedBefore_3 hl (by decide) rfl (fun ls hl => ?_)
  exact key (wk + 1) 0 _ _ (by omega) (by omega) (lv_sub hl [1, 0, 3, 4] rfl) hL
set_option maxHeartbeats 4000000 in
set_option maxRecDepth 100000 in
/-- overlap -/
theorem ct_X1_overlap {l : Launch} {s0 : State} {D : va_G} {DA : Nat → ClassId} {z0 : Nat} {H : Heap} (hE : G0 l s0 D DA z0) (x y z u : Int64) : Met l yX1_overlap (ws_ yX1_overlap cX1_overlap 8 (some .long)) ({ frames := 1, cells := 0, slots := 0, locals := 19 }) (cP s0 [.long x, .long y, .long z, .long u] H) (cQv (.long (c_ov x y z u)) (fun H1 => H1 = H)) 0 0 (cF s0) := by
  refine Met.ofW (cc := cX1_overlap) (maxL := 8) (ret := (some .long)) (by decide) rfl ?_
  intro p e s m args below meth c s₁ Bd hml hv
  obtain ⟨rfl, rfl, hW0⟩ := hv
  have hx := Bd.exec
  have hb := Bd.bytes
  have hr := Bd.returns
  have hts := atoms_spec (ws := (ws_ yX1_overlap cX1_overlap 8 (some .long))) Bd.pre
  have hts : ∀ w ∈ lw_all, w.before _ s = true := fun w h => hts w (List.mem_cons_of_mem _ h)
  have hown : s.vm.findClass RX1 = some m.cls := findClass_of_methodNamed Bd.named
  have hlocks := Bd.notSynchronized
  have hK := va_K.moved hW0.alike hE.K
  have hL : gx_L s0.heap.size ([] : List Loc) := gx_L0
  have hl := lv_entry ([.long x, .long y, .long z, .long u]) (n := 8) (Nat.le_of_ble_eq_true rfl)
  rw [lg_entry_eq]
  generalize (lg_sl ([.long x, .long y, .long z, .long u]) ++ List.replicate (8 - (lg_sl ([.long x, .long y, .long z, .long u])).length) Slot.unset).toArray = ls at hl ⊢
  have hl : lv_has ls 8 [(0, .long x), (2, .long y), (4, .long z), (6, .long u)] := hl
  refine lv_lconst (v := 0) hx hb dX1_overlap_0 (by decide) ?_
  refine lv_lload_n hx hb dX1_overlap_1 rfl (lv_at hl 0 rfl) ?_
  refine lv_lload_n hx hb dX1_overlap_2 rfl (lv_at hl 1 rfl) ?_
  refine lv_ladd hx hb dX1_overlap_3 ?_
  refine lv_lload hx hb dX1_overlap_4 (lv_at hl 2 rfl) ?_
  refine lv_lload hx hb dX1_overlap_6 (lv_at hl 3 rfl) ?_
  refine lv_ladd hx hb dX1_overlap_8 ?_
  refine va_mmin_long hx hb (by rw [hml]; exact hl.1.symm) hown (hts _ q830) (hts _ q831) (hts _ q73) (hts _ q832) (Nat.le_of_ble_eq_true rfl) (Nat.le_of_ble_eq_true rfl) (Nat.le_of_ble_eq_true rfl) (Nat.le_of_ble_eq_true rfl) dX1_overlap_9 ?_
  refine lv_lload_n hx hb dX1_overlap_12 rfl (lv_at hl 0 rfl) ?_
  refine lv_lload hx hb dX1_overlap_13 (lv_at hl 2 rfl) ?_
  refine va_mmax_long hx hb (by rw [hml]; exact hl.1.symm) hown (hts _ q483) (hts _ q484) (hts _ q73) (hts _ q485) (Nat.le_of_ble_eq_true rfl) (Nat.le_of_ble_eq_true rfl) (Nat.le_of_ble_eq_true rfl) (Nat.le_of_ble_eq_true rfl) dX1_overlap_15 ?_
  refine lv_lsub hx hb dX1_overlap_18 ?_
  refine va_mmax_long hx hb (by rw [hml]; exact hl.1.symm) hown (hts _ q483) (hts _ q484) (hts _ q73) (hts _ q485) (Nat.le_of_ble_eq_true rfl) (Nat.le_of_ble_eq_true rfl) (Nat.le_of_ble_eq_true rfl) (Nat.le_of_ble_eq_true rfl) dX1_overlap_19 ?_
  exact W.lret (v := (if (if z + u < x + y then z + u else x + y) - (if z < x then x else z) < 0 then 0 else (if z + u < x + y then z + u else x + y) - (if z < x then x else z))) hx hb hr (fun t ht hW => ⟨rfl, ht⟩) hL dX1_overlap_22
set_option maxHeartbeats 4000000 in
set_option maxRecDepth 100000 in
/-- peg, stock -/
theorem ct_X1_peg_0 {l : Launch} {s0 : State} {D : va_G} {DA : Nat → ClassId} {z0 : Nat} {Y : YS} {C : CS} {M : MS} {o : Int64} {H : Heap} (hE : G0 l s0 D DA z0) (hR : GRb s0.heap.size s0.heap D DA z0 Y C M o H) {u a b : Nat} (hu : u < kN C 1) (ha : a < 12) (hea : kE C 1 u 0 = nI a) (hb2 : b < 12) (heb : kE C 1 u 1 = nI b) (h0 : kT C = 0) (x : Int32) : Met l yX1_peg (ws_ yX1_peg cX1_peg 9 (some .long)) ({ frames := 4, cells := 0, slots := 0, locals := 88 }) (cP s0 [.ref s0.heap.size, .int (nI u), .int 0, .int x] H) (cQv (.long (c_ov (c_pf C a b u) (kE C 1 u 2).toInt64 0 (kI C 8 a).toInt64)) (fun H1 => H1 = H)) 0 0 (cF s0) := by
  refine Met.ofW (cc := cX1_peg) (maxL := 9) (ret := (some .long)) (by decide) rfl ?_
  intro p e s m args below meth c s₁ Bd hml hv
  obtain ⟨rfl, rfl, hW0⟩ := hv
  have hx := Bd.exec
  have hb := Bd.bytes
  have hr := Bd.returns
  have hts := atoms_spec (ws := (ws_ yX1_peg cX1_peg 9 (some .long))) Bd.pre
  have hts : ∀ w ∈ lw_all, w.before _ s = true := fun w h => hts w (List.mem_cons_of_mem _ h)
  have hown : s.vm.findClass RX1 = some m.cls := findClass_of_methodNamed Bd.named
  have hlocks := Bd.notSynchronized
  have hK := va_K.moved hW0.alike hE.K
  have hL : gx_L s0.heap.size ([] : List Loc) := gx_L0
  have hl := lv_entry ([.ref s0.heap.size, .int (nI u), .int 0, .int x]) (n := 9) (Nat.le_of_ble_eq_true rfl)
  rw [lg_entry_eq]
  generalize (lg_sl ([.ref s0.heap.size, .int (nI u), .int 0, .int x]) ++ List.replicate (9 - (lg_sl ([.ref s0.heap.size, .int (nI u), .int 0, .int x])).length) Slot.unset).toArray = ls at hl ⊢
  have hl : lv_has ls 9 [(0, .ref s0.heap.size), (1, .int (nI u)), (2, .int 0), (3, .int x)] := hl
  refine lv_aload_n hx hb dX1_peg_0 rfl (lv_at hl 0 rfl) ?_
  refine gx_get (D := D) (cl := gcl) (ci := 0) (v := .ref (aB s0.heap.size 1)) (C := RX1) (T := TX1) (N := 10) hx hb hts in_X1 hown hK hR.np rfl 2 (by decide) (hts _ q274) (fun _ h9 => h9) rfl dX1_peg_1 ?_
  refine lv_iload_n hx hb dX1_peg_4 rfl (lv_at hl 1 rfl) ?_
  refine cc_v (va_runS (As := [.ref (aB s0.heap.size 1), .int (nI u)]) (rest := []) ⟨hx, hb, hml, hown, hts⟩ (ct_X1_entry (j := 1) (u := u) hE hR (by decide) (by decide) hu) (va_cwS 2 hts (lw_S q770 q771 q47 q772) rfl rfl rfl (by decide +kernel) ⟨Nat.le_of_ble_eq_true rfl, Nat.le_of_ble_eq_true rfl⟩) (cc_pS hW0) rfl rfl hl.1 rfl (lv_room (Nat.le_of_ble_eq_true rfl)) dX1_peg_5 ⟨Nat.le_of_ble_eq_true rfl, Nat.le_of_ble_eq_true rfl⟩) hL (fun H locs hP1 hL => ?_)
  subst hP1
  refine lv_astore (lv' := [(4, .ref (yE Y 1 u)), (0, .ref s0.heap.size), (1, .int (nI u)), (2, .int 0), (3, .int x)]) hx hb dX1_peg_8 hl (by decide) rfl (fun ls hl => ?_)
  refine lv_iload_n hx hb dX1_peg_10 rfl (lv_at hl 3 rfl) ?_
  refine lv_iconst (v := 0) hx hb dX1_peg_11 (by decide) ?_
  refine lv_iconst (v := 2) hx hb dX1_peg_12 (by decide) ?_
  refine cc_v (va_runS (As := [.int 0, .int 0, .int 2]) (rest := []) ⟨hx, hb, hml, hown, hts⟩ (ct_X1_isIn hE 0 0 2) (va_cwS 3 hts (lw_S q540 q541 q47 q542) rfl rfl rfl (by decide +kernel) ⟨Nat.le_of_ble_eq_true rfl, Nat.le_of_ble_eq_true rfl⟩) (cc_pS hW0) rfl rfl hl.1 rfl (lv_room (Nat.le_of_ble_eq_true rfl)) dX1_peg_13 ⟨Nat.le_of_ble_eq_true rfl, Nat.le_of_ble_eq_true rfl⟩) hL (fun H locs hP1 hL => ?_)
  subst hP1
  refine cc_0 (va_runS (As := [.int (bZ (inR 0 0 2))]) (rest := []) ⟨hx, hb, hml, hown, hts⟩ (ct_X1_argue hE (x := bZ (inR 0 0 2)) (by decide)) (va_cwS 1 hts (lw_S q609 q610 q47 q611) rfl rfl rfl (by decide +kernel) ⟨Nat.le_of_ble_eq_true rfl, Nat.le_of_ble_eq_true rfl⟩) (cc_pS hW0) rfl rfl hl.1 rfl (lv_room (Nat.le_of_ble_eq_true rfl)) dX1_peg_16 ⟨Nat.le_of_ble_eq_true rfl, Nat.le_of_ble_eq_true rfl⟩) hL (fun H locs hP1 hL => ?_)
  subst hP1
  refine lv_iload_n hx hb dX1_peg_19 rfl (lv_at hl 3 rfl) ?_
  refine lv_iconst (v := 1) hx hb dX1_peg_20 (by decide) ?_
  refine lv_icmp_ne (tgt := 33) hx hb dX1_peg_21 (by decide) (fun c21 => ?_) (fun c21 => ?_)
  · refine lv_iload_n hx hb dX1_peg_33 rfl (lv_at hl 3 rfl) ?_
    refine lv_iconst (v := 2) hx hb dX1_peg_34 (by decide) ?_
    refine lv_icmp_ne (tgt := 42) hx hb dX1_peg_35 (by decide) (fun c35 => ?_) (fun c35 => ?_)
    · refine lv_aload_n hx hb dX1_peg_42 rfl (lv_at hl 1 rfl) ?_
      refine gx_get (D := D) (cl := gcl) (ci := 0) (v := .int (kT C)) (C := RX1) (T := TX1) (N := 10) hx hb hts in_X1 hown hK hR.np rfl 8 (by decide) (hts _ q280) (fun _ h9 => h9) rfl dX1_peg_43 ?_
      refine lv_if_ne (tgt := 53) hx hb dX1_peg_46 (by decide) (fun c46 => ?_) (fun c46 => ?_)
      · exact absurd h0 c46
      · refine lv_iconst (v := 1) hx hb dX1_peg_49 (by decide) ?_
        refine lv_goto (tgt := 54) hx hb dX1_peg_50 (by decide) ?_
        refine cc_0 (va_runS (As := [.int 1]) (rest := []) ⟨hx, hb, hml, hown, hts⟩ (ct_X1_allow hE (x := 1) (by decide)) (va_cwS 1 hts (lw_S q666 q667 q47 q668) rfl rfl rfl (by decide +kernel) ⟨Nat.le_of_ble_eq_true rfl, Nat.le_of_ble_eq_true rfl⟩) (cc_pS hW0) rfl rfl hl.1 rfl (lv_room (Nat.le_of_ble_eq_true rfl)) dX1_peg_54 ⟨Nat.le_of_ble_eq_true rfl, Nat.le_of_ble_eq_true rfl⟩) hL (fun H locs hP1 hL => ?_)
        subst hP1
        refine lv_aload_n hx hb dX1_peg_57 rfl (lv_at hl 1 rfl) ?_
        refine gx_get (D := D) (cl := gcl) (ci := 0) (v := .ref (s0.heap.size + 1)) (C := RX1) (T := TX1) (N := 10) hx hb hts in_X1 hown hK hR.np rfl 0 (by decide) (hts _ q272) (fun _ h9 => h9) rfl dX1_peg_58 ?_
        refine lv_aload hx hb dX1_peg_61 (lv_at hl 0 rfl) ?_
        refine gx_getN (D := D) (cl := gcl) (ci := 12) (v := .int (kE C 1 u 0)) (C := RX13) (T := TX13) (N := 3) hx hb hts in_X13 hown hK (hR.ent 1 u (by decide) (by decide) hu) rfl 0 (by decide) (hE.nF hW0 q744) (fun _ h9 => h9) rfl dX1_peg_63 ?_
        refine gx_aald (x := aI s0.heap.size a) hx hb hK 3 hR.its rfl a (hea) (ha) (by decide) rfl dX1_peg_66 ?_
        refine lv_astore (lv' := [(5, .ref (aI s0.heap.size a)), (4, .ref (yE Y 1 u)), (0, .ref s0.heap.size), (1, .int (nI u)), (2, .int 0), (3, .int x)]) hx hb dX1_peg_67 hl (by decide) rfl (fun ls hl => ?_)
        refine lv_aload_n hx hb dX1_peg_69 rfl (lv_at hl 2 rfl) ?_
        refine lv_aload hx hb dX1_peg_70 (lv_at hl 0 rfl) ?_
        refine lv_aload hx hb dX1_peg_72 (lv_at hl 1 rfl) ?_
        refine gx_getN (D := D) (cl := gcl) (ci := 12) (v := .int (kE C 1 u 1)) (C := RX13) (T := TX13) (N := 3) hx hb hts in_X13 hown hK (hR.ent 1 u (by decide) (by decide) hu) rfl 1 (by decide) (hE.nF hW0 q747) (fun _ h9 => h9) rfl dX1_peg_74 ?_
        refine gx_ti (nI b) (heb) ?_
        refine cc_v (va_runV (b := s0.heap.size) (As := [.ref (aI s0.heap.size a), .int (nI b)]) (rest := []) ⟨hx, hb, hml, hown, hts⟩ (ct_X1_claimedBefore (k := a) (wk := b) hE hR ha hb2) (cwV 2 hts (lw_V q819 q821 qs20 q47 q822) rfl rfl rfl (by decide +kernel) ⟨Nat.le_of_ble_eq_true rfl, Nat.le_of_ble_eq_true rfl⟩) (cc_pV hW0 (cc_re hK hR.np (show gcl[0]? = _ from rfl))) rfl rfl hl.1 rfl (lv_room (Nat.le_of_ble_eq_true rfl)) dX1_peg_77 ⟨Nat.le_of_ble_eq_true rfl, Nat.le_of_ble_eq_true rfl⟩) hL (fun H locs hP1 hL => ?_)
        subst hP1
        refine lv_aload_n hx hb dX1_peg_80 rfl (lv_at hl 2 rfl) ?_
        refine gx_get (D := D) (cl := gcl) (ci := 0) (v := .ref (aB s0.heap.size 1)) (C := RX1) (T := TX1) (N := 10) hx hb hts in_X1 hown hK hR.np rfl 2 (by decide) (hts _ q274) (fun _ h9 => h9) rfl dX1_peg_81 ?_
        refine lv_iload_n hx hb dX1_peg_84 rfl (lv_at hl 3 rfl) ?_
        refine cc_v (va_runV (b := aB s0.heap.size 1) (As := [.int (nI u)]) (rest := [.long (c_cb C a b)]) ⟨hx, hb, hml, hown, hts⟩ (ct_X2_sumBefore (j := 1) hE hR (by decide) (by decide) hu) (cwV 1 hts (lw_V q823 q824 q825 q51 q826) rfl rfl rfl (by decide +kernel) ⟨Nat.le_of_ble_eq_true rfl, Nat.le_of_ble_eq_true rfl⟩) (cc_pV hW0 (cc_re hK (hR.bok 1 (by decide) (by decide)) (show gcl[2]? = _ from rfl))) rfl rfl hl.1 rfl (lv_room (Nat.le_of_ble_eq_true rfl)) dX1_peg_85 ⟨Nat.le_of_ble_eq_true rfl, Nat.le_of_ble_eq_true rfl⟩) hL (fun H locs hP1 hL => ?_)
        subst hP1
        refine lv_ladd hx hb dX1_peg_88 ?_
        refine gx_tl (c_pf C a b u) (rfl) ?_
        refine lv_lstore (lv' := [(6, .long (c_pf C a b u)), (5, .ref (aI s0.heap.size a)), (4, .ref (yE Y 1 u)), (0, .ref s0.heap.size), (1, .int (nI u)), (2, .int 0), (3, .int x)]) hx hb dX1_peg_89 hl (by decide) rfl (fun ls hl => ?_)
        refine lv_iload_n hx hb dX1_peg_91 rfl (lv_at hl 5 rfl) ?_
        refine lv_if_ne (tgt := 114) hx hb dX1_peg_92 (by decide) (fun c92 => ?_) (fun c92 => ?_)
        · exact c92 rfl |>.elim
        · refine lv_lload hx hb dX1_peg_95 (lv_at hl 0 rfl) ?_
          refine lv_aload hx hb dX1_peg_97 (lv_at hl 2 rfl) ?_
          refine gx_getN (D := D) (cl := gcl) (ci := 12) (v := .int (kE C 1 u 2)) (C := RX13) (T := TX13) (N := 3) hx hb hts in_X13 hown hK (hR.ent 1 u (by decide) (by decide) hu) rfl 2 (by decide) (hE.nF hW0 q750) (fun _ h9 => h9) rfl dX1_peg_99 ?_
          refine lv_i2l (v := (kE C 1 u 2).toInt64) hx hb dX1_peg_102 rfl ?_
          refine lv_lconst (v := 0) hx hb dX1_peg_103 (by decide) ?_
          refine lv_aload hx hb dX1_peg_104 (lv_at hl 1 rfl) ?_
          refine gx_getN (D := D) (cl := gcl) (ci := 8) (v := .int (kI C 8 a)) (C := RX9) (T := TX9) (N := 19) hx hb hts in_X9 hown hK (hR.itm a ha) rfl 8 (by decide) (hE.nF hW0 q203) (fun _ h9 => h9) rfl dX1_peg_106 ?_
          refine lv_i2l (v := (kI C 8 a).toInt64) hx hb dX1_peg_109 rfl ?_
          refine cc_v (va_runS (As := [.long (c_pf C a b u), .long ((kE C 1 u 2).toInt64), .long 0, .long ((kI C 8 a).toInt64)]) (rest := []) ⟨hx, hb, hml, hown, hts⟩ (ct_X1_overlap hE (c_pf C a b u) ((kE C 1 u 2).toInt64) 0 ((kI C 8 a).toInt64)) (va_cwS 4 hts (lw_S q827 q828 q47 q829) rfl rfl rfl (by decide +kernel) ⟨Nat.le_of_ble_eq_true rfl, Nat.le_of_ble_eq_true rfl⟩) (cc_pS hW0) rfl rfl hl.1 rfl (lv_room (Nat.le_of_ble_eq_true rfl)) dX1_peg_110 ⟨Nat.le_of_ble_eq_true rfl, Nat.le_of_ble_eq_true rfl⟩) hL (fun H locs hP1 hL => ?_)
          subst hP1
          exact W.lret (v := (c_ov (c_pf C a b u) ((kE C 1 u 2).toInt64) 0 ((kI C 8 a).toInt64))) hx hb hr (fun t ht hW => ⟨rfl, ht⟩) hL dX1_peg_113
    · exact absurd c35 (by decide)
  · exact absurd c21 (by decide)
set_option maxHeartbeats 4000000 in
set_option maxRecDepth 100000 in
/-- peg, plan -/
theorem ct_X1_peg_2 {l : Launch} {s0 : State} {D : va_G} {DA : Nat → ClassId} {z0 : Nat} {Y : YS} {C : CS} {M : MS} {o : Int64} {H : Heap} (hE : G0 l s0 D DA z0) (hR : GRb s0.heap.size s0.heap D DA z0 Y C M o H) {u a b : Nat} (hu : u < kN C 1) (ha : a < 12) (hea : kE C 1 u 0 = nI a) (hb2 : b < 12) (heb : kE C 1 u 1 = nI b) (h0 : kT C = 0) {v : Nat} (hv : v < 12) : Met l yX1_peg (ws_ yX1_peg cX1_peg 9 (some .long)) ({ frames := 5, cells := 0, slots := 0, locals := 114 }) (cP s0 [.ref s0.heap.size, .int (nI u), .int 2, .int (nI v)] H) (cQv (.long (c_ov (c_pf C a b u) (kE C 1 u 2).toInt64 (c_sp C a v + c_sum C 2 (nI a) (nI v) (kN C 2)) (kA C 3 a v))) (fun H1 => H1 = H)) 0 0 (cF s0) := by
  refine Met.ofW (cc := cX1_peg) (maxL := 9) (ret := (some .long)) (by decide) rfl ?_
  intro p e s m args below meth c s₁ Bd hml hv
  obtain ⟨rfl, rfl, hW0⟩ := hv
  have hx := Bd.exec
  have hb := Bd.bytes
  have hr := Bd.returns
  have hts := atoms_spec (ws := (ws_ yX1_peg cX1_peg 9 (some .long))) Bd.pre
  have hts : ∀ w ∈ lw_all, w.before _ s = true := fun w h => hts w (List.mem_cons_of_mem _ h)
  have hown : s.vm.findClass RX1 = some m.cls := findClass_of_methodNamed Bd.named
  have hlocks := Bd.notSynchronized
  have hK := va_K.moved hW0.alike hE.K
  have hL : gx_L s0.heap.size ([] : List Loc) := gx_L0
  have hl := lv_entry ([.ref s0.heap.size, .int (nI u), .int 2, .int (nI v)]) (n := 9) (Nat.le_of_ble_eq_true rfl)
  rw [lg_entry_eq]
  generalize (lg_sl ([.ref s0.heap.size, .int (nI u), .int 2, .int (nI v)]) ++ List.replicate (9 - (lg_sl ([.ref s0.heap.size, .int (nI u), .int 2, .int (nI v)])).length) Slot.unset).toArray = ls at hl ⊢
  have hl : lv_has ls 9 [(0, .ref s0.heap.size), (1, .int (nI u)), (2, .int 2), (3, .int (nI v))] := hl
  refine lv_aload_n hx hb dX1_peg_0 rfl (lv_at hl 0 rfl) ?_
  refine gx_get (D := D) (cl := gcl) (ci := 0) (v := .ref (aB s0.heap.size 1)) (C := RX1) (T := TX1) (N := 10) hx hb hts in_X1 hown hK hR.np rfl 2 (by decide) (hts _ q274) (fun _ h9 => h9) rfl dX1_peg_1 ?_
  refine lv_iload_n hx hb dX1_peg_4 rfl (lv_at hl 1 rfl) ?_
  refine cc_v (va_runS (As := [.ref (aB s0.heap.size 1), .int (nI u)]) (rest := []) ⟨hx, hb, hml, hown, hts⟩ (ct_X1_entry (j := 1) (u := u) hE hR (by decide) (by decide) hu) (va_cwS 2 hts (lw_S q770 q771 q47 q772) rfl rfl rfl (by decide +kernel) ⟨Nat.le_of_ble_eq_true rfl, Nat.le_of_ble_eq_true rfl⟩) (cc_pS hW0) rfl rfl hl.1 rfl (lv_room (Nat.le_of_ble_eq_true rfl)) dX1_peg_5 ⟨Nat.le_of_ble_eq_true rfl, Nat.le_of_ble_eq_true rfl⟩) hL (fun H locs hP1 hL => ?_)
  subst hP1
  refine lv_astore (lv' := [(4, .ref (yE Y 1 u)), (0, .ref s0.heap.size), (1, .int (nI u)), (2, .int 2), (3, .int (nI v))]) hx hb dX1_peg_8 hl (by decide) rfl (fun ls hl => ?_)
  refine lv_iload_n hx hb dX1_peg_10 rfl (lv_at hl 3 rfl) ?_
  refine lv_iconst (v := 0) hx hb dX1_peg_11 (by decide) ?_
  refine lv_iconst (v := 2) hx hb dX1_peg_12 (by decide) ?_
  refine cc_v (va_runS (As := [.int 2, .int 0, .int 2]) (rest := []) ⟨hx, hb, hml, hown, hts⟩ (ct_X1_isIn hE 2 0 2) (va_cwS 3 hts (lw_S q540 q541 q47 q542) rfl rfl rfl (by decide +kernel) ⟨Nat.le_of_ble_eq_true rfl, Nat.le_of_ble_eq_true rfl⟩) (cc_pS hW0) rfl rfl hl.1 rfl (lv_room (Nat.le_of_ble_eq_true rfl)) dX1_peg_13 ⟨Nat.le_of_ble_eq_true rfl, Nat.le_of_ble_eq_true rfl⟩) hL (fun H locs hP1 hL => ?_)
  subst hP1
  refine cc_0 (va_runS (As := [.int (bZ (inR 2 0 2))]) (rest := []) ⟨hx, hb, hml, hown, hts⟩ (ct_X1_argue hE (x := bZ (inR 2 0 2)) (by decide)) (va_cwS 1 hts (lw_S q609 q610 q47 q611) rfl rfl rfl (by decide +kernel) ⟨Nat.le_of_ble_eq_true rfl, Nat.le_of_ble_eq_true rfl⟩) (cc_pS hW0) rfl rfl hl.1 rfl (lv_room (Nat.le_of_ble_eq_true rfl)) dX1_peg_16 ⟨Nat.le_of_ble_eq_true rfl, Nat.le_of_ble_eq_true rfl⟩) hL (fun H locs hP1 hL => ?_)
  subst hP1
  refine lv_iload_n hx hb dX1_peg_19 rfl (lv_at hl 3 rfl) ?_
  refine lv_iconst (v := 1) hx hb dX1_peg_20 (by decide) ?_
  refine lv_icmp_ne (tgt := 33) hx hb dX1_peg_21 (by decide) (fun c21 => ?_) (fun c21 => ?_)
  · refine lv_iload_n hx hb dX1_peg_33 rfl (lv_at hl 3 rfl) ?_
    refine lv_iconst (v := 2) hx hb dX1_peg_34 (by decide) ?_
    refine lv_icmp_ne (tgt := 42) hx hb dX1_peg_35 (by decide) (fun c35 => ?_) (fun c35 => ?_)
    · exact c35 rfl |>.elim
    · refine lv_iload_n hx hb dX1_peg_38 rfl (lv_at hl 4 rfl) ?_
      refine cc_0 (va_runS (As := [.int (nI v)]) (rest := []) ⟨hx, hb, hml, hown, hts⟩ (ct_X1_week hE (x := nI v) (in12_n hv)) (va_cwS 1 hts (lw_S q729 q730 q47 q731) rfl rfl rfl (by decide +kernel) ⟨Nat.le_of_ble_eq_true rfl, Nat.le_of_ble_eq_true rfl⟩) (cc_pS hW0) rfl rfl hl.1 rfl (lv_room (Nat.le_of_ble_eq_true rfl)) dX1_peg_39 ⟨Nat.le_of_ble_eq_true rfl, Nat.le_of_ble_eq_true rfl⟩) hL (fun H locs hP1 hL => ?_)
      subst hP1
      refine lv_aload_n hx hb dX1_peg_42 rfl (lv_at hl 1 rfl) ?_
      refine gx_get (D := D) (cl := gcl) (ci := 0) (v := .int (kT C)) (C := RX1) (T := TX1) (N := 10) hx hb hts in_X1 hown hK hR.np rfl 8 (by decide) (hts _ q280) (fun _ h9 => h9) rfl dX1_peg_43 ?_
      refine lv_if_ne (tgt := 53) hx hb dX1_peg_46 (by decide) (fun c46 => ?_) (fun c46 => ?_)
      · exact absurd h0 c46
      · refine lv_iconst (v := 1) hx hb dX1_peg_49 (by decide) ?_
        refine lv_goto (tgt := 54) hx hb dX1_peg_50 (by decide) ?_
        refine cc_0 (va_runS (As := [.int 1]) (rest := []) ⟨hx, hb, hml, hown, hts⟩ (ct_X1_allow hE (x := 1) (by decide)) (va_cwS 1 hts (lw_S q666 q667 q47 q668) rfl rfl rfl (by decide +kernel) ⟨Nat.le_of_ble_eq_true rfl, Nat.le_of_ble_eq_true rfl⟩) (cc_pS hW0) rfl rfl hl.1 rfl (lv_room (Nat.le_of_ble_eq_true rfl)) dX1_peg_54 ⟨Nat.le_of_ble_eq_true rfl, Nat.le_of_ble_eq_true rfl⟩) hL (fun H locs hP1 hL => ?_)
        subst hP1
        refine lv_aload_n hx hb dX1_peg_57 rfl (lv_at hl 1 rfl) ?_
        refine gx_get (D := D) (cl := gcl) (ci := 0) (v := .ref (s0.heap.size + 1)) (C := RX1) (T := TX1) (N := 10) hx hb hts in_X1 hown hK hR.np rfl 0 (by decide) (hts _ q272) (fun _ h9 => h9) rfl dX1_peg_58 ?_
        refine lv_aload hx hb dX1_peg_61 (lv_at hl 0 rfl) ?_
        refine gx_getN (D := D) (cl := gcl) (ci := 12) (v := .int (kE C 1 u 0)) (C := RX13) (T := TX13) (N := 3) hx hb hts in_X13 hown hK (hR.ent 1 u (by decide) (by decide) hu) rfl 0 (by decide) (hE.nF hW0 q744) (fun _ h9 => h9) rfl dX1_peg_63 ?_
        refine gx_aald (x := aI s0.heap.size a) hx hb hK 3 hR.its rfl a (hea) (ha) (by decide) rfl dX1_peg_66 ?_
        refine lv_astore (lv' := [(5, .ref (aI s0.heap.size a)), (4, .ref (yE Y 1 u)), (0, .ref s0.heap.size), (1, .int (nI u)), (2, .int 2), (3, .int (nI v))]) hx hb dX1_peg_67 hl (by decide) rfl (fun ls hl => ?_)
        refine lv_aload_n hx hb dX1_peg_69 rfl (lv_at hl 2 rfl) ?_
        refine lv_aload hx hb dX1_peg_70 (lv_at hl 0 rfl) ?_
        refine lv_aload hx hb dX1_peg_72 (lv_at hl 1 rfl) ?_
        refine gx_getN (D := D) (cl := gcl) (ci := 12) (v := .int (kE C 1 u 1)) (C := RX13) (T := TX13) (N := 3) hx hb hts in_X13 hown hK (hR.ent 1 u (by decide) (by decide) hu) rfl 1 (by decide) (hE.nF hW0 q747) (fun _ h9 => h9) rfl dX1_peg_74 ?_
        refine gx_ti (nI b) (heb) ?_
        refine cc_v (va_runV (b := s0.heap.size) (As := [.ref (aI s0.heap.size a), .int (nI b)]) (rest := []) ⟨hx, hb, hml, hown, hts⟩ (ct_X1_claimedBefore (k := a) (wk := b) hE hR ha hb2) (cwV 2 hts (lw_V q819 q821 qs20 q47 q822) rfl rfl rfl (by decide +kernel) ⟨Nat.le_of_ble_eq_true rfl, Nat.le_of_ble_eq_true rfl⟩) (cc_pV hW0 (cc_re hK hR.np (show gcl[0]? = _ from rfl))) rfl rfl hl.1 rfl (lv_room (Nat.le_of_ble_eq_true rfl)) dX1_peg_77 ⟨Nat.le_of_ble_eq_true rfl, Nat.le_of_ble_eq_true rfl⟩) hL (fun H locs hP1 hL => ?_)
        subst hP1
        refine lv_aload_n hx hb dX1_peg_80 rfl (lv_at hl 2 rfl) ?_
        refine gx_get (D := D) (cl := gcl) (ci := 0) (v := .ref (aB s0.heap.size 1)) (C := RX1) (T := TX1) (N := 10) hx hb hts in_X1 hown hK hR.np rfl 2 (by decide) (hts _ q274) (fun _ h9 => h9) rfl dX1_peg_81 ?_
        refine lv_iload_n hx hb dX1_peg_84 rfl (lv_at hl 3 rfl) ?_
        refine cc_v (va_runV (b := aB s0.heap.size 1) (As := [.int (nI u)]) (rest := [.long (c_cb C a b)]) ⟨hx, hb, hml, hown, hts⟩ (ct_X2_sumBefore (j := 1) hE hR (by decide) (by decide) hu) (cwV 1 hts (lw_V q823 q824 q825 q51 q826) rfl rfl rfl (by decide +kernel) ⟨Nat.le_of_ble_eq_true rfl, Nat.le_of_ble_eq_true rfl⟩) (cc_pV hW0 (cc_re hK (hR.bok 1 (by decide) (by decide)) (show gcl[2]? = _ from rfl))) rfl rfl hl.1 rfl (lv_room (Nat.le_of_ble_eq_true rfl)) dX1_peg_85 ⟨Nat.le_of_ble_eq_true rfl, Nat.le_of_ble_eq_true rfl⟩) hL (fun H locs hP1 hL => ?_)
        subst hP1
        refine lv_ladd hx hb dX1_peg_88 ?_
        refine gx_tl (c_pf C a b u) (rfl) ?_
        refine lv_lstore (lv' := [(6, .long (c_pf C a b u)), (5, .ref (aI s0.heap.size a)), (4, .ref (yE Y 1 u)), (0, .ref s0.heap.size), (1, .int (nI u)), (2, .int 2), (3, .int (nI v))]) hx hb dX1_peg_89 hl (by decide) rfl (fun ls hl => ?_)
        refine lv_iload_n hx hb dX1_peg_91 rfl (lv_at hl 5 rfl) ?_
        refine lv_if_ne (tgt := 114) hx hb dX1_peg_92 (by decide) (fun c92 => ?_) (fun c92 => ?_)
        · refine lv_iload_n hx hb dX1_peg_114 rfl (lv_at hl 5 rfl) ?_
          refine lv_iconst (v := 2) hx hb dX1_peg_115 (by decide) ?_
          refine lv_icmp_ne (tgt := 159) hx hb dX1_peg_116 (by decide) (fun c116 => ?_) (fun c116 => ?_)
          · exact c116 rfl |>.elim
          · refine lv_lload hx hb dX1_peg_119 (lv_at hl 0 rfl) ?_
            refine lv_aload hx hb dX1_peg_121 (lv_at hl 2 rfl) ?_
            refine gx_getN (D := D) (cl := gcl) (ci := 12) (v := .int (kE C 1 u 2)) (C := RX13) (T := TX13) (N := 3) hx hb hts in_X13 hown hK (hR.ent 1 u (by decide) (by decide) hu) rfl 2 (by decide) (hE.nF hW0 q750) (fun _ h9 => h9) rfl dX1_peg_123 ?_
            refine lv_i2l (v := (kE C 1 u 2).toInt64) hx hb dX1_peg_126 rfl ?_
            refine lv_aload_n hx hb dX1_peg_127 rfl (lv_at hl 3 rfl) ?_
            refine lv_aload hx hb dX1_peg_128 (lv_at hl 1 rfl) ?_
            refine lv_iload_n hx hb dX1_peg_130 rfl (lv_at hl 6 rfl) ?_
            refine cc_v (va_runV (b := s0.heap.size) (As := [.ref (aI s0.heap.size a), .int (nI v)]) (rest := [.long ((kE C 1 u 2).toInt64), .long (c_pf C a b u)]) ⟨hx, hb, hml, hown, hts⟩ (ct_X1_suppliedBefore (k := a) (wk := v) hE hR ha hv) (cwV 2 hts (lw_V q833 q835 qs21 q47 q836) rfl rfl rfl (by decide +kernel) ⟨Nat.le_of_ble_eq_true rfl, Nat.le_of_ble_eq_true rfl⟩) (cc_pV hW0 (cc_re hK hR.np (show gcl[0]? = _ from rfl))) rfl rfl hl.1 rfl (lv_room (Nat.le_of_ble_eq_true rfl)) dX1_peg_131 ⟨Nat.le_of_ble_eq_true rfl, Nat.le_of_ble_eq_true rfl⟩) hL (fun H locs hP1 hL => ?_)
            subst hP1
            refine lv_aload_n hx hb dX1_peg_134 rfl (lv_at hl 3 rfl) ?_
            refine gx_get (D := D) (cl := gcl) (ci := 0) (v := .ref (aB s0.heap.size 2)) (C := RX1) (T := TX1) (N := 10) hx hb hts in_X1 hown hK hR.np rfl 3 (by decide) (hts _ q275) (fun _ h9 => h9) rfl dX1_peg_135 ?_
            refine lv_aload hx hb dX1_peg_138 (lv_at hl 1 rfl) ?_
            refine gx_getN (D := D) (cl := gcl) (ci := 8) (v := .int (nI a)) (C := RX9) (T := TX9) (N := 19) hx hb hts in_X9 hown hK (hR.itm a ha) rfl 0 (by decide) (hE.nF hW0 q187) (fun _ h9 => h9) rfl dX1_peg_140 ?_
            refine lv_iload_n hx hb dX1_peg_143 rfl (lv_at hl 6 rfl) ?_
            refine cc_v (va_runV (b := aB s0.heap.size 2) (As := [.int (nI a), .int (nI v)]) (rest := [.long (c_sp C a v), .long ((kE C 1 u 2).toInt64), .long (c_pf C a b u)]) ⟨hx, hb, hml, hown, hts⟩ (ct_X2_sum (j := 2) hE hR (by decide) (by decide) (nI a) (nI v)) (cwV 2 hts (lw_V q448 q449 q450 q51 q451) rfl rfl rfl (by decide +kernel) ⟨Nat.le_of_ble_eq_true rfl, Nat.le_of_ble_eq_true rfl⟩) (cc_pV hW0 (cc_re hK (hR.bok 2 (by decide) (by decide)) (show gcl[2]? = _ from rfl))) rfl rfl hl.1 rfl (lv_room (Nat.le_of_ble_eq_true rfl)) dX1_peg_144 ⟨Nat.le_of_ble_eq_true rfl, Nat.le_of_ble_eq_true rfl⟩) hL (fun H locs hP1 hL => ?_)
            subst hP1
            refine lv_ladd hx hb dX1_peg_147 ?_
            refine lv_aload hx hb dX1_peg_148 (lv_at hl 1 rfl) ?_
            refine gx_getN (D := D) (cl := gcl) (ci := 8) (v := .ref (aA s0.heap.size 3 a)) (C := RX9) (T := TX9) (N := 19) hx hb hts in_X9 hown hK (hR.itm a ha) rfl 17 (by decide) (hE.nF hW0 q218) (fun _ h9 => h9) rfl dX1_peg_150 ?_
            refine lv_iload_n hx hb dX1_peg_153 rfl (lv_at hl 6 rfl) ?_
            refine gx_lald (n := 12) hx hb hK 0 (hR.arr 3 a (by decide) ha) rfl v (rfl) (hv) (by decide) dX1_peg_154 ?_
            refine cc_v (va_runS (As := [.long (c_pf C a b u), .long ((kE C 1 u 2).toInt64), .long ((c_sp C a v) + (c_sum C 2 (nI a) (nI v) (kN C 2))), .long (kA C 3 a v)]) (rest := []) ⟨hx, hb, hml, hown, hts⟩ (ct_X1_overlap hE (c_pf C a b u) ((kE C 1 u 2).toInt64) ((c_sp C a v) + (c_sum C 2 (nI a) (nI v) (kN C 2))) (kA C 3 a v)) (va_cwS 4 hts (lw_S q827 q828 q47 q829) rfl rfl rfl (by decide +kernel) ⟨Nat.le_of_ble_eq_true rfl, Nat.le_of_ble_eq_true rfl⟩) (cc_pS hW0) rfl rfl hl.1 rfl (lv_room (Nat.le_of_ble_eq_true rfl)) dX1_peg_155 ⟨Nat.le_of_ble_eq_true rfl, Nat.le_of_ble_eq_true rfl⟩) hL (fun H locs hP1 hL => ?_)
            subst hP1
            exact W.lret (v := (c_ov (c_pf C a b u) ((kE C 1 u 2).toInt64) ((c_sp C a v) + (c_sum C 2 (nI a) (nI v) (kN C 2))) (kA C 3 a v))) hx hb hr (fun t ht hW => ⟨rfl, ht⟩) hL dX1_peg_158
        · exact absurd c92 (by decide)
  · exact absurd c21 (by decide)
set_option maxHeartbeats 4000000 in
set_option maxRecDepth 100000 in
/-- peg, order -/
theorem ct_X1_peg_1 {l : Launch} {s0 : State} {D : va_G} {DA : Nat → ClassId} {z0 : Nat} {Y : YS} {C : CS} {M : MS} {o : Int64} {H : Heap} (hE : G0 l s0 D DA z0) (hR : GRb s0.heap.size s0.heap D DA z0 Y C M o H) {u a b : Nat} (hu : u < kN C 1) (ha : a < 12) (hea : kE C 1 u 0 = nI a) (hb2 : b < 12) (heb : kE C 1 u 1 = nI b) (h0 : kT C = 0) {v bo : Nat} (hv : v < kN C 2) (hbo : bo < 12) (heo : kE C 2 v 1 = nI bo) : Met l yX1_peg (ws_ yX1_peg cX1_peg 9 (some .long)) ({ frames := 5, cells := 0, slots := 0, locals := 114 }) (cP s0 [.ref s0.heap.size, .int (nI u), .int 1, .int (nI v)] H) (cQv (.long (if kE C 2 v 0 = nI a then c_ov (c_pf C a b u) (kE C 1 u 2).toInt64 (c_sp C a bo + c_sumB C 2 v v) (kE C 2 v 2).toInt64 else 0)) (fun H1 => H1 = H)) 0 0 (cF s0) := by
  refine Met.ofW (cc := cX1_peg) (maxL := 9) (ret := (some .long)) (by decide) rfl ?_
  intro p e s m args below meth c s₁ Bd hml hv
  obtain ⟨rfl, rfl, hW0⟩ := hv
  have hx := Bd.exec
  have hb := Bd.bytes
  have hr := Bd.returns
  have hts := atoms_spec (ws := (ws_ yX1_peg cX1_peg 9 (some .long))) Bd.pre
  have hts : ∀ w ∈ lw_all, w.before _ s = true := fun w h => hts w (List.mem_cons_of_mem _ h)
  have hown : s.vm.findClass RX1 = some m.cls := findClass_of_methodNamed Bd.named
  have hlocks := Bd.notSynchronized
  have hK := va_K.moved hW0.alike hE.K
  have hL : gx_L s0.heap.size ([] : List Loc) := gx_L0
  have hl := lv_entry ([.ref s0.heap.size, .int (nI u), .int 1, .int (nI v)]) (n := 9) (Nat.le_of_ble_eq_true rfl)
  rw [lg_entry_eq]
  generalize (lg_sl ([.ref s0.heap.size, .int (nI u), .int 1, .int (nI v)]) ++ List.replicate (9 - (lg_sl ([.ref s0.heap.size, .int (nI u), .int 1, .int (nI v)])).length) Slot.unset).toArray = ls at hl ⊢
  have hl : lv_has ls 9 [(0, .ref s0.heap.size), (1, .int (nI u)), (2, .int 1), (3, .int (nI v))] := hl
  refine lv_aload_n hx hb dX1_peg_0 rfl (lv_at hl 0 rfl) ?_
  refine gx_get (D := D) (cl := gcl) (ci := 0) (v := .ref (aB s0.heap.size 1)) (C := RX1) (T := TX1) (N := 10) hx hb hts in_X1 hown hK hR.np rfl 2 (by decide) (hts _ q274) (fun _ h9 => h9) rfl dX1_peg_1 ?_
  refine lv_iload_n hx hb dX1_peg_4 rfl (lv_at hl 1 rfl) ?_
  refine cc_v (va_runS (As := [.ref (aB s0.heap.size 1), .int (nI u)]) (rest := []) ⟨hx, hb, hml, hown, hts⟩ (ct_X1_entry (j := 1) (u := u) hE hR (by decide) (by decide) hu) (va_cwS 2 hts (lw_S q770 q771 q47 q772) rfl rfl rfl (by decide +kernel) ⟨Nat.le_of_ble_eq_true rfl, Nat.le_of_ble_eq_true rfl⟩) (cc_pS hW0) rfl rfl hl.1 rfl (lv_room (Nat.le_of_ble_eq_true rfl)) dX1_peg_5 ⟨Nat.le_of_ble_eq_true rfl, Nat.le_of_ble_eq_true rfl⟩) hL (fun H locs hP1 hL => ?_)
  subst hP1
  refine lv_astore (lv' := [(4, .ref (yE Y 1 u)), (0, .ref s0.heap.size), (1, .int (nI u)), (2, .int 1), (3, .int (nI v))]) hx hb dX1_peg_8 hl (by decide) rfl (fun ls hl => ?_)
  refine lv_iload_n hx hb dX1_peg_10 rfl (lv_at hl 3 rfl) ?_
  refine lv_iconst (v := 0) hx hb dX1_peg_11 (by decide) ?_
  refine lv_iconst (v := 2) hx hb dX1_peg_12 (by decide) ?_
  refine cc_v (va_runS (As := [.int 1, .int 0, .int 2]) (rest := []) ⟨hx, hb, hml, hown, hts⟩ (ct_X1_isIn hE 1 0 2) (va_cwS 3 hts (lw_S q540 q541 q47 q542) rfl rfl rfl (by decide +kernel) ⟨Nat.le_of_ble_eq_true rfl, Nat.le_of_ble_eq_true rfl⟩) (cc_pS hW0) rfl rfl hl.1 rfl (lv_room (Nat.le_of_ble_eq_true rfl)) dX1_peg_13 ⟨Nat.le_of_ble_eq_true rfl, Nat.le_of_ble_eq_true rfl⟩) hL (fun H locs hP1 hL => ?_)
  subst hP1
  refine cc_0 (va_runS (As := [.int (bZ (inR 1 0 2))]) (rest := []) ⟨hx, hb, hml, hown, hts⟩ (ct_X1_argue hE (x := bZ (inR 1 0 2)) (by decide)) (va_cwS 1 hts (lw_S q609 q610 q47 q611) rfl rfl rfl (by decide +kernel) ⟨Nat.le_of_ble_eq_true rfl, Nat.le_of_ble_eq_true rfl⟩) (cc_pS hW0) rfl rfl hl.1 rfl (lv_room (Nat.le_of_ble_eq_true rfl)) dX1_peg_16 ⟨Nat.le_of_ble_eq_true rfl, Nat.le_of_ble_eq_true rfl⟩) hL (fun H locs hP1 hL => ?_)
  subst hP1
  refine lv_iload_n hx hb dX1_peg_19 rfl (lv_at hl 3 rfl) ?_
  refine lv_iconst (v := 1) hx hb dX1_peg_20 (by decide) ?_
  refine lv_icmp_ne (tgt := 33) hx hb dX1_peg_21 (by decide) (fun c21 => ?_) (fun c21 => ?_)
  · exact c21 rfl |>.elim
  · refine lv_aload_n hx hb dX1_peg_24 rfl (lv_at hl 1 rfl) ?_
    refine gx_get (D := D) (cl := gcl) (ci := 0) (v := .ref (aB s0.heap.size 2)) (C := RX1) (T := TX1) (N := 10) hx hb hts in_X1 hown hK hR.np rfl 3 (by decide) (hts _ q275) (fun _ h9 => h9) rfl dX1_peg_25 ?_
    refine lv_iload_n hx hb dX1_peg_28 rfl (lv_at hl 4 rfl) ?_
    refine cc_v (va_runS (As := [.ref (aB s0.heap.size 2), .int (nI v)]) (rest := []) ⟨hx, hb, hml, hown, hts⟩ (ct_X1_entry (j := 2) (u := v) hE hR (by decide) (by decide) hv) (va_cwS 2 hts (lw_S q770 q771 q47 q772) rfl rfl rfl (by decide +kernel) ⟨Nat.le_of_ble_eq_true rfl, Nat.le_of_ble_eq_true rfl⟩) (cc_pS hW0) rfl rfl hl.1 rfl (lv_room (Nat.le_of_ble_eq_true rfl)) dX1_peg_29 ⟨Nat.le_of_ble_eq_true rfl, Nat.le_of_ble_eq_true rfl⟩) hL (fun H locs hP1 hL => ?_)
    subst hP1
    refine lv_pop hx hb dX1_peg_32 rfl ?_
    refine lv_iload_n hx hb dX1_peg_33 rfl (lv_at hl 3 rfl) ?_
    refine lv_iconst (v := 2) hx hb dX1_peg_34 (by decide) ?_
    refine lv_icmp_ne (tgt := 42) hx hb dX1_peg_35 (by decide) (fun c35 => ?_) (fun c35 => ?_)
    · refine lv_aload_n hx hb dX1_peg_42 rfl (lv_at hl 1 rfl) ?_
      refine gx_get (D := D) (cl := gcl) (ci := 0) (v := .int (kT C)) (C := RX1) (T := TX1) (N := 10) hx hb hts in_X1 hown hK hR.np rfl 8 (by decide) (hts _ q280) (fun _ h9 => h9) rfl dX1_peg_43 ?_
      refine lv_if_ne (tgt := 53) hx hb dX1_peg_46 (by decide) (fun c46 => ?_) (fun c46 => ?_)
      · exact absurd h0 c46
      · refine lv_iconst (v := 1) hx hb dX1_peg_49 (by decide) ?_
        refine lv_goto (tgt := 54) hx hb dX1_peg_50 (by decide) ?_
        refine cc_0 (va_runS (As := [.int 1]) (rest := []) ⟨hx, hb, hml, hown, hts⟩ (ct_X1_allow hE (x := 1) (by decide)) (va_cwS 1 hts (lw_S q666 q667 q47 q668) rfl rfl rfl (by decide +kernel) ⟨Nat.le_of_ble_eq_true rfl, Nat.le_of_ble_eq_true rfl⟩) (cc_pS hW0) rfl rfl hl.1 rfl (lv_room (Nat.le_of_ble_eq_true rfl)) dX1_peg_54 ⟨Nat.le_of_ble_eq_true rfl, Nat.le_of_ble_eq_true rfl⟩) hL (fun H locs hP1 hL => ?_)
        subst hP1
        refine lv_aload_n hx hb dX1_peg_57 rfl (lv_at hl 1 rfl) ?_
        refine gx_get (D := D) (cl := gcl) (ci := 0) (v := .ref (s0.heap.size + 1)) (C := RX1) (T := TX1) (N := 10) hx hb hts in_X1 hown hK hR.np rfl 0 (by decide) (hts _ q272) (fun _ h9 => h9) rfl dX1_peg_58 ?_
        refine lv_aload hx hb dX1_peg_61 (lv_at hl 0 rfl) ?_
        refine gx_getN (D := D) (cl := gcl) (ci := 12) (v := .int (kE C 1 u 0)) (C := RX13) (T := TX13) (N := 3) hx hb hts in_X13 hown hK (hR.ent 1 u (by decide) (by decide) hu) rfl 0 (by decide) (hE.nF hW0 q744) (fun _ h9 => h9) rfl dX1_peg_63 ?_
        refine gx_aald (x := aI s0.heap.size a) hx hb hK 3 hR.its rfl a (hea) (ha) (by decide) rfl dX1_peg_66 ?_
        refine lv_astore (lv' := [(5, .ref (aI s0.heap.size a)), (4, .ref (yE Y 1 u)), (0, .ref s0.heap.size), (1, .int (nI u)), (2, .int 1), (3, .int (nI v))]) hx hb dX1_peg_67 hl (by decide) rfl (fun ls hl => ?_)
        refine lv_aload_n hx hb dX1_peg_69 rfl (lv_at hl 2 rfl) ?_
        refine lv_aload hx hb dX1_peg_70 (lv_at hl 0 rfl) ?_
        refine lv_aload hx hb dX1_peg_72 (lv_at hl 1 rfl) ?_
        refine gx_getN (D := D) (cl := gcl) (ci := 12) (v := .int (kE C 1 u 1)) (C := RX13) (T := TX13) (N := 3) hx hb hts in_X13 hown hK (hR.ent 1 u (by decide) (by decide) hu) rfl 1 (by decide) (hE.nF hW0 q747) (fun _ h9 => h9) rfl dX1_peg_74 ?_
        refine gx_ti (nI b) (heb) ?_
        refine cc_v (va_runV (b := s0.heap.size) (As := [.ref (aI s0.heap.size a), .int (nI b)]) (rest := []) ⟨hx, hb, hml, hown, hts⟩ (ct_X1_claimedBefore (k := a) (wk := b) hE hR ha hb2) (cwV 2 hts (lw_V q819 q821 qs20 q47 q822) rfl rfl rfl (by decide +kernel) ⟨Nat.le_of_ble_eq_true rfl, Nat.le_of_ble_eq_true rfl⟩) (cc_pV hW0 (cc_re hK hR.np (show gcl[0]? = _ from rfl))) rfl rfl hl.1 rfl (lv_room (Nat.le_of_ble_eq_true rfl)) dX1_peg_77 ⟨Nat.le_of_ble_eq_true rfl, Nat.le_of_ble_eq_true rfl⟩) hL (fun H locs hP1 hL => ?_)
        subst hP1
        refine lv_aload_n hx hb dX1_peg_80 rfl (lv_at hl 2 rfl) ?_
        refine gx_get (D := D) (cl := gcl) (ci := 0) (v := .ref (aB s0.heap.size 1)) (C := RX1) (T := TX1) (N := 10) hx hb hts in_X1 hown hK hR.np rfl 2 (by decide) (hts _ q274) (fun _ h9 => h9) rfl dX1_peg_81 ?_
        refine lv_iload_n hx hb dX1_peg_84 rfl (lv_at hl 3 rfl) ?_
        refine cc_v (va_runV (b := aB s0.heap.size 1) (As := [.int (nI u)]) (rest := [.long (c_cb C a b)]) ⟨hx, hb, hml, hown, hts⟩ (ct_X2_sumBefore (j := 1) hE hR (by decide) (by decide) hu) (cwV 1 hts (lw_V q823 q824 q825 q51 q826) rfl rfl rfl (by decide +kernel) ⟨Nat.le_of_ble_eq_true rfl, Nat.le_of_ble_eq_true rfl⟩) (cc_pV hW0 (cc_re hK (hR.bok 1 (by decide) (by decide)) (show gcl[2]? = _ from rfl))) rfl rfl hl.1 rfl (lv_room (Nat.le_of_ble_eq_true rfl)) dX1_peg_85 ⟨Nat.le_of_ble_eq_true rfl, Nat.le_of_ble_eq_true rfl⟩) hL (fun H locs hP1 hL => ?_)
        subst hP1
        refine lv_ladd hx hb dX1_peg_88 ?_
        refine gx_tl (c_pf C a b u) (rfl) ?_
        refine lv_lstore (lv' := [(6, .long (c_pf C a b u)), (5, .ref (aI s0.heap.size a)), (4, .ref (yE Y 1 u)), (0, .ref s0.heap.size), (1, .int (nI u)), (2, .int 1), (3, .int (nI v))]) hx hb dX1_peg_89 hl (by decide) rfl (fun ls hl => ?_)
        refine lv_iload_n hx hb dX1_peg_91 rfl (lv_at hl 5 rfl) ?_
        refine lv_if_ne (tgt := 114) hx hb dX1_peg_92 (by decide) (fun c92 => ?_) (fun c92 => ?_)
        · refine lv_iload_n hx hb dX1_peg_114 rfl (lv_at hl 5 rfl) ?_
          refine lv_iconst (v := 2) hx hb dX1_peg_115 (by decide) ?_
          refine lv_icmp_ne (tgt := 159) hx hb dX1_peg_116 (by decide) (fun c116 => ?_) (fun c116 => ?_)
          · refine lv_aload_n hx hb dX1_peg_159 rfl (lv_at hl 3 rfl) ?_
            refine gx_get (D := D) (cl := gcl) (ci := 0) (v := .ref (aB s0.heap.size 2)) (C := RX1) (T := TX1) (N := 10) hx hb hts in_X1 hown hK hR.np rfl 3 (by decide) (hts _ q275) (fun _ h9 => h9) rfl dX1_peg_160 ?_
            refine gx_getN (D := D) (cl := gcl) (ci := 2) (v := .ref (aL s0.heap.size 2)) (C := RX2) (T := TX2) (N := 1) hx hb hts in_X2 hown hK (hR.bok 2 (by decide) (by decide)) rfl 0 (by decide) (hE.nF hW0 q121) (fun _ h9 => h9) rfl dX1_peg_163 ?_
            refine lv_iload_n hx hb dX1_peg_166 rfl (lv_at hl 6 rfl) ?_
            refine cc_v (va_runV (b := aL s0.heap.size 2) (As := [.int (nI v)]) (rest := []) ⟨hx, hb, hml, hown, hts⟩ (ct_J2_get (i := v) hE (hR.lob 2 (by omega)) (hR.lda 2 (by omega) (Nat.lt_of_lt_of_le (Nat.lt_of_le_of_lt (Nat.zero_le _) hv) (hR.lay.1 2 (by omega)).1)) (by have := (hR.lay.1 2 (by omega)).2; omega) hv (hR.lay.1 2 (by omega)).1 (hR.lay.2.1 2 (by omega) v hv)) (cwV 1 hts (lw_V q460 q383 q384 q50 q385) rfl rfl rfl (by decide +kernel) ⟨Nat.le_of_ble_eq_true rfl, Nat.le_of_ble_eq_true rfl⟩) (cc_pV hW0 (cc_re hK (hR.lob 2 (by omega)) (show gcl[1]? = _ from rfl))) rfl rfl hl.1 rfl (lv_room (Nat.le_of_ble_eq_true rfl)) dX1_peg_167 ⟨Nat.le_of_ble_eq_true rfl, Nat.le_of_ble_eq_true rfl⟩) hL (fun H locs hP1 hL => ?_)
            subst hP1
            refine gx_castS (ci := 12) hx hb hown (hts _ q736) hK (hR.ent 2 v (by decide) (by decide) hv) (show gcl[12]? = _ from rfl) dX1_peg_170 ?_
            refine lv_astore (lv' := [(8, .ref (yE Y 2 v)), (6, .long (c_pf C a b u)), (5, .ref (aI s0.heap.size a)), (4, .ref (yE Y 1 u)), (0, .ref s0.heap.size), (1, .int (nI u)), (2, .int 1), (3, .int (nI v))]) hx hb dX1_peg_173 hl (by decide) rfl (fun ls hl => ?_)
            refine lv_aload hx hb dX1_peg_175 (lv_at hl 0 rfl) ?_
            refine gx_getN (D := D) (cl := gcl) (ci := 12) (v := .int (kE C 2 v 0)) (C := RX13) (T := TX13) (N := 3) hx hb hts in_X13 hown hK (hR.ent 2 v (by decide) (by decide) hv) rfl 0 (by decide) (hE.nF hW0 q744) (fun _ h9 => h9) rfl dX1_peg_177 ?_
            refine lv_aload hx hb dX1_peg_180 (lv_at hl 3 rfl) ?_
            refine gx_getN (D := D) (cl := gcl) (ci := 12) (v := .int (kE C 1 u 0)) (C := RX13) (T := TX13) (N := 3) hx hb hts in_X13 hown hK (hR.ent 1 u (by decide) (by decide) hu) rfl 0 (by decide) (hE.nF hW0 q744) (fun _ h9 => h9) rfl dX1_peg_182 ?_
            refine lv_icmp_ne (tgt := 228) hx hb dX1_peg_185 (by decide) (fun c185 => ?_) (fun c185 => ?_)
            · refine lv_lconst (v := 0) hx hb dX1_peg_228 (by decide) ?_
              exact W.lret (v := 0) hx hb hr (fun t ht hW => ⟨ovJ ((if_neg (fun q => c185 (q.trans hea.symm))).symm), ht⟩) hL dX1_peg_229
            · refine lv_lload hx hb dX1_peg_188 (lv_at hl 1 rfl) ?_
              refine lv_aload hx hb dX1_peg_190 (lv_at hl 3 rfl) ?_
              refine gx_getN (D := D) (cl := gcl) (ci := 12) (v := .int (kE C 1 u 2)) (C := RX13) (T := TX13) (N := 3) hx hb hts in_X13 hown hK (hR.ent 1 u (by decide) (by decide) hu) rfl 2 (by decide) (hE.nF hW0 q750) (fun _ h9 => h9) rfl dX1_peg_192 ?_
              refine lv_i2l (v := (kE C 1 u 2).toInt64) hx hb dX1_peg_195 rfl ?_
              refine lv_aload_n hx hb dX1_peg_196 rfl (lv_at hl 4 rfl) ?_
              refine lv_aload hx hb dX1_peg_197 (lv_at hl 2 rfl) ?_
              refine lv_aload hx hb dX1_peg_199 (lv_at hl 0 rfl) ?_
              refine gx_getN (D := D) (cl := gcl) (ci := 12) (v := .int (kE C 2 v 1)) (C := RX13) (T := TX13) (N := 3) hx hb hts in_X13 hown hK (hR.ent 2 v (by decide) (by decide) hv) rfl 1 (by decide) (hE.nF hW0 q747) (fun _ h9 => h9) rfl dX1_peg_201 ?_
              refine gx_ti (nI bo) (heo) ?_
              refine cc_v (va_runV (b := s0.heap.size) (As := [.ref (aI s0.heap.size a), .int (nI bo)]) (rest := [.long ((kE C 1 u 2).toInt64), .long (c_pf C a b u)]) ⟨hx, hb, hml, hown, hts⟩ (ct_X1_suppliedBefore (k := a) (wk := bo) hE hR ha hbo) (cwV 2 hts (lw_V q833 q835 qs21 q47 q836) rfl rfl rfl (by decide +kernel) ⟨Nat.le_of_ble_eq_true rfl, Nat.le_of_ble_eq_true rfl⟩) (cc_pV hW0 (cc_re hK hR.np (show gcl[0]? = _ from rfl))) rfl rfl hl.1 rfl (lv_room (Nat.le_of_ble_eq_true rfl)) dX1_peg_204 ⟨Nat.le_of_ble_eq_true rfl, Nat.le_of_ble_eq_true rfl⟩) hL (fun H locs hP1 hL => ?_)
              subst hP1
              refine lv_aload_n hx hb dX1_peg_207 rfl (lv_at hl 4 rfl) ?_
              refine gx_get (D := D) (cl := gcl) (ci := 0) (v := .ref (aB s0.heap.size 2)) (C := RX1) (T := TX1) (N := 10) hx hb hts in_X1 hown hK hR.np rfl 3 (by decide) (hts _ q275) (fun _ h9 => h9) rfl dX1_peg_208 ?_
              refine lv_iload_n hx hb dX1_peg_211 rfl (lv_at hl 7 rfl) ?_
              refine cc_v (va_runV (b := aB s0.heap.size 2) (As := [.int (nI v)]) (rest := [.long (c_sp C a bo), .long ((kE C 1 u 2).toInt64), .long (c_pf C a b u)]) ⟨hx, hb, hml, hown, hts⟩ (ct_X2_sumBefore (j := 2) hE hR (by decide) (by decide) hv) (cwV 1 hts (lw_V q823 q824 q825 q51 q826) rfl rfl rfl (by decide +kernel) ⟨Nat.le_of_ble_eq_true rfl, Nat.le_of_ble_eq_true rfl⟩) (cc_pV hW0 (cc_re hK (hR.bok 2 (by decide) (by decide)) (show gcl[2]? = _ from rfl))) rfl rfl hl.1 rfl (lv_room (Nat.le_of_ble_eq_true rfl)) dX1_peg_212 ⟨Nat.le_of_ble_eq_true rfl, Nat.le_of_ble_eq_true rfl⟩) hL (fun H locs hP1 hL => ?_)
              subst hP1
              refine lv_ladd hx hb dX1_peg_215 ?_
              refine lv_aload hx hb dX1_peg_216 (lv_at hl 0 rfl) ?_
              refine gx_getN (D := D) (cl := gcl) (ci := 12) (v := .int (kE C 2 v 2)) (C := RX13) (T := TX13) (N := 3) hx hb hts in_X13 hown hK (hR.ent 2 v (by decide) (by decide) hv) rfl 2 (by decide) (hE.nF hW0 q750) (fun _ h9 => h9) rfl dX1_peg_218 ?_
              refine lv_i2l (v := (kE C 2 v 2).toInt64) hx hb dX1_peg_221 rfl ?_
              refine cc_v (va_runS (As := [.long (c_pf C a b u), .long ((kE C 1 u 2).toInt64), .long ((c_sp C a bo) + (c_sumB C 2 v v)), .long ((kE C 2 v 2).toInt64)]) (rest := []) ⟨hx, hb, hml, hown, hts⟩ (ct_X1_overlap hE (c_pf C a b u) ((kE C 1 u 2).toInt64) ((c_sp C a bo) + (c_sumB C 2 v v)) ((kE C 2 v 2).toInt64)) (va_cwS 4 hts (lw_S q827 q828 q47 q829) rfl rfl rfl (by decide +kernel) ⟨Nat.le_of_ble_eq_true rfl, Nat.le_of_ble_eq_true rfl⟩) (cc_pS hW0) rfl rfl hl.1 rfl (lv_room (Nat.le_of_ble_eq_true rfl)) dX1_peg_222 ⟨Nat.le_of_ble_eq_true rfl, Nat.le_of_ble_eq_true rfl⟩) hL (fun H locs hP1 hL => ?_)
              subst hP1
              refine lv_goto (tgt := 229) hx hb dX1_peg_225 (by decide) ?_
              exact W.lret (v := (c_ov (c_pf C a b u) ((kE C 1 u 2).toInt64) ((c_sp C a bo) + (c_sumB C 2 v v)) ((kE C 2 v 2).toInt64))) hx hb hr (fun t ht hW => ⟨ovJ ((if_pos (c185.trans hea)).symm), ht⟩) hL dX1_peg_229
          · exact absurd c116 (by decide)
        · exact absurd c92 (by decide)
    · exact absurd c35 (by decide)
set_option maxHeartbeats 4000000 in
set_option maxRecDepth 100000 in
theorem ct_X1_peg_I {l : Launch} {s0 : State} {D : va_G} {DA : Nat → ClassId} {z0 : Nat} {C : CS} {M : MS} {o : Int64} {H : Heap} (hE : G0 l s0 D DA z0) (hR : RR s0 D DA z0 C M o H) (x kd y : Int32) (h : inR x 0 (nI (kN C 1) - 1) = false) : MetT l yX1_peg (ws_ yX1_peg cX1_peg 9 (some .long)) ({ frames := 8, cells := 1, slots := 6, locals := 123 }) (cP s0 [.ref s0.heap.size, .int x, .int kd, .int y] H) (cQT s0 "java/lang/IndexOutOfBoundsException" (fun H1 => RR s0 D DA z0 C M o H1)) 1 6 (cF s0) := by
  refine MetT.ofW (cc := cX1_peg) (maxL := 9) (ret := (some .long)) (by decide) rfl ?_
  intro p e s m args below meth c s₁ Bd hml hv
  obtain ⟨rfl, rfl, hW0⟩ := hv
  have hx := Bd.exec
  have hb := Bd.bytes
  have hr := Bd.returns
  have hts := atoms_spec (ws := (ws_ yX1_peg cX1_peg 9 (some .long))) Bd.pre
  have hno := BodyLoose.noHandlers Bd (hts _ List.mem_cons_self)
  have hts : ∀ w ∈ lw_all, w.before _ s = true := fun w h => hts w (List.mem_cons_of_mem _ h)
  have hown : s.vm.findClass RX1 = some m.cls := findClass_of_methodNamed Bd.named
  have hlocks := Bd.notSynchronized
  have hK := va_K.moved hW0.alike hE.K
  have hL : gx_L s0.heap.size ([] : List Loc) := gx_L0
  obtain ⟨Y, hR⟩ := hR
  have hl := lv_entry ([.ref s0.heap.size, .int x, .int kd, .int y]) (n := 9) (Nat.le_of_ble_eq_true rfl)
  rw [lg_entry_eq]
  generalize (lg_sl ([.ref s0.heap.size, .int x, .int kd, .int y]) ++ List.replicate (9 - (lg_sl ([.ref s0.heap.size, .int x, .int kd, .int y])).length) Slot.unset).toArray = ls at hl ⊢
  have hl : lv_has ls 9 [(0, .ref s0.heap.size), (1, .int x), (2, .int kd), (3, .int y)] := hl
  refine lv_aload_n hx hb dX1_peg_0 rfl (lv_at hl 0 rfl) ?_
  refine gx_get (D := D) (cl := gcl) (ci := 0) (v := .ref (aB s0.heap.size 1)) (C := RX1) (T := TX1) (N := 10) hx hb hts in_X1 hown hK hR.np rfl 2 (by decide) (hts _ q274) (fun _ h9 => h9) rfl dX1_peg_1 ?_
  refine lv_iload_n hx hb dX1_peg_4 rfl (lv_at hl 1 rfl) ?_
  exact gt_leave (va_runTS (As := [.ref (aB s0.heap.size 1), .int x]) (rest := []) ⟨hx, hb, hml, hown, hts⟩ (ct_X1_entry_T (j := 1) hE ⟨_, hR⟩ (by decide) (by decide) x h) (va_cwS 2 hts (lw_S q770 q771 q47 q772) rfl rfl rfl (by decide +kernel) ⟨Nat.le_of_ble_eq_true rfl, Nat.le_of_ble_eq_true rfl⟩) (cc_pS hW0) rfl rfl hl.1 rfl (lv_room (Nat.le_of_ble_eq_true rfl)) dX1_peg_5 ⟨Nat.le_of_ble_eq_true rfl, Nat.le_of_ble_eq_true rfl⟩) hno (fun st t u x hq h1 h2 h3 => ⟨by rw [h1]; exact hq.1, by rw [h1]; exact hq.2⟩) hL (fun q h => h) Bd.notSynchronized
set_option maxHeartbeats 4000000 in
set_option maxRecDepth 100000 in
theorem ct_X1_peg_A {l : Launch} {s0 : State} {D : va_G} {DA : Nat → ClassId} {z0 : Nat} {C : CS} {M : MS} {o : Int64} {H : Heap} (hE : G0 l s0 D DA z0) (hR : RR s0 D DA z0 C M o H) {u : Nat} (hu : u < kN C 1) (kd y : Int32) (h : inR kd 0 2 = false) : MetT l yX1_peg (ws_ yX1_peg cX1_peg 9 (some .long)) ({ frames := 7, cells := 1, slots := 6, locals := 102 }) (cP s0 [.ref s0.heap.size, .int (nI u), .int kd, .int y] H) (cQT s0 "java/lang/IllegalArgumentException" (fun H1 => RR s0 D DA z0 C M o H1)) 1 6 (cF s0) := by
  refine MetT.ofW (cc := cX1_peg) (maxL := 9) (ret := (some .long)) (by decide) rfl ?_
  intro p e s m args below meth c s₁ Bd hml hv
  obtain ⟨rfl, rfl, hW0⟩ := hv
  have hx := Bd.exec
  have hb := Bd.bytes
  have hr := Bd.returns
  have hts := atoms_spec (ws := (ws_ yX1_peg cX1_peg 9 (some .long))) Bd.pre
  have hno := BodyLoose.noHandlers Bd (hts _ List.mem_cons_self)
  have hts : ∀ w ∈ lw_all, w.before _ s = true := fun w h => hts w (List.mem_cons_of_mem _ h)
  have hown : s.vm.findClass RX1 = some m.cls := findClass_of_methodNamed Bd.named
  have hlocks := Bd.notSynchronized
  have hK := va_K.moved hW0.alike hE.K
  have hL : gx_L s0.heap.size ([] : List Loc) := gx_L0
  obtain ⟨Y, hR⟩ := hR
  have hl := lv_entry ([.ref s0.heap.size, .int (nI u), .int kd, .int y]) (n := 9) (Nat.le_of_ble_eq_true rfl)
  rw [lg_entry_eq]
  generalize (lg_sl ([.ref s0.heap.size, .int (nI u), .int kd, .int y]) ++ List.replicate (9 - (lg_sl ([.ref s0.heap.size, .int (nI u), .int kd, .int y])).length) Slot.unset).toArray = ls at hl ⊢
  have hl : lv_has ls 9 [(0, .ref s0.heap.size), (1, .int (nI u)), (2, .int kd), (3, .int y)] := hl
  refine lv_aload_n hx hb dX1_peg_0 rfl (lv_at hl 0 rfl) ?_
  refine gx_get (D := D) (cl := gcl) (ci := 0) (v := .ref (aB s0.heap.size 1)) (C := RX1) (T := TX1) (N := 10) hx hb hts in_X1 hown hK hR.np rfl 2 (by decide) (hts _ q274) (fun _ h9 => h9) rfl dX1_peg_1 ?_
  refine lv_iload_n hx hb dX1_peg_4 rfl (lv_at hl 1 rfl) ?_
  refine cc_v (va_runS (As := [.ref (aB s0.heap.size 1), .int (nI u)]) (rest := []) ⟨hx, hb, hml, hown, hts⟩ (ct_X1_entry (j := 1) (u := u) hE hR (by decide) (by decide) hu) (va_cwS 2 hts (lw_S q770 q771 q47 q772) rfl rfl rfl (by decide +kernel) ⟨Nat.le_of_ble_eq_true rfl, Nat.le_of_ble_eq_true rfl⟩) (cc_pS hW0) rfl rfl hl.1 rfl (lv_room (Nat.le_of_ble_eq_true rfl)) dX1_peg_5 ⟨Nat.le_of_ble_eq_true rfl, Nat.le_of_ble_eq_true rfl⟩) hL (fun H locs hP1 hL => ?_)
  subst hP1
  refine lv_astore (lv' := [(4, .ref (yE Y 1 u)), (0, .ref s0.heap.size), (1, .int (nI u)), (2, .int kd), (3, .int y)]) hx hb dX1_peg_8 hl (by decide) rfl (fun ls hl => ?_)
  refine lv_iload_n hx hb dX1_peg_10 rfl (lv_at hl 3 rfl) ?_
  refine lv_iconst (v := 0) hx hb dX1_peg_11 (by decide) ?_
  refine lv_iconst (v := 2) hx hb dX1_peg_12 (by decide) ?_
  refine cc_v (va_runS (As := [.int kd, .int 0, .int 2]) (rest := []) ⟨hx, hb, hml, hown, hts⟩ (ct_X1_isIn hE kd 0 2) (va_cwS 3 hts (lw_S q540 q541 q47 q542) rfl rfl rfl (by decide +kernel) ⟨Nat.le_of_ble_eq_true rfl, Nat.le_of_ble_eq_true rfl⟩) (cc_pS hW0) rfl rfl hl.1 rfl (lv_room (Nat.le_of_ble_eq_true rfl)) dX1_peg_13 ⟨Nat.le_of_ble_eq_true rfl, Nat.le_of_ble_eq_true rfl⟩) hL (fun H locs hP1 hL => ?_)
  subst hP1
  exact gt_leave (va_runTS (As := [.int (bZ (inR kd 0 2))]) (rest := []) ⟨hx, hb, hml, hown, hts⟩ (ct_X1_argue_T hE ⟨_, hR⟩ (x := bZ (inR kd 0 2)) (by rw [h]; rfl)) (va_cwS 1 hts (lw_S q609 q610 q47 q611) rfl rfl rfl (by decide +kernel) ⟨Nat.le_of_ble_eq_true rfl, Nat.le_of_ble_eq_true rfl⟩) (cc_pS hW0) rfl rfl hl.1 rfl (lv_room (Nat.le_of_ble_eq_true rfl)) dX1_peg_16 ⟨Nat.le_of_ble_eq_true rfl, Nat.le_of_ble_eq_true rfl⟩) hno (fun st t u x hq h1 h2 h3 => ⟨by rw [h1]; exact hq.1, by rw [h1]; exact hq.2⟩) hL (fun q h => h) Bd.notSynchronized
set_option maxHeartbeats 4000000 in
set_option maxRecDepth 100000 in
theorem ct_X1_peg_I1 {l : Launch} {s0 : State} {D : va_G} {DA : Nat → ClassId} {z0 : Nat} {C : CS} {M : MS} {o : Int64} {H : Heap} (hE : G0 l s0 D DA z0) (hR : RR s0 D DA z0 C M o H) {u : Nat} (hu : u < kN C 1) (x : Int32) (h : inR x 0 (nI (kN C 2) - 1) = false) : MetT l yX1_peg (ws_ yX1_peg cX1_peg 9 (some .long)) ({ frames := 8, cells := 1, slots := 6, locals := 123 }) (cP s0 [.ref s0.heap.size, .int (nI u), .int 1, .int x] H) (cQT s0 "java/lang/IndexOutOfBoundsException" (fun H1 => RR s0 D DA z0 C M o H1)) 1 6 (cF s0) := by
  refine MetT.ofW (cc := cX1_peg) (maxL := 9) (ret := (some .long)) (by decide) rfl ?_
  intro p e s m args below meth c s₁ Bd hml hv
  obtain ⟨rfl, rfl, hW0⟩ := hv
  have hx := Bd.exec
  have hb := Bd.bytes
  have hr := Bd.returns
  have hts := atoms_spec (ws := (ws_ yX1_peg cX1_peg 9 (some .long))) Bd.pre
  have hno := BodyLoose.noHandlers Bd (hts _ List.mem_cons_self)
  have hts : ∀ w ∈ lw_all, w.before _ s = true := fun w h => hts w (List.mem_cons_of_mem _ h)
  have hown : s.vm.findClass RX1 = some m.cls := findClass_of_methodNamed Bd.named
  have hlocks := Bd.notSynchronized
  have hK := va_K.moved hW0.alike hE.K
  have hL : gx_L s0.heap.size ([] : List Loc) := gx_L0
  obtain ⟨Y, hR⟩ := hR
  have hl := lv_entry ([.ref s0.heap.size, .int (nI u), .int 1, .int x]) (n := 9) (Nat.le_of_ble_eq_true rfl)
  rw [lg_entry_eq]
  generalize (lg_sl ([.ref s0.heap.size, .int (nI u), .int 1, .int x]) ++ List.replicate (9 - (lg_sl ([.ref s0.heap.size, .int (nI u), .int 1, .int x])).length) Slot.unset).toArray = ls at hl ⊢
  have hl : lv_has ls 9 [(0, .ref s0.heap.size), (1, .int (nI u)), (2, .int 1), (3, .int x)] := hl
  refine lv_aload_n hx hb dX1_peg_0 rfl (lv_at hl 0 rfl) ?_
  refine gx_get (D := D) (cl := gcl) (ci := 0) (v := .ref (aB s0.heap.size 1)) (C := RX1) (T := TX1) (N := 10) hx hb hts in_X1 hown hK hR.np rfl 2 (by decide) (hts _ q274) (fun _ h9 => h9) rfl dX1_peg_1 ?_
  refine lv_iload_n hx hb dX1_peg_4 rfl (lv_at hl 1 rfl) ?_
  refine cc_v (va_runS (As := [.ref (aB s0.heap.size 1), .int (nI u)]) (rest := []) ⟨hx, hb, hml, hown, hts⟩ (ct_X1_entry (j := 1) (u := u) hE hR (by decide) (by decide) hu) (va_cwS 2 hts (lw_S q770 q771 q47 q772) rfl rfl rfl (by decide +kernel) ⟨Nat.le_of_ble_eq_true rfl, Nat.le_of_ble_eq_true rfl⟩) (cc_pS hW0) rfl rfl hl.1 rfl (lv_room (Nat.le_of_ble_eq_true rfl)) dX1_peg_5 ⟨Nat.le_of_ble_eq_true rfl, Nat.le_of_ble_eq_true rfl⟩) hL (fun H locs hP1 hL => ?_)
  subst hP1
  refine lv_astore (lv' := [(4, .ref (yE Y 1 u)), (0, .ref s0.heap.size), (1, .int (nI u)), (2, .int 1), (3, .int x)]) hx hb dX1_peg_8 hl (by decide) rfl (fun ls hl => ?_)
  refine lv_iload_n hx hb dX1_peg_10 rfl (lv_at hl 3 rfl) ?_
  refine lv_iconst (v := 0) hx hb dX1_peg_11 (by decide) ?_
  refine lv_iconst (v := 2) hx hb dX1_peg_12 (by decide) ?_
  refine cc_v (va_runS (As := [.int 1, .int 0, .int 2]) (rest := []) ⟨hx, hb, hml, hown, hts⟩ (ct_X1_isIn hE 1 0 2) (va_cwS 3 hts (lw_S q540 q541 q47 q542) rfl rfl rfl (by decide +kernel) ⟨Nat.le_of_ble_eq_true rfl, Nat.le_of_ble_eq_true rfl⟩) (cc_pS hW0) rfl rfl hl.1 rfl (lv_room (Nat.le_of_ble_eq_true rfl)) dX1_peg_13 ⟨Nat.le_of_ble_eq_true rfl, Nat.le_of_ble_eq_true rfl⟩) hL (fun H locs hP1 hL => ?_)
  subst hP1
  refine cc_0 (va_runS (As := [.int (bZ (inR 1 0 2))]) (rest := []) ⟨hx, hb, hml, hown, hts⟩ (ct_X1_argue hE (x := bZ (inR 1 0 2)) (by decide)) (va_cwS 1 hts (lw_S q609 q610 q47 q611) rfl rfl rfl (by decide +kernel) ⟨Nat.le_of_ble_eq_true rfl, Nat.le_of_ble_eq_true rfl⟩) (cc_pS hW0) rfl rfl hl.1 rfl (lv_room (Nat.le_of_ble_eq_true rfl)) dX1_peg_16 ⟨Nat.le_of_ble_eq_true rfl, Nat.le_of_ble_eq_true rfl⟩) hL (fun H locs hP1 hL => ?_)
  subst hP1
  refine lv_iload_n hx hb dX1_peg_19 rfl (lv_at hl 3 rfl) ?_
  refine lv_iconst (v := 1) hx hb dX1_peg_20 (by decide) ?_
  refine lv_icmp_ne (tgt := 33) hx hb dX1_peg_21 (by decide) (fun c21 => ?_) (fun c21 => ?_)
  · exact c21 rfl |>.elim
  · refine lv_aload_n hx hb dX1_peg_24 rfl (lv_at hl 1 rfl) ?_
    refine gx_get (D := D) (cl := gcl) (ci := 0) (v := .ref (aB s0.heap.size 2)) (C := RX1) (T := TX1) (N := 10) hx hb hts in_X1 hown hK hR.np rfl 3 (by decide) (hts _ q275) (fun _ h9 => h9) rfl dX1_peg_25 ?_
    refine lv_iload_n hx hb dX1_peg_28 rfl (lv_at hl 4 rfl) ?_
    exact gt_leave (va_runTS (As := [.ref (aB s0.heap.size 2), .int x]) (rest := []) ⟨hx, hb, hml, hown, hts⟩ (ct_X1_entry_T (j := 2) hE ⟨_, hR⟩ (by decide) (by decide) x h) (va_cwS 2 hts (lw_S q770 q771 q47 q772) rfl rfl rfl (by decide +kernel) ⟨Nat.le_of_ble_eq_true rfl, Nat.le_of_ble_eq_true rfl⟩) (cc_pS hW0) rfl rfl hl.1 rfl (lv_room (Nat.le_of_ble_eq_true rfl)) dX1_peg_29 ⟨Nat.le_of_ble_eq_true rfl, Nat.le_of_ble_eq_true rfl⟩) hno (fun st t u x hq h1 h2 h3 => ⟨by rw [h1]; exact hq.1, by rw [h1]; exact hq.2⟩) hL (fun q h => h) Bd.notSynchronized
set_option maxHeartbeats 4000000 in
set_option maxRecDepth 100000 in
theorem ct_X1_peg_I2 {l : Launch} {s0 : State} {D : va_G} {DA : Nat → ClassId} {z0 : Nat} {C : CS} {M : MS} {o : Int64} {H : Heap} (hE : G0 l s0 D DA z0) (hR : RR s0 D DA z0 C M o H) {u : Nat} (hu : u < kN C 1) (x : Int32) (h : in12 x = false) : MetT l yX1_peg (ws_ yX1_peg cX1_peg 9 (some .long)) ({ frames := 8, cells := 1, slots := 6, locals := 122 }) (cP s0 [.ref s0.heap.size, .int (nI u), .int 2, .int x] H) (cQT s0 "java/lang/IndexOutOfBoundsException" (fun H1 => RR s0 D DA z0 C M o H1)) 1 6 (cF s0) := by
  refine MetT.ofW (cc := cX1_peg) (maxL := 9) (ret := (some .long)) (by decide) rfl ?_
  intro p e s m args below meth c s₁ Bd hml hv
  obtain ⟨rfl, rfl, hW0⟩ := hv
  have hx := Bd.exec
  have hb := Bd.bytes
  have hr := Bd.returns
  have hts := atoms_spec (ws := (ws_ yX1_peg cX1_peg 9 (some .long))) Bd.pre
  have hno := BodyLoose.noHandlers Bd (hts _ List.mem_cons_self)
  have hts : ∀ w ∈ lw_all, w.before _ s = true := fun w h => hts w (List.mem_cons_of_mem _ h)
  have hown : s.vm.findClass RX1 = some m.cls := findClass_of_methodNamed Bd.named
  have hlocks := Bd.notSynchronized
  have hK := va_K.moved hW0.alike hE.K
  have hL : gx_L s0.heap.size ([] : List Loc) := gx_L0
  obtain ⟨Y, hR⟩ := hR
  have hl := lv_entry ([.ref s0.heap.size, .int (nI u), .int 2, .int x]) (n := 9) (Nat.le_of_ble_eq_true rfl)
  rw [lg_entry_eq]
  generalize (lg_sl ([.ref s0.heap.size, .int (nI u), .int 2, .int x]) ++ List.replicate (9 - (lg_sl ([.ref s0.heap.size, .int (nI u), .int 2, .int x])).length) Slot.unset).toArray = ls at hl ⊢
  have hl : lv_has ls 9 [(0, .ref s0.heap.size), (1, .int (nI u)), (2, .int 2), (3, .int x)] := hl
  refine lv_aload_n hx hb dX1_peg_0 rfl (lv_at hl 0 rfl) ?_
  refine gx_get (D := D) (cl := gcl) (ci := 0) (v := .ref (aB s0.heap.size 1)) (C := RX1) (T := TX1) (N := 10) hx hb hts in_X1 hown hK hR.np rfl 2 (by decide) (hts _ q274) (fun _ h9 => h9) rfl dX1_peg_1 ?_
  refine lv_iload_n hx hb dX1_peg_4 rfl (lv_at hl 1 rfl) ?_
  refine cc_v (va_runS (As := [.ref (aB s0.heap.size 1), .int (nI u)]) (rest := []) ⟨hx, hb, hml, hown, hts⟩ (ct_X1_entry (j := 1) (u := u) hE hR (by decide) (by decide) hu) (va_cwS 2 hts (lw_S q770 q771 q47 q772) rfl rfl rfl (by decide +kernel) ⟨Nat.le_of_ble_eq_true rfl, Nat.le_of_ble_eq_true rfl⟩) (cc_pS hW0) rfl rfl hl.1 rfl (lv_room (Nat.le_of_ble_eq_true rfl)) dX1_peg_5 ⟨Nat.le_of_ble_eq_true rfl, Nat.le_of_ble_eq_true rfl⟩) hL (fun H locs hP1 hL => ?_)
  subst hP1
  refine lv_astore (lv' := [(4, .ref (yE Y 1 u)), (0, .ref s0.heap.size), (1, .int (nI u)), (2, .int 2), (3, .int x)]) hx hb dX1_peg_8 hl (by decide) rfl (fun ls hl => ?_)
  refine lv_iload_n hx hb dX1_peg_10 rfl (lv_at hl 3 rfl) ?_
  refine lv_iconst (v := 0) hx hb dX1_peg_11 (by decide) ?_
  refine lv_iconst (v := 2) hx hb dX1_peg_12 (by decide) ?_
  refine cc_v (va_runS (As := [.int 2, .int 0, .int 2]) (rest := []) ⟨hx, hb, hml, hown, hts⟩ (ct_X1_isIn hE 2 0 2) (va_cwS 3 hts (lw_S q540 q541 q47 q542) rfl rfl rfl (by decide +kernel) ⟨Nat.le_of_ble_eq_true rfl, Nat.le_of_ble_eq_true rfl⟩) (cc_pS hW0) rfl rfl hl.1 rfl (lv_room (Nat.le_of_ble_eq_true rfl)) dX1_peg_13 ⟨Nat.le_of_ble_eq_true rfl, Nat.le_of_ble_eq_true rfl⟩) hL (fun H locs hP1 hL => ?_)
  subst hP1
  refine cc_0 (va_runS (As := [.int (bZ (inR 2 0 2))]) (rest := []) ⟨hx, hb, hml, hown, hts⟩ (ct_X1_argue hE (x := bZ (inR 2 0 2)) (by decide)) (va_cwS 1 hts (lw_S q609 q610 q47 q611) rfl rfl rfl (by decide +kernel) ⟨Nat.le_of_ble_eq_true rfl, Nat.le_of_ble_eq_true rfl⟩) (cc_pS hW0) rfl rfl hl.1 rfl (lv_room (Nat.le_of_ble_eq_true rfl)) dX1_peg_16 ⟨Nat.le_of_ble_eq_true rfl, Nat.le_of_ble_eq_true rfl⟩) hL (fun H locs hP1 hL => ?_)
  subst hP1
  refine lv_iload_n hx hb dX1_peg_19 rfl (lv_at hl 3 rfl) ?_
  refine lv_iconst (v := 1) hx hb dX1_peg_20 (by decide) ?_
  refine lv_icmp_ne (tgt := 33) hx hb dX1_peg_21 (by decide) (fun c21 => ?_) (fun c21 => ?_)
  · refine lv_iload_n hx hb dX1_peg_33 rfl (lv_at hl 3 rfl) ?_
    refine lv_iconst (v := 2) hx hb dX1_peg_34 (by decide) ?_
    refine lv_icmp_ne (tgt := 42) hx hb dX1_peg_35 (by decide) (fun c35 => ?_) (fun c35 => ?_)
    · exact c35 rfl |>.elim
    · refine lv_iload_n hx hb dX1_peg_38 rfl (lv_at hl 4 rfl) ?_
      exact gt_leave (va_runTS (As := [.int x]) (rest := []) ⟨hx, hb, hml, hown, hts⟩ (ct_X1_week_T hE ⟨_, hR⟩ (x := x) (h)) (va_cwS 1 hts (lw_S q729 q730 q47 q731) rfl rfl rfl (by decide +kernel) ⟨Nat.le_of_ble_eq_true rfl, Nat.le_of_ble_eq_true rfl⟩) (cc_pS hW0) rfl rfl hl.1 rfl (lv_room (Nat.le_of_ble_eq_true rfl)) dX1_peg_39 ⟨Nat.le_of_ble_eq_true rfl, Nat.le_of_ble_eq_true rfl⟩) hno (fun st t u x hq h1 h2 h3 => ⟨by rw [h1]; exact hq.1, by rw [h1]; exact hq.2⟩) hL (fun q h => h) Bd.notSynchronized
  · exact absurd c21 (by decide)
set_option maxHeartbeats 4000000 in
set_option maxRecDepth 100000 in
theorem ct_X1_peg_S0 {l : Launch} {s0 : State} {D : va_G} {DA : Nat → ClassId} {z0 : Nat} {C : CS} {M : MS} {o : Int64} {H : Heap} (hE : G0 l s0 D DA z0) (hR : RR s0 D DA z0 C M o H) {u : Nat} (hu : u < kN C 1) (h0 : ¬ kT C = 0) (x : Int32) : MetT l yX1_peg (ws_ yX1_peg cX1_peg 9 (some .long)) ({ frames := 7, cells := 1, slots := 6, locals := 102 }) (cP s0 [.ref s0.heap.size, .int (nI u), .int 0, .int x] H) (cQT s0 "java/lang/IllegalStateException" (fun H1 => RR s0 D DA z0 C M o H1)) 1 6 (cF s0) := by
  refine MetT.ofW (cc := cX1_peg) (maxL := 9) (ret := (some .long)) (by decide) rfl ?_
  intro p e s m args below meth c s₁ Bd hml hv
  obtain ⟨rfl, rfl, hW0⟩ := hv
  have hx := Bd.exec
  have hb := Bd.bytes
  have hr := Bd.returns
  have hts := atoms_spec (ws := (ws_ yX1_peg cX1_peg 9 (some .long))) Bd.pre
  have hno := BodyLoose.noHandlers Bd (hts _ List.mem_cons_self)
  have hts : ∀ w ∈ lw_all, w.before _ s = true := fun w h => hts w (List.mem_cons_of_mem _ h)
  have hown : s.vm.findClass RX1 = some m.cls := findClass_of_methodNamed Bd.named
  have hlocks := Bd.notSynchronized
  have hK := va_K.moved hW0.alike hE.K
  have hL : gx_L s0.heap.size ([] : List Loc) := gx_L0
  obtain ⟨Y, hR⟩ := hR
  have hl := lv_entry ([.ref s0.heap.size, .int (nI u), .int 0, .int x]) (n := 9) (Nat.le_of_ble_eq_true rfl)
  rw [lg_entry_eq]
  generalize (lg_sl ([.ref s0.heap.size, .int (nI u), .int 0, .int x]) ++ List.replicate (9 - (lg_sl ([.ref s0.heap.size, .int (nI u), .int 0, .int x])).length) Slot.unset).toArray = ls at hl ⊢
  have hl : lv_has ls 9 [(0, .ref s0.heap.size), (1, .int (nI u)), (2, .int 0), (3, .int x)] := hl
  refine lv_aload_n hx hb dX1_peg_0 rfl (lv_at hl 0 rfl) ?_
  refine gx_get (D := D) (cl := gcl) (ci := 0) (v := .ref (aB s0.heap.size 1)) (C := RX1) (T := TX1) (N := 10) hx hb hts in_X1 hown hK hR.np rfl 2 (by decide) (hts _ q274) (fun _ h9 => h9) rfl dX1_peg_1 ?_
  refine lv_iload_n hx hb dX1_peg_4 rfl (lv_at hl 1 rfl) ?_
  refine cc_v (va_runS (As := [.ref (aB s0.heap.size 1), .int (nI u)]) (rest := []) ⟨hx, hb, hml, hown, hts⟩ (ct_X1_entry (j := 1) (u := u) hE hR (by decide) (by decide) hu) (va_cwS 2 hts (lw_S q770 q771 q47 q772) rfl rfl rfl (by decide +kernel) ⟨Nat.le_of_ble_eq_true rfl, Nat.le_of_ble_eq_true rfl⟩) (cc_pS hW0) rfl rfl hl.1 rfl (lv_room (Nat.le_of_ble_eq_true rfl)) dX1_peg_5 ⟨Nat.le_of_ble_eq_true rfl, Nat.le_of_ble_eq_true rfl⟩) hL (fun H locs hP1 hL => ?_)
  subst hP1
  refine lv_astore (lv' := [(4, .ref (yE Y 1 u)), (0, .ref s0.heap.size), (1, .int (nI u)), (2, .int 0), (3, .int x)]) hx hb dX1_peg_8 hl (by decide) rfl (fun ls hl => ?_)
  refine lv_iload_n hx hb dX1_peg_10 rfl (lv_at hl 3 rfl) ?_
  refine lv_iconst (v := 0) hx hb dX1_peg_11 (by decide) ?_
  refine lv_iconst (v := 2) hx hb dX1_peg_12 (by decide) ?_
  refine cc_v (va_runS (As := [.int 0, .int 0, .int 2]) (rest := []) ⟨hx, hb, hml, hown, hts⟩ (ct_X1_isIn hE 0 0 2) (va_cwS 3 hts (lw_S q540 q541 q47 q542) rfl rfl rfl (by decide +kernel) ⟨Nat.le_of_ble_eq_true rfl, Nat.le_of_ble_eq_true rfl⟩) (cc_pS hW0) rfl rfl hl.1 rfl (lv_room (Nat.le_of_ble_eq_true rfl)) dX1_peg_13 ⟨Nat.le_of_ble_eq_true rfl, Nat.le_of_ble_eq_true rfl⟩) hL (fun H locs hP1 hL => ?_)
  subst hP1
  refine cc_0 (va_runS (As := [.int (bZ (inR 0 0 2))]) (rest := []) ⟨hx, hb, hml, hown, hts⟩ (ct_X1_argue hE (x := bZ (inR 0 0 2)) (by decide)) (va_cwS 1 hts (lw_S q609 q610 q47 q611) rfl rfl rfl (by decide +kernel) ⟨Nat.le_of_ble_eq_true rfl, Nat.le_of_ble_eq_true rfl⟩) (cc_pS hW0) rfl rfl hl.1 rfl (lv_room (Nat.le_of_ble_eq_true rfl)) dX1_peg_16 ⟨Nat.le_of_ble_eq_true rfl, Nat.le_of_ble_eq_true rfl⟩) hL (fun H locs hP1 hL => ?_)
  subst hP1
  refine lv_iload_n hx hb dX1_peg_19 rfl (lv_at hl 3 rfl) ?_
  refine lv_iconst (v := 1) hx hb dX1_peg_20 (by decide) ?_
  refine lv_icmp_ne (tgt := 33) hx hb dX1_peg_21 (by decide) (fun c21 => ?_) (fun c21 => ?_)
  · refine lv_iload_n hx hb dX1_peg_33 rfl (lv_at hl 3 rfl) ?_
    refine lv_iconst (v := 2) hx hb dX1_peg_34 (by decide) ?_
    refine lv_icmp_ne (tgt := 42) hx hb dX1_peg_35 (by decide) (fun c35 => ?_) (fun c35 => ?_)
    · refine lv_aload_n hx hb dX1_peg_42 rfl (lv_at hl 1 rfl) ?_
      refine gx_get (D := D) (cl := gcl) (ci := 0) (v := .int (kT C)) (C := RX1) (T := TX1) (N := 10) hx hb hts in_X1 hown hK hR.np rfl 8 (by decide) (hts _ q280) (fun _ h9 => h9) rfl dX1_peg_43 ?_
      refine lv_if_ne (tgt := 53) hx hb dX1_peg_46 (by decide) (fun c46 => ?_) (fun c46 => ?_)
      · refine lv_iconst (v := 0) hx hb dX1_peg_53 (by decide) ?_
        exact gt_leave (va_runTS (As := [.int 0]) (rest := []) ⟨hx, hb, hml, hown, hts⟩ (ct_X1_allow_T hE ⟨_, hR⟩ (x := 0) (rfl)) (va_cwS 1 hts (lw_S q666 q667 q47 q668) rfl rfl rfl (by decide +kernel) ⟨Nat.le_of_ble_eq_true rfl, Nat.le_of_ble_eq_true rfl⟩) (cc_pS hW0) rfl rfl hl.1 rfl (lv_room (Nat.le_of_ble_eq_true rfl)) dX1_peg_54 ⟨Nat.le_of_ble_eq_true rfl, Nat.le_of_ble_eq_true rfl⟩) hno (fun st t u x hq h1 h2 h3 => ⟨by rw [h1]; exact hq.1, by rw [h1]; exact hq.2⟩) hL (fun q h => h) Bd.notSynchronized
      · exact absurd c46 h0
    · exact absurd c35 (by decide)
  · exact absurd c21 (by decide)
set_option maxHeartbeats 4000000 in
set_option maxRecDepth 100000 in
theorem ct_X1_peg_S1 {l : Launch} {s0 : State} {D : va_G} {DA : Nat → ClassId} {z0 : Nat} {C : CS} {M : MS} {o : Int64} {H : Heap} (hE : G0 l s0 D DA z0) (hR : RR s0 D DA z0 C M o H) {u : Nat} (hu : u < kN C 1) (h0 : ¬ kT C = 0) {v : Nat} (hv : v < kN C 2) : MetT l yX1_peg (ws_ yX1_peg cX1_peg 9 (some .long)) ({ frames := 7, cells := 1, slots := 6, locals := 102 }) (cP s0 [.ref s0.heap.size, .int (nI u), .int 1, .int (nI v)] H) (cQT s0 "java/lang/IllegalStateException" (fun H1 => RR s0 D DA z0 C M o H1)) 1 6 (cF s0) := by
  refine MetT.ofW (cc := cX1_peg) (maxL := 9) (ret := (some .long)) (by decide) rfl ?_
  intro p e s m args below meth c s₁ Bd hml hv
  obtain ⟨rfl, rfl, hW0⟩ := hv
  have hx := Bd.exec
  have hb := Bd.bytes
  have hr := Bd.returns
  have hts := atoms_spec (ws := (ws_ yX1_peg cX1_peg 9 (some .long))) Bd.pre
  have hno := BodyLoose.noHandlers Bd (hts _ List.mem_cons_self)
  have hts : ∀ w ∈ lw_all, w.before _ s = true := fun w h => hts w (List.mem_cons_of_mem _ h)
  have hown : s.vm.findClass RX1 = some m.cls := findClass_of_methodNamed Bd.named
  have hlocks := Bd.notSynchronized
  have hK := va_K.moved hW0.alike hE.K
  have hL : gx_L s0.heap.size ([] : List Loc) := gx_L0
  obtain ⟨Y, hR⟩ := hR
  have hl := lv_entry ([.ref s0.heap.size, .int (nI u), .int 1, .int (nI v)]) (n := 9) (Nat.le_of_ble_eq_true rfl)
  rw [lg_entry_eq]
  generalize (lg_sl ([.ref s0.heap.size, .int (nI u), .int 1, .int (nI v)]) ++ List.replicate (9 - (lg_sl ([.ref s0.heap.size, .int (nI u), .int 1, .int (nI v)])).length) Slot.unset).toArray = ls at hl ⊢
  have hl : lv_has ls 9 [(0, .ref s0.heap.size), (1, .int (nI u)), (2, .int 1), (3, .int (nI v))] := hl
  refine lv_aload_n hx hb dX1_peg_0 rfl (lv_at hl 0 rfl) ?_
  refine gx_get (D := D) (cl := gcl) (ci := 0) (v := .ref (aB s0.heap.size 1)) (C := RX1) (T := TX1) (N := 10) hx hb hts in_X1 hown hK hR.np rfl 2 (by decide) (hts _ q274) (fun _ h9 => h9) rfl dX1_peg_1 ?_
  refine lv_iload_n hx hb dX1_peg_4 rfl (lv_at hl 1 rfl) ?_
  refine cc_v (va_runS (As := [.ref (aB s0.heap.size 1), .int (nI u)]) (rest := []) ⟨hx, hb, hml, hown, hts⟩ (ct_X1_entry (j := 1) (u := u) hE hR (by decide) (by decide) hu) (va_cwS 2 hts (lw_S q770 q771 q47 q772) rfl rfl rfl (by decide +kernel) ⟨Nat.le_of_ble_eq_true rfl, Nat.le_of_ble_eq_true rfl⟩) (cc_pS hW0) rfl rfl hl.1 rfl (lv_room (Nat.le_of_ble_eq_true rfl)) dX1_peg_5 ⟨Nat.le_of_ble_eq_true rfl, Nat.le_of_ble_eq_true rfl⟩) hL (fun H locs hP1 hL => ?_)
  subst hP1
  refine lv_astore (lv' := [(4, .ref (yE Y 1 u)), (0, .ref s0.heap.size), (1, .int (nI u)), (2, .int 1), (3, .int (nI v))]) hx hb dX1_peg_8 hl (by decide) rfl (fun ls hl => ?_)
  refine lv_iload_n hx hb dX1_peg_10 rfl (lv_at hl 3 rfl) ?_
  refine lv_iconst (v := 0) hx hb dX1_peg_11 (by decide) ?_
  refine lv_iconst (v := 2) hx hb dX1_peg_12 (by decide) ?_
  refine cc_v (va_runS (As := [.int 1, .int 0, .int 2]) (rest := []) ⟨hx, hb, hml, hown, hts⟩ (ct_X1_isIn hE 1 0 2) (va_cwS 3 hts (lw_S q540 q541 q47 q542) rfl rfl rfl (by decide +kernel) ⟨Nat.le_of_ble_eq_true rfl, Nat.le_of_ble_eq_true rfl⟩) (cc_pS hW0) rfl rfl hl.1 rfl (lv_room (Nat.le_of_ble_eq_true rfl)) dX1_peg_13 ⟨Nat.le_of_ble_eq_true rfl, Nat.le_of_ble_eq_true rfl⟩) hL (fun H locs hP1 hL => ?_)
  subst hP1
  refine cc_0 (va_runS (As := [.int (bZ (inR 1 0 2))]) (rest := []) ⟨hx, hb, hml, hown, hts⟩ (ct_X1_argue hE (x := bZ (inR 1 0 2)) (by decide)) (va_cwS 1 hts (lw_S q609 q610 q47 q611) rfl rfl rfl (by decide +kernel) ⟨Nat.le_of_ble_eq_true rfl, Nat.le_of_ble_eq_true rfl⟩) (cc_pS hW0) rfl rfl hl.1 rfl (lv_room (Nat.le_of_ble_eq_true rfl)) dX1_peg_16 ⟨Nat.le_of_ble_eq_true rfl, Nat.le_of_ble_eq_true rfl⟩) hL (fun H locs hP1 hL => ?_)
  subst hP1
  refine lv_iload_n hx hb dX1_peg_19 rfl (lv_at hl 3 rfl) ?_
  refine lv_iconst (v := 1) hx hb dX1_peg_20 (by decide) ?_
  refine lv_icmp_ne (tgt := 33) hx hb dX1_peg_21 (by decide) (fun c21 => ?_) (fun c21 => ?_)
  · exact c21 rfl |>.elim
  · refine lv_aload_n hx hb dX1_peg_24 rfl (lv_at hl 1 rfl) ?_
    refine gx_get (D := D) (cl := gcl) (ci := 0) (v := .ref (aB s0.heap.size 2)) (C := RX1) (T := TX1) (N := 10) hx hb hts in_X1 hown hK hR.np rfl 3 (by decide) (hts _ q275) (fun _ h9 => h9) rfl dX1_peg_25 ?_
    refine lv_iload_n hx hb dX1_peg_28 rfl (lv_at hl 4 rfl) ?_
    refine cc_v (va_runS (As := [.ref (aB s0.heap.size 2), .int (nI v)]) (rest := []) ⟨hx, hb, hml, hown, hts⟩ (ct_X1_entry (j := 2) (u := v) hE hR (by decide) (by decide) hv) (va_cwS 2 hts (lw_S q770 q771 q47 q772) rfl rfl rfl (by decide +kernel) ⟨Nat.le_of_ble_eq_true rfl, Nat.le_of_ble_eq_true rfl⟩) (cc_pS hW0) rfl rfl hl.1 rfl (lv_room (Nat.le_of_ble_eq_true rfl)) dX1_peg_29 ⟨Nat.le_of_ble_eq_true rfl, Nat.le_of_ble_eq_true rfl⟩) hL (fun H locs hP1 hL => ?_)
    subst hP1
    refine lv_pop hx hb dX1_peg_32 rfl ?_
    refine lv_iload_n hx hb dX1_peg_33 rfl (lv_at hl 3 rfl) ?_
    refine lv_iconst (v := 2) hx hb dX1_peg_34 (by decide) ?_
    refine lv_icmp_ne (tgt := 42) hx hb dX1_peg_35 (by decide) (fun c35 => ?_) (fun c35 => ?_)
    · refine lv_aload_n hx hb dX1_peg_42 rfl (lv_at hl 1 rfl) ?_
      refine gx_get (D := D) (cl := gcl) (ci := 0) (v := .int (kT C)) (C := RX1) (T := TX1) (N := 10) hx hb hts in_X1 hown hK hR.np rfl 8 (by decide) (hts _ q280) (fun _ h9 => h9) rfl dX1_peg_43 ?_
      refine lv_if_ne (tgt := 53) hx hb dX1_peg_46 (by decide) (fun c46 => ?_) (fun c46 => ?_)
      · refine lv_iconst (v := 0) hx hb dX1_peg_53 (by decide) ?_
        exact gt_leave (va_runTS (As := [.int 0]) (rest := []) ⟨hx, hb, hml, hown, hts⟩ (ct_X1_allow_T hE ⟨_, hR⟩ (x := 0) (rfl)) (va_cwS 1 hts (lw_S q666 q667 q47 q668) rfl rfl rfl (by decide +kernel) ⟨Nat.le_of_ble_eq_true rfl, Nat.le_of_ble_eq_true rfl⟩) (cc_pS hW0) rfl rfl hl.1 rfl (lv_room (Nat.le_of_ble_eq_true rfl)) dX1_peg_54 ⟨Nat.le_of_ble_eq_true rfl, Nat.le_of_ble_eq_true rfl⟩) hno (fun st t u x hq h1 h2 h3 => ⟨by rw [h1]; exact hq.1, by rw [h1]; exact hq.2⟩) hL (fun q h => h) Bd.notSynchronized
      · exact absurd c46 h0
    · exact absurd c35 (by decide)
set_option maxHeartbeats 4000000 in
set_option maxRecDepth 100000 in
theorem ct_X1_peg_S2 {l : Launch} {s0 : State} {D : va_G} {DA : Nat → ClassId} {z0 : Nat} {C : CS} {M : MS} {o : Int64} {H : Heap} (hE : G0 l s0 D DA z0) (hR : RR s0 D DA z0 C M o H) {u : Nat} (hu : u < kN C 1) (h0 : ¬ kT C = 0) {v : Nat} (hv : v < 12) : MetT l yX1_peg (ws_ yX1_peg cX1_peg 9 (some .long)) ({ frames := 7, cells := 1, slots := 6, locals := 102 }) (cP s0 [.ref s0.heap.size, .int (nI u), .int 2, .int (nI v)] H) (cQT s0 "java/lang/IllegalStateException" (fun H1 => RR s0 D DA z0 C M o H1)) 1 6 (cF s0) := by
  refine MetT.ofW (cc := cX1_peg) (maxL := 9) (ret := (some .long)) (by decide) rfl ?_
  intro p e s m args below meth c s₁ Bd hml hv
  obtain ⟨rfl, rfl, hW0⟩ := hv
  have hx := Bd.exec
  have hb := Bd.bytes
  have hr := Bd.returns
  have hts := atoms_spec (ws := (ws_ yX1_peg cX1_peg 9 (some .long))) Bd.pre
  have hno := BodyLoose.noHandlers Bd (hts _ List.mem_cons_self)
  have hts : ∀ w ∈ lw_all, w.before _ s = true := fun w h => hts w (List.mem_cons_of_mem _ h)
  have hown : s.vm.findClass RX1 = some m.cls := findClass_of_methodNamed Bd.named
  have hlocks := Bd.notSynchronized
  have hK := va_K.moved hW0.alike hE.K
  have hL : gx_L s0.heap.size ([] : List Loc) := gx_L0
  obtain ⟨Y, hR⟩ := hR
  have hl := lv_entry ([.ref s0.heap.size, .int (nI u), .int 2, .int (nI v)]) (n := 9) (Nat.le_of_ble_eq_true rfl)
  rw [lg_entry_eq]
  generalize (lg_sl ([.ref s0.heap.size, .int (nI u), .int 2, .int (nI v)]) ++ List.replicate (9 - (lg_sl ([.ref s0.heap.size, .int (nI u), .int 2, .int (nI v)])).length) Slot.unset).toArray = ls at hl ⊢
  have hl : lv_has ls 9 [(0, .ref s0.heap.size), (1, .int (nI u)), (2, .int 2), (3, .int (nI v))] := hl
  refine lv_aload_n hx hb dX1_peg_0 rfl (lv_at hl 0 rfl) ?_
  refine gx_get (D := D) (cl := gcl) (ci := 0) (v := .ref (aB s0.heap.size 1)) (C := RX1) (T := TX1) (N := 10) hx hb hts in_X1 hown hK hR.np rfl 2 (by decide) (hts _ q274) (fun _ h9 => h9) rfl dX1_peg_1 ?_
  refine lv_iload_n hx hb dX1_peg_4 rfl (lv_at hl 1 rfl) ?_
  refine cc_v (va_runS (As := [.ref (aB s0.heap.size 1), .int (nI u)]) (rest := []) ⟨hx, hb, hml, hown, hts⟩ (ct_X1_entry (j := 1) (u := u) hE hR (by decide) (by decide) hu) (va_cwS 2 hts (lw_S q770 q771 q47 q772) rfl rfl rfl (by decide +kernel) ⟨Nat.le_of_ble_eq_true rfl, Nat.le_of_ble_eq_true rfl⟩) (cc_pS hW0) rfl rfl hl.1 rfl (lv_room (Nat.le_of_ble_eq_true rfl)) dX1_peg_5 ⟨Nat.le_of_ble_eq_true rfl, Nat.le_of_ble_eq_true rfl⟩) hL (fun H locs hP1 hL => ?_)
  subst hP1
  refine lv_astore (lv' := [(4, .ref (yE Y 1 u)), (0, .ref s0.heap.size), (1, .int (nI u)), (2, .int 2), (3, .int (nI v))]) hx hb dX1_peg_8 hl (by decide) rfl (fun ls hl => ?_)
  refine lv_iload_n hx hb dX1_peg_10 rfl (lv_at hl 3 rfl) ?_
  refine lv_iconst (v := 0) hx hb dX1_peg_11 (by decide) ?_
  refine lv_iconst (v := 2) hx hb dX1_peg_12 (by decide) ?_
  refine cc_v (va_runS (As := [.int 2, .int 0, .int 2]) (rest := []) ⟨hx, hb, hml, hown, hts⟩ (ct_X1_isIn hE 2 0 2) (va_cwS 3 hts (lw_S q540 q541 q47 q542) rfl rfl rfl (by decide +kernel) ⟨Nat.le_of_ble_eq_true rfl, Nat.le_of_ble_eq_true rfl⟩) (cc_pS hW0) rfl rfl hl.1 rfl (lv_room (Nat.le_of_ble_eq_true rfl)) dX1_peg_13 ⟨Nat.le_of_ble_eq_true rfl, Nat.le_of_ble_eq_true rfl⟩) hL (fun H locs hP1 hL => ?_)
  subst hP1
  refine cc_0 (va_runS (As := [.int (bZ (inR 2 0 2))]) (rest := []) ⟨hx, hb, hml, hown, hts⟩ (ct_X1_argue hE (x := bZ (inR 2 0 2)) (by decide)) (va_cwS 1 hts (lw_S q609 q610 q47 q611) rfl rfl rfl (by decide +kernel) ⟨Nat.le_of_ble_eq_true rfl, Nat.le_of_ble_eq_true rfl⟩) (cc_pS hW0) rfl rfl hl.1 rfl (lv_room (Nat.le_of_ble_eq_true rfl)) dX1_peg_16 ⟨Nat.le_of_ble_eq_true rfl, Nat.le_of_ble_eq_true rfl⟩) hL (fun H locs hP1 hL => ?_)
  subst hP1
  refine lv_iload_n hx hb dX1_peg_19 rfl (lv_at hl 3 rfl) ?_
  refine lv_iconst (v := 1) hx hb dX1_peg_20 (by decide) ?_
  refine lv_icmp_ne (tgt := 33) hx hb dX1_peg_21 (by decide) (fun c21 => ?_) (fun c21 => ?_)
  · refine lv_iload_n hx hb dX1_peg_33 rfl (lv_at hl 3 rfl) ?_
    refine lv_iconst (v := 2) hx hb dX1_peg_34 (by decide) ?_
    refine lv_icmp_ne (tgt := 42) hx hb dX1_peg_35 (by decide) (fun c35 => ?_) (fun c35 => ?_)
    · exact c35 rfl |>.elim
    · refine lv_iload_n hx hb dX1_peg_38 rfl (lv_at hl 4 rfl) ?_
      refine cc_0 (va_runS (As := [.int (nI v)]) (rest := []) ⟨hx, hb, hml, hown, hts⟩ (ct_X1_week hE (x := nI v) (in12_n hv)) (va_cwS 1 hts (lw_S q729 q730 q47 q731) rfl rfl rfl (by decide +kernel) ⟨Nat.le_of_ble_eq_true rfl, Nat.le_of_ble_eq_true rfl⟩) (cc_pS hW0) rfl rfl hl.1 rfl (lv_room (Nat.le_of_ble_eq_true rfl)) dX1_peg_39 ⟨Nat.le_of_ble_eq_true rfl, Nat.le_of_ble_eq_true rfl⟩) hL (fun H locs hP1 hL => ?_)
      subst hP1
      refine lv_aload_n hx hb dX1_peg_42 rfl (lv_at hl 1 rfl) ?_
      refine gx_get (D := D) (cl := gcl) (ci := 0) (v := .int (kT C)) (C := RX1) (T := TX1) (N := 10) hx hb hts in_X1 hown hK hR.np rfl 8 (by decide) (hts _ q280) (fun _ h9 => h9) rfl dX1_peg_43 ?_
      refine lv_if_ne (tgt := 53) hx hb dX1_peg_46 (by decide) (fun c46 => ?_) (fun c46 => ?_)
      · refine lv_iconst (v := 0) hx hb dX1_peg_53 (by decide) ?_
        exact gt_leave (va_runTS (As := [.int 0]) (rest := []) ⟨hx, hb, hml, hown, hts⟩ (ct_X1_allow_T hE ⟨_, hR⟩ (x := 0) (rfl)) (va_cwS 1 hts (lw_S q666 q667 q47 q668) rfl rfl rfl (by decide +kernel) ⟨Nat.le_of_ble_eq_true rfl, Nat.le_of_ble_eq_true rfl⟩) (cc_pS hW0) rfl rfl hl.1 rfl (lv_room (Nat.le_of_ble_eq_true rfl)) dX1_peg_54 ⟨Nat.le_of_ble_eq_true rfl, Nat.le_of_ble_eq_true rfl⟩) hno (fun st t u x hq h1 h2 h3 => ⟨by rw [h1]; exact hq.1, by rw [h1]; exact hq.2⟩) hL (fun q h => h) Bd.notSynchronized
      · exact absurd c46 h0
  · exact absurd c21 (by decide)
set_option maxHeartbeats 4000000 in
set_option maxRecDepth 100000 in
/-- isTrue -/
theorem ct_X1_isTrue {l : Launch} {s0 : State} {D : va_G} {DA : Nat → ClassId} {z0 : Nat} {Y : YS} {C : CS} {M : MS} {o : Int64} {H : Heap} (hE : G0 l s0 D DA z0) (hR : GRb s0.heap.size s0.heap D DA z0 Y C M o H) {k wk : Nat} (hk : k < 12) (hw : wk < 12) (x : Int32) : Met l yX1_isTrue (ws_ yX1_isTrue cX1_isTrue 8 (some .boolean)) ({ frames := 4, cells := 0, slots := 0, locals := 89 }) (cP s0 [.ref s0.heap.size, .ref (aI s0.heap.size k), .int x, .int (nI wk)] H) (cQv (.int (bZ (c_tr C k x wk 12))) (fun H1 => H1 = H)) 0 0 (cF s0) := by
  refine Met.ofW (cc := cX1_isTrue) (maxL := 8) (ret := (some .boolean)) (by decide) rfl ?_
  intro p e s m args below meth c s₁ Bd hml hv
  obtain ⟨rfl, rfl, hW0⟩ := hv
  have hx := Bd.exec
  have hb := Bd.bytes
  have hr := Bd.returns
  have hts := atoms_spec (ws := (ws_ yX1_isTrue cX1_isTrue 8 (some .boolean))) Bd.pre
  have hts : ∀ w ∈ lw_all, w.before _ s = true := fun w h => hts w (List.mem_cons_of_mem _ h)
  have hown : s.vm.findClass RX1 = some m.cls := findClass_of_methodNamed Bd.named
  have hlocks := Bd.notSynchronized
  have hK := va_K.moved hW0.alike hE.K
  have hL : gx_L s0.heap.size ([] : List Loc) := gx_L0
  have hl := lv_entry ([.ref s0.heap.size, .ref (aI s0.heap.size k), .int x, .int (nI wk)]) (n := 8) (Nat.le_of_ble_eq_true rfl)
  rw [lg_entry_eq]
  generalize (lg_sl ([.ref s0.heap.size, .ref (aI s0.heap.size k), .int x, .int (nI wk)]) ++ List.replicate (8 - (lg_sl ([.ref s0.heap.size, .ref (aI s0.heap.size k), .int x, .int (nI wk)])).length) Slot.unset).toArray = ls at hl ⊢
  have hl : lv_has ls 8 [(0, .ref s0.heap.size), (1, .ref (aI s0.heap.size k)), (2, .int x), (3, .int (nI wk))] := hl
  have key : ∀ (n : Nat) (v : Nat) (locs : List Loc) (ls : Array Slot), v ≤ 12 → 12 < v + n → lv_has ls 8 [(4, .long (c_fr C k v)), (6, .int (bZ (c_tr C k x wk v))), (7, .int (nI v)), (0, .ref s0.heap.size), (1, .ref (aI s0.heap.size k)), (2, .int x), (3, .int (nI wk))] → gx_L s0.heap.size locs → W p l e (headSpec (ws_ yX1_isTrue cX1_isTrue 8 (some .boolean)) ({ frames := 4, cells := 0, slots := 0, locals := 89 })).room s m ([.ref s0.heap.size, .ref (aI s0.heap.size k), .int x, .int (nI wk)] : List Value).toArray below meth c s.heap locs 0 0 (MQ below (cQv (.int (bZ (c_tr C k x wk 12))) (fun H1 => H1 = s.heap)) ([.ref s0.heap.size, .ref (aI s0.heap.size k), .int x, .int (nI wk)] : List Value).toArray s 0 0 (cF s0)) (F0 m 13 ls []) := by
    intro n
    induction n with
    | zero =>
      intro v locs ls hv hn hl hL
      omega
    | succ n ih =>
      intro v locs ls hv hn hl hL
      refine lv_iload hx hb dX1_isTrue_13 (lv_at hl 2 rfl) ?_
      refine lv_bipush (v := 12) hx hb dX1_isTrue_15 (by decide) ?_
      refine lv_icmp_ge (tgt := 100) hx hb dX1_isTrue_17 (by decide) (fun c17 => ?_) (fun c17 => ?_)
      · have hkc : v = 12 := by have := n_ge (b := 12) c17 (by omega) (by omega); omega
        refine lv_iload hx hb dX1_isTrue_100 (lv_at hl 1 rfl) ?_
        exact W.zret (v := (bZ (c_tr C k x wk v))) hx hb hr (bZ_n _) (fun t ht hW => ⟨ovI (by rw [hkc]), ht⟩) hL dX1_isTrue_102
      · have hkc : v < 12 := by have := n_lt (b := 12) c17 (by omega) (by omega); omega
        refine lv_lload hx hb dX1_isTrue_20 (lv_at hl 0 rfl) ?_
        refine lv_aload_n hx hb dX1_isTrue_22 rfl (lv_at hl 3 rfl) ?_
        refine gx_get (D := D) (cl := gcl) (ci := 0) (v := .ref (aB s0.heap.size 2)) (C := RX1) (T := TX1) (N := 10) hx hb hts in_X1 hown hK hR.np rfl 3 (by decide) (hts _ q275) (fun _ h9 => h9) rfl dX1_isTrue_23 ?_
        refine lv_aload_n hx hb dX1_isTrue_26 rfl (lv_at hl 4 rfl) ?_
        refine gx_getN (D := D) (cl := gcl) (ci := 8) (v := .int (nI k)) (C := RX9) (T := TX9) (N := 19) hx hb hts in_X9 hown hK (hR.itm k hk) rfl 0 (by decide) (hE.nF hW0 q187) (fun _ h9 => h9) rfl dX1_isTrue_27 ?_
        refine lv_iload hx hb dX1_isTrue_30 (lv_at hl 2 rfl) ?_
        refine cc_v (va_runV (b := aB s0.heap.size 2) (As := [.int (nI k), .int (nI v)]) (rest := [.long (c_fr C k v)]) ⟨hx, hb, hml, hown, hts⟩ (ct_X2_sum (j := 2) hE hR (by decide) (by decide) (nI k) (nI v)) (cwV 2 hts (lw_V q448 q449 q450 q51 q451) rfl rfl rfl (by decide +kernel) ⟨Nat.le_of_ble_eq_true rfl, Nat.le_of_ble_eq_true rfl⟩) (cc_pV hW0 (cc_re hK (hR.bok 2 (by decide) (by decide)) (show gcl[2]? = _ from rfl))) rfl rfl hl.1 rfl (lv_room (Nat.le_of_ble_eq_true rfl)) dX1_isTrue_32 ⟨Nat.le_of_ble_eq_true rfl, Nat.le_of_ble_eq_true rfl⟩) hL (fun H locs hP1 hL => ?_)
        subst hP1
        refine lv_aload_n hx hb dX1_isTrue_35 rfl (lv_at hl 4 rfl) ?_
        refine gx_getN (D := D) (cl := gcl) (ci := 8) (v := .ref (aA s0.heap.size 3 k)) (C := RX9) (T := TX9) (N := 19) hx hb hts in_X9 hown hK (hR.itm k hk) rfl 17 (by decide) (hE.nF hW0 q218) (fun _ h9 => h9) rfl dX1_isTrue_36 ?_
        refine lv_iload hx hb dX1_isTrue_39 (lv_at hl 2 rfl) ?_
        refine gx_lald (n := 12) hx hb hK 0 (hR.arr 3 k (by decide) hk) rfl v (rfl) (by omega) (by decide) dX1_isTrue_41 ?_
        refine lv_ladd hx hb dX1_isTrue_42 ?_
        refine lv_aload_n hx hb dX1_isTrue_43 rfl (lv_at hl 4 rfl) ?_
        refine gx_getN (D := D) (cl := gcl) (ci := 8) (v := .ref (aA s0.heap.size 0 k)) (C := RX9) (T := TX9) (N := 19) hx hb hts in_X9 hown hK (hR.itm k hk) rfl 14 (by decide) (hE.nF hW0 q212) (fun _ h9 => h9) rfl dX1_isTrue_44 ?_
        refine lv_iload hx hb dX1_isTrue_47 (lv_at hl 2 rfl) ?_
        refine gx_lald (n := 12) hx hb hK 0 (hR.arr 0 k (by decide) hk) rfl v (rfl) (by omega) (by decide) dX1_isTrue_49 ?_
        refine lv_lsub hx hb dX1_isTrue_50 ?_
        refine lv_aload_n hx hb dX1_isTrue_51 rfl (lv_at hl 3 rfl) ?_
        refine gx_get (D := D) (cl := gcl) (ci := 0) (v := .ref (aB s0.heap.size 3)) (C := RX1) (T := TX1) (N := 10) hx hb hts in_X1 hown hK hR.np rfl 4 (by decide) (hts _ q276) (fun _ h9 => h9) rfl dX1_isTrue_52 ?_
        refine lv_aload_n hx hb dX1_isTrue_55 rfl (lv_at hl 4 rfl) ?_
        refine gx_getN (D := D) (cl := gcl) (ci := 8) (v := .int (nI k)) (C := RX9) (T := TX9) (N := 19) hx hb hts in_X9 hown hK (hR.itm k hk) rfl 0 (by decide) (hE.nF hW0 q187) (fun _ h9 => h9) rfl dX1_isTrue_56 ?_
        refine lv_iload hx hb dX1_isTrue_59 (lv_at hl 2 rfl) ?_
        refine cc_v (va_runV (b := aB s0.heap.size 3) (As := [.int (nI k), .int (nI v)]) (rest := [.long (((c_sum C 2 (nI k) (nI v) (kN C 2)) + (kA C 3 k v)) - (kA C 0 k v)), .long (c_fr C k v)]) ⟨hx, hb, hml, hown, hts⟩ (ct_X2_sum (j := 3) hE hR (by decide) (by decide) (nI k) (nI v)) (cwV 2 hts (lw_V q448 q449 q450 q51 q451) rfl rfl rfl (by decide +kernel) ⟨Nat.le_of_ble_eq_true rfl, Nat.le_of_ble_eq_true rfl⟩) (cc_pV hW0 (cc_re hK (hR.bok 3 (by decide) (by decide)) (show gcl[2]? = _ from rfl))) rfl rfl hl.1 rfl (lv_room (Nat.le_of_ble_eq_true rfl)) dX1_isTrue_61 ⟨Nat.le_of_ble_eq_true rfl, Nat.le_of_ble_eq_true rfl⟩) hL (fun H locs hP1 hL => ?_)
        subst hP1
        refine lv_lsub hx hb dX1_isTrue_64 ?_
        refine lv_ladd hx hb dX1_isTrue_65 ?_
        refine gx_tl (c_fr C k (v + 1)) (rfl) ?_
        refine lv_lstore (lv' := [(4, .long (c_fr C k (v + 1))), (6, .int (bZ (c_tr C k x wk v))), (7, .int (nI v)), (0, .ref s0.heap.size), (1, .ref (aI s0.heap.size k)), (2, .int x), (3, .int (nI wk))]) hx hb dX1_isTrue_66 hl (by decide) rfl (fun ls hl => ?_)
        refine lv_iload hx hb dX1_isTrue_68 (lv_at hl 1 rfl) ?_
        refine lv_if_eq (tgt := 91) hx hb dX1_isTrue_70 (by decide) (fun c70 => ?_) (fun c70 => ?_)
        · refine lv_iconst (v := 0) hx hb dX1_isTrue_91 (by decide) ?_
          refine gx_ti (bZ (c_tr C k x wk (v + 1))) ((bZ_f (by rw [c_tr, bZ_0.mp c70]; rfl)).symm) ?_
          refine lv_istore (lv' := [(6, .int (bZ (c_tr C k x wk (v + 1)))), (4, .long (c_fr C k (v + 1))), (7, .int (nI v)), (0, .ref s0.heap.size), (1, .ref (aI s0.heap.size k)), (2, .int x), (3, .int (nI wk))]) hx hb dX1_isTrue_92 hl (by decide) rfl (fun ls hl => ?_)
          refine lv_iinc (v := nI (v + 1)) (lv' := [(7, .int (nI (v + 1))), (6, .int (bZ (c_tr C k x wk (v + 1)))), (4, .long (c_fr C k (v + 1))), (0, .ref s0.heap.size), (1, .ref (aI s0.heap.size k)), (2, .int x), (3, .int (nI wk))]) hx hb dX1_isTrue_94 hl (k := 2) rfl (nI_1 v) (by decide) rfl (fun ls hl => ?_)
          refine lv_goto (tgt := 13) hx hb dX1_isTrue_97 (by decide) ?_
          exact ih (v + 1) _ _ (by omega) (by omega) (lv_sub hl [2, 1, 0, 3, 4, 5, 6] rfl) hL
        · refine lv_iload hx hb dX1_isTrue_73 (lv_at hl 2 rfl) ?_
          refine lv_iload_n hx hb dX1_isTrue_75 rfl (lv_at hl 6 rfl) ?_
          refine lv_icmp_lt (tgt := 87) hx hb dX1_isTrue_76 (by decide) (fun c76 => ?_) (fun c76 => ?_)
          · refine lv_iconst (v := 1) hx hb dX1_isTrue_87 (by decide) ?_
            refine lv_goto (tgt := 92) hx hb dX1_isTrue_88 (by decide) ?_
            refine gx_ti (bZ (c_tr C k x wk (v + 1))) ((bZ_t (by rw [c_tr, bZ_1.mp c70, decide_eq_true (n_lt (Int32.not_le.mpr c76) (by omega) (by omega))]; rfl)).symm) ?_
            refine lv_istore (lv' := [(6, .int (bZ (c_tr C k x wk (v + 1)))), (4, .long (c_fr C k (v + 1))), (7, .int (nI v)), (0, .ref s0.heap.size), (1, .ref (aI s0.heap.size k)), (2, .int x), (3, .int (nI wk))]) hx hb dX1_isTrue_92 hl (by decide) rfl (fun ls hl => ?_)
            refine lv_iinc (v := nI (v + 1)) (lv' := [(7, .int (nI (v + 1))), (6, .int (bZ (c_tr C k x wk (v + 1)))), (4, .long (c_fr C k (v + 1))), (0, .ref s0.heap.size), (1, .ref (aI s0.heap.size k)), (2, .int x), (3, .int (nI wk))]) hx hb dX1_isTrue_94 hl (k := 2) rfl (nI_1 v) (by decide) rfl (fun ls hl => ?_)
            refine lv_goto (tgt := 13) hx hb dX1_isTrue_97 (by decide) ?_
            exact ih (v + 1) _ _ (by omega) (by omega) (lv_sub hl [2, 1, 0, 3, 4, 5, 6] rfl) hL
          · have hvw : ¬ v < wk := fun q => c76 (nI_lt q (by omega))
            refine lv_lload hx hb dX1_isTrue_79 (lv_at hl 0 rfl) ?_
            refine lv_iload_n hx hb dX1_isTrue_81 rfl (lv_at hl 5 rfl) ?_
            refine lv_i2l (v := x.toInt64) hx hb dX1_isTrue_82 rfl ?_
            refine gx_lc_lt (tgt := 91) (pc1 := 84) hx hb rfl dX1_isTrue_83 dX1_isTrue_84 (by decide) (fun c84 => ?_) (fun c84 => ?_)
            · refine lv_iconst (v := 0) hx hb dX1_isTrue_91 (by decide) ?_
              refine gx_ti (bZ (c_tr C k x wk (v + 1))) ((bZ_f (by rw [c_tr, bZ_1.mp c70, decide_eq_false hvw, decide_eq_false (Int64.not_le.mpr c84)]; rfl)).symm) ?_
              refine lv_istore (lv' := [(6, .int (bZ (c_tr C k x wk (v + 1)))), (4, .long (c_fr C k (v + 1))), (7, .int (nI v)), (0, .ref s0.heap.size), (1, .ref (aI s0.heap.size k)), (2, .int x), (3, .int (nI wk))]) hx hb dX1_isTrue_92 hl (by decide) rfl (fun ls hl => ?_)
              refine lv_iinc (v := nI (v + 1)) (lv' := [(7, .int (nI (v + 1))), (6, .int (bZ (c_tr C k x wk (v + 1)))), (4, .long (c_fr C k (v + 1))), (0, .ref s0.heap.size), (1, .ref (aI s0.heap.size k)), (2, .int x), (3, .int (nI wk))]) hx hb dX1_isTrue_94 hl (k := 2) rfl (nI_1 v) (by decide) rfl (fun ls hl => ?_)
              refine lv_goto (tgt := 13) hx hb dX1_isTrue_97 (by decide) ?_
              exact ih (v + 1) _ _ (by omega) (by omega) (lv_sub hl [2, 1, 0, 3, 4, 5, 6] rfl) hL
            · refine lv_iconst (v := 1) hx hb dX1_isTrue_87 (by decide) ?_
              refine lv_goto (tgt := 92) hx hb dX1_isTrue_88 (by decide) ?_
              refine gx_ti (bZ (c_tr C k x wk (v + 1))) ((bZ_t (by rw [c_tr, bZ_1.mp c70, decide_eq_true (Int64.not_lt.mp c84), Bool.or_true]; rfl)).symm) ?_
              refine lv_istore (lv' := [(6, .int (bZ (c_tr C k x wk (v + 1)))), (4, .long (c_fr C k (v + 1))), (7, .int (nI v)), (0, .ref s0.heap.size), (1, .ref (aI s0.heap.size k)), (2, .int x), (3, .int (nI wk))]) hx hb dX1_isTrue_92 hl (by decide) rfl (fun ls hl => ?_)
              refine lv_iinc (v := nI (v + 1)) (lv' := [(7, .int (nI (v + 1))), (6, .int (bZ (c_tr C k x wk (v + 1)))), (4, .long (c_fr C k (v + 1))), (0, .ref s0.heap.size), (1, .ref (aI s0.heap.size k)), (2, .int x), (3, .int (nI wk))]) hx hb dX1_isTrue_94 hl (k := 2) rfl (nI_1 v) (by decide) rfl (fun ls hl => ?_)
              refine lv_goto (tgt := 13) hx hb dX1_isTrue_97 (by decide) ?_
              exact ih (v + 1) _ _ (by omega) (by omega) (lv_sub hl [2, 1, 0, 3, 4, 5, 6] rfl) hL
  refine lv_aload_n hx hb dX1_isTrue_0 rfl (lv_at hl 1 rfl) ?_
  refine gx_getN (D := D) (cl := gcl) (ci := 8) (v := .int (kI C 8 k)) (C := RX9) (T := TX9) (N := 19) hx hb hts in_X9 hown hK (hR.itm k hk) rfl 8 (by decide) (hE.nF hW0 q203) (fun _ h9 => h9) rfl dX1_isTrue_1 ?_
  refine lv_i2l (v := (kI C 8 k).toInt64) hx hb dX1_isTrue_4 rfl ?_
  refine gx_tl (c_fr C k 0) (rfl) ?_
  refine lv_lstore (lv' := [(4, .long (c_fr C k 0)), (0, .ref s0.heap.size), (1, .ref (aI s0.heap.size k)), (2, .int x), (3, .int (nI wk))]) hx hb dX1_isTrue_5 hl (by decide) rfl (fun ls hl => ?_)
  refine lv_iconst (v := 1) hx hb dX1_isTrue_7 (by decide) ?_
  refine gx_ti (bZ (c_tr C k x wk 0)) (rfl) ?_
  refine lv_istore (lv' := [(6, .int (bZ (c_tr C k x wk 0))), (4, .long (c_fr C k 0)), (0, .ref s0.heap.size), (1, .ref (aI s0.heap.size k)), (2, .int x), (3, .int (nI wk))]) hx hb dX1_isTrue_8 hl (by decide) rfl (fun ls hl => ?_)
  refine lv_iconst (v := 0) hx hb dX1_isTrue_10 (by decide) ?_
  refine gx_ti (nI 0) (by decide) ?_
  refine lv_istore (lv' := [(7, .int (nI 0)), (6, .int (bZ (c_tr C k x wk 0))), (4, .long (c_fr C k 0)), (0, .ref s0.heap.size), (1, .ref (aI s0.heap.size k)), (2, .int x), (3, .int (nI wk))]) hx hb dX1_isTrue_11 hl (by decide) rfl (fun ls hl => ?_)
  exact key 13 0 _ _ (by omega) (by omega) (lv_sub hl [2, 1, 0, 3, 4, 5, 6] rfl) hL
set_option maxHeartbeats 4000000 in
set_option maxRecDepth 100000 in
/-- promise -/
theorem ct_X1_promise {l : Launch} {s0 : State} {D : va_G} {DA : Nat → ClassId} {z0 : Nat} {Y : YS} {C : CS} {M : MS} {o : Int64} {H : Heap} (hE : G0 l s0 D DA z0) (hR : GRb s0.heap.size s0.heap D DA z0 Y C M o H) {k wk : Nat} (hk : k < 12) (hw : wk < 12) (x : Int32) (hn : inR x 1 1000 = true) (h0 : kT C = 0) : Met l yX1_promise (ws_ yX1_promise cX1_promise 6 (some .int)) ({ frames := 5, cells := 0, slots := 0, locals := 116 }) (cP s0 [.ref s0.heap.size, .int (nI k), .int x, .int (nI wk)] H) (cQv (.int (c_pm C k x (12 - wk) wk)) (fun H1 => H1 = H)) 0 0 (cF s0) := by
  refine Met.ofW (cc := cX1_promise) (maxL := 6) (ret := (some .int)) (by decide) rfl ?_
  intro p e s m args below meth c s₁ Bd hml hv
  obtain ⟨rfl, rfl, hW0⟩ := hv
  have hx := Bd.exec
  have hb := Bd.bytes
  have hr := Bd.returns
  have hts := atoms_spec (ws := (ws_ yX1_promise cX1_promise 6 (some .int))) Bd.pre
  have hts : ∀ w ∈ lw_all, w.before _ s = true := fun w h => hts w (List.mem_cons_of_mem _ h)
  have hown : s.vm.findClass RX1 = some m.cls := findClass_of_methodNamed Bd.named
  have hlocks := Bd.notSynchronized
  have hK := va_K.moved hW0.alike hE.K
  have hL : gx_L s0.heap.size ([] : List Loc) := gx_L0
  have hl := lv_entry ([.ref s0.heap.size, .int (nI k), .int x, .int (nI wk)]) (n := 6) (Nat.le_of_ble_eq_true rfl)
  rw [lg_entry_eq]
  generalize (lg_sl ([.ref s0.heap.size, .int (nI k), .int x, .int (nI wk)]) ++ List.replicate (6 - (lg_sl ([.ref s0.heap.size, .int (nI k), .int x, .int (nI wk)])).length) Slot.unset).toArray = ls at hl ⊢
  have hl : lv_has ls 6 [(0, .ref s0.heap.size), (1, .int (nI k)), (2, .int x), (3, .int (nI wk))] := hl
  have key : ∀ (n : Nat) (n2 v : Nat) (locs : List Loc) (ls : Array Slot), v ≤ 12 → 12 < v + n → n2 + v = 12 → c_pm C k x n2 v = c_pm C k x (12 - wk) wk → lv_has ls 6 [(5, .int (nI v)), (0, .ref s0.heap.size), (4, .ref (aI s0.heap.size k)), (2, .int x)] → gx_L s0.heap.size locs → W p l e (headSpec (ws_ yX1_promise cX1_promise 6 (some .int)) ({ frames := 5, cells := 0, slots := 0, locals := 116 })).room s m ([.ref s0.heap.size, .int (nI k), .int x, .int (nI wk)] : List Value).toArray below meth c s.heap locs 0 0 (MQ below (cQv (.int (c_pm C k x (12 - wk) wk)) (fun H1 => H1 = s.heap)) ([.ref s0.heap.size, .int (nI k), .int x, .int (nI wk)] : List Value).toArray s 0 0 (cF s0)) (F0 m 31 ls []) := by
    intro n
    induction n with
    | zero =>
      intro n2 v locs ls hv hn hn2 hq hl hL
      omega
    | succ n ih =>
      intro n2 v locs ls hv hn hn2 hq hl hL
      refine lv_iload hx hb dX1_promise_31 (lv_at hl 0 rfl) ?_
      refine lv_bipush (v := 12) hx hb dX1_promise_33 (by decide) ?_
      refine lv_icmp_ge (tgt := 56) hx hb dX1_promise_35 (by decide) (fun c35 => ?_) (fun c35 => ?_)
      · have hkc : v = 12 := by have := n_ge (b := 12) c35 (by omega) (by omega); omega
        refine lv_iload hx hb dX1_promise_56 (lv_at hl 0 rfl) ?_
        refine lv_bipush (v := 12) hx hb dX1_promise_58 (by decide) ?_
        refine lv_icmp_ge (tgt := 68) hx hb dX1_promise_60 (by decide) (fun c60 => ?_) (fun c60 => ?_)
        · refine lv_iconst (v := (-1)) hx hb dX1_promise_68 (by decide) ?_
          exact W.iret (v := (-1)) hx hb hr (fun t ht hW => ⟨ovI (by rw [← hq, show n2 = 0 by omega]; rfl), ht⟩) hL dX1_promise_69
        · exact absurd (n_lt (b := 12) c60 (by omega) (by omega)) (by omega)
      · have hkc : v < 12 := n_lt (b := 12) c35 (by omega) (by omega)
        refine lv_aload_n hx hb dX1_promise_38 rfl (lv_at hl 1 rfl) ?_
        refine lv_aload hx hb dX1_promise_39 (lv_at hl 2 rfl) ?_
        refine lv_iload_n hx hb dX1_promise_41 rfl (lv_at hl 3 rfl) ?_
        refine lv_iload hx hb dX1_promise_42 (lv_at hl 0 rfl) ?_
        refine cc_v (va_runV (b := s0.heap.size) (As := [.ref (aI s0.heap.size k), .int x, .int (nI v)]) (rest := []) ⟨hx, hb, hml, hown, hts⟩ (ct_X1_isTrue (wk := v) hE hR hk hkc x) (cwV 3 hts (lw_V q844 q846 qs22 q47 q847) rfl rfl rfl (by decide +kernel) ⟨Nat.le_of_ble_eq_true rfl, Nat.le_of_ble_eq_true rfl⟩) (cc_pV hW0 (cc_re hK hR.np (show gcl[0]? = _ from rfl))) rfl rfl hl.1 rfl (lv_room (Nat.le_of_ble_eq_true rfl)) dX1_promise_44 ⟨Nat.le_of_ble_eq_true rfl, Nat.le_of_ble_eq_true rfl⟩) hL (fun H locs hP1 hL => ?_)
        subst hP1
        refine lv_if_ne (tgt := 56) hx hb dX1_promise_47 (by decide) (fun c47 => ?_) (fun c47 => ?_)
        · have ht1 := bZ_1.mp c47
          refine lv_iload hx hb dX1_promise_56 (lv_at hl 0 rfl) ?_
          refine lv_bipush (v := 12) hx hb dX1_promise_58 (by decide) ?_
          refine lv_icmp_ge (tgt := 68) hx hb dX1_promise_60 (by decide) (fun c60 => ?_) (fun c60 => ?_)
          · exact absurd (n_ge (b := 12) c60 (by omega) (by omega)) (by omega)
          · refine lv_iload hx hb dX1_promise_63 (lv_at hl 0 rfl) ?_
            refine lv_goto (tgt := 69) hx hb dX1_promise_65 (by decide) ?_
            exact W.iret (v := (nI v)) hx hb hr (fun t ht hW => ⟨ovI (by rw [← hq]; obtain ⟨n3, rfl⟩ : ∃ n3, n2 = n3 + 1 := ⟨n2 - 1, by omega⟩; rw [c_pm, if_pos ht1]), ht⟩) hL dX1_promise_69
        · have ht1 := bZ_0.mp c47
          refine lv_iinc (v := nI (v + 1)) (lv' := [(5, .int (nI (v + 1))), (0, .ref s0.heap.size), (4, .ref (aI s0.heap.size k)), (2, .int x)]) hx hb dX1_promise_50 hl (k := 0) rfl (nI_1 v) (by decide) rfl (fun ls hl => ?_)
          refine lv_goto (tgt := 31) hx hb dX1_promise_53 (by decide) ?_
          exact ih (n2 - 1) (v + 1) _ _ (by omega) (by omega) (by omega) (by rw [← hq]; obtain ⟨n3, rfl⟩ : ∃ n3, n2 = n3 + 1 := ⟨n2 - 1, by omega⟩; rw [c_pm, ht1]; rfl) (lv_sub hl [0, 1, 2, 3] rfl) hL
  refine lv_aload_n hx hb dX1_promise_0 rfl (lv_at hl 0 rfl) ?_
  refine lv_iload_n hx hb dX1_promise_1 rfl (lv_at hl 1 rfl) ?_
  refine cc_v (va_runV (b := s0.heap.size) (As := [.int (nI k)]) (rest := []) ⟨hx, hb, hml, hown, hts⟩ (ct_X1_of hE hR hk) (cwV 1 hts (lw_V q536 q538 qs11 q47 q539) rfl rfl rfl (by decide +kernel) ⟨Nat.le_of_ble_eq_true rfl, Nat.le_of_ble_eq_true rfl⟩) (cc_pV hW0 (cc_re hK hR.np (show gcl[0]? = _ from rfl))) rfl rfl hl.1 rfl (lv_room (Nat.le_of_ble_eq_true rfl)) dX1_promise_2 ⟨Nat.le_of_ble_eq_true rfl, Nat.le_of_ble_eq_true rfl⟩) hL (fun H locs hP1 hL => ?_)
  subst hP1
  refine lv_pop hx hb dX1_promise_5 rfl ?_
  refine lv_iload_n hx hb dX1_promise_6 rfl (lv_at hl 3 rfl) ?_
  refine cc_0 (va_runS (As := [.int (nI wk)]) (rest := []) ⟨hx, hb, hml, hown, hts⟩ (ct_X1_week hE (x := nI wk) (in12_n hw)) (va_cwS 1 hts (lw_S q729 q730 q47 q731) rfl rfl rfl (by decide +kernel) ⟨Nat.le_of_ble_eq_true rfl, Nat.le_of_ble_eq_true rfl⟩) (cc_pS hW0) rfl rfl hl.1 rfl (lv_room (Nat.le_of_ble_eq_true rfl)) dX1_promise_7 ⟨Nat.le_of_ble_eq_true rfl, Nat.le_of_ble_eq_true rfl⟩) hL (fun H locs hP1 hL => ?_)
  subst hP1
  refine lv_iload_n hx hb dX1_promise_10 rfl (lv_at hl 2 rfl) ?_
  refine lv_iconst (v := 1) hx hb dX1_promise_11 (by decide) ?_
  refine lv_sipush (v := 1000) hx hb dX1_promise_12 (by decide) ?_
  refine cc_v (va_runS (As := [.int x, .int 1, .int 1000]) (rest := []) ⟨hx, hb, hml, hown, hts⟩ (ct_X1_isIn hE x 1 1000) (va_cwS 3 hts (lw_S q540 q541 q47 q542) rfl rfl rfl (by decide +kernel) ⟨Nat.le_of_ble_eq_true rfl, Nat.le_of_ble_eq_true rfl⟩) (cc_pS hW0) rfl rfl hl.1 rfl (lv_room (Nat.le_of_ble_eq_true rfl)) dX1_promise_15 ⟨Nat.le_of_ble_eq_true rfl, Nat.le_of_ble_eq_true rfl⟩) hL (fun H locs hP1 hL => ?_)
  subst hP1
  refine cc_0 (va_runS (As := [.int (bZ (inR x 1 1000))]) (rest := []) ⟨hx, hb, hml, hown, hts⟩ (ct_X1_argue hE (x := bZ (inR x 1 1000)) (by rw [hn]; decide)) (va_cwS 1 hts (lw_S q609 q610 q47 q611) rfl rfl rfl (by decide +kernel) ⟨Nat.le_of_ble_eq_true rfl, Nat.le_of_ble_eq_true rfl⟩) (cc_pS hW0) rfl rfl hl.1 rfl (lv_room (Nat.le_of_ble_eq_true rfl)) dX1_promise_18 ⟨Nat.le_of_ble_eq_true rfl, Nat.le_of_ble_eq_true rfl⟩) hL (fun H locs hP1 hL => ?_)
  subst hP1
  refine lv_aload_n hx hb dX1_promise_21 rfl (lv_at hl 0 rfl) ?_
  refine lv_iload_n hx hb dX1_promise_22 rfl (lv_at hl 1 rfl) ?_
  refine cc_v (va_runV (b := s0.heap.size) (As := [.int (nI k)]) (rest := []) ⟨hx, hb, hml, hown, hts⟩ (ct_X1_current hE hR hk h0) (cwV 1 hts (lw_V q794 q796 qs19 q47 q797) rfl rfl rfl (by decide +kernel) ⟨Nat.le_of_ble_eq_true rfl, Nat.le_of_ble_eq_true rfl⟩) (cc_pV hW0 (cc_re hK hR.np (show gcl[0]? = _ from rfl))) rfl rfl hl.1 rfl (lv_room (Nat.le_of_ble_eq_true rfl)) dX1_promise_23 ⟨Nat.le_of_ble_eq_true rfl, Nat.le_of_ble_eq_true rfl⟩) hL (fun H locs hP1 hL => ?_)
  subst hP1
  refine lv_astore (lv' := [(4, .ref (aI s0.heap.size k)), (0, .ref s0.heap.size), (1, .int (nI k)), (2, .int x), (3, .int (nI wk))]) hx hb dX1_promise_26 hl (by decide) rfl (fun ls hl => ?_)
  refine lv_iload_n hx hb dX1_promise_28 rfl (lv_at hl 4 rfl) ?_
  refine lv_istore (lv' := [(5, .int (nI wk)), (4, .ref (aI s0.heap.size k)), (0, .ref s0.heap.size), (1, .int (nI k)), (2, .int x), (3, .int (nI wk))]) hx hb dX1_promise_29 hl (by decide) rfl (fun ls hl => ?_)
  exact key 13 (12 - wk) wk _ _ (by omega) (by omega) (by omega) rfl (lv_sub hl [0, 2, 1, 4] rfl) hL
set_option maxHeartbeats 4000000 in
set_option maxRecDepth 100000 in
theorem ct_X1_promise_I {l : Launch} {s0 : State} {D : va_G} {DA : Nat → ClassId} {z0 : Nat} {C : CS} {M : MS} {o : Int64} {H : Heap} (hE : G0 l s0 D DA z0) (hR : RR s0 D DA z0 C M o H) (i n w : Int32) (h : (in12 i && in12 w) = false) : MetT l yX1_promise (ws_ yX1_promise cX1_promise 6 (some .int)) ({ frames := 8, cells := 1, slots := 6, locals := 123 }) (cP s0 [.ref s0.heap.size, .int i, .int n, .int w] H) (cQT s0 "java/lang/IndexOutOfBoundsException" (fun H1 => RR s0 D DA z0 C M o H1)) 1 6 (cF s0) := by
  refine MetT.ofW (cc := cX1_promise) (maxL := 6) (ret := (some .int)) (by decide) rfl ?_
  intro p e s m args below meth c s₁ Bd hml hv
  obtain ⟨rfl, rfl, hW0⟩ := hv
  have hx := Bd.exec
  have hb := Bd.bytes
  have hr := Bd.returns
  have hts := atoms_spec (ws := (ws_ yX1_promise cX1_promise 6 (some .int))) Bd.pre
  have hno := BodyLoose.noHandlers Bd (hts _ List.mem_cons_self)
  have hts : ∀ w ∈ lw_all, w.before _ s = true := fun w h => hts w (List.mem_cons_of_mem _ h)
  have hown : s.vm.findClass RX1 = some m.cls := findClass_of_methodNamed Bd.named
  have hlocks := Bd.notSynchronized
  have hK := va_K.moved hW0.alike hE.K
  have hL : gx_L s0.heap.size ([] : List Loc) := gx_L0
  obtain ⟨Y, hR⟩ := hR
  have hl := lv_entry ([.ref s0.heap.size, .int i, .int n, .int w]) (n := 6) (Nat.le_of_ble_eq_true rfl)
  rw [lg_entry_eq]
  generalize (lg_sl ([.ref s0.heap.size, .int i, .int n, .int w]) ++ List.replicate (6 - (lg_sl ([.ref s0.heap.size, .int i, .int n, .int w])).length) Slot.unset).toArray = ls at hl ⊢
  have hl : lv_has ls 6 [(0, .ref s0.heap.size), (1, .int i), (2, .int n), (3, .int w)] := hl
  cases hcs : in12 i with
  | false =>
    refine lv_aload_n hx hb dX1_promise_0 rfl (lv_at hl 0 rfl) ?_
    refine lv_iload_n hx hb dX1_promise_1 rfl (lv_at hl 1 rfl) ?_
    exact gt_leave (va_runTV (b := s0.heap.size) (As := [.int i]) (rest := []) ⟨hx, hb, hml, hown, hts⟩ (ct_X1_of_T hE ⟨_, hR⟩ (x := i) (hcs)) (cwV 1 hts (lw_V q536 q538 qs11 q47 q539) rfl rfl rfl (by decide +kernel) ⟨Nat.le_of_ble_eq_true rfl, Nat.le_of_ble_eq_true rfl⟩) (cc_pV hW0 (cc_re hK hR.np (show gcl[0]? = _ from rfl))) rfl rfl hl.1 rfl (lv_room (Nat.le_of_ble_eq_true rfl)) dX1_promise_2 ⟨Nat.le_of_ble_eq_true rfl, Nat.le_of_ble_eq_true rfl⟩) hno (fun st t u x hq h1 h2 h3 => ⟨by rw [h1]; exact hq.1, by rw [h1]; exact hq.2⟩) hL (fun q h => h) Bd.notSynchronized
  | true =>
    obtain ⟨k, hk, rfl⟩ := in12_t hcs
    rw [hcs, Bool.true_and] at h
    refine lv_aload_n hx hb dX1_promise_0 rfl (lv_at hl 0 rfl) ?_
    refine lv_iload_n hx hb dX1_promise_1 rfl (lv_at hl 1 rfl) ?_
    refine cc_v (va_runV (b := s0.heap.size) (As := [.int (nI k)]) (rest := []) ⟨hx, hb, hml, hown, hts⟩ (ct_X1_of hE hR hk) (cwV 1 hts (lw_V q536 q538 qs11 q47 q539) rfl rfl rfl (by decide +kernel) ⟨Nat.le_of_ble_eq_true rfl, Nat.le_of_ble_eq_true rfl⟩) (cc_pV hW0 (cc_re hK hR.np (show gcl[0]? = _ from rfl))) rfl rfl hl.1 rfl (lv_room (Nat.le_of_ble_eq_true rfl)) dX1_promise_2 ⟨Nat.le_of_ble_eq_true rfl, Nat.le_of_ble_eq_true rfl⟩) hL (fun H locs hP1 hL => ?_)
    subst hP1
    refine lv_pop hx hb dX1_promise_5 rfl ?_
    refine lv_iload_n hx hb dX1_promise_6 rfl (lv_at hl 3 rfl) ?_
    exact gt_leave (va_runTS (As := [.int w]) (rest := []) ⟨hx, hb, hml, hown, hts⟩ (ct_X1_week_T hE ⟨_, hR⟩ (x := w) (h)) (va_cwS 1 hts (lw_S q729 q730 q47 q731) rfl rfl rfl (by decide +kernel) ⟨Nat.le_of_ble_eq_true rfl, Nat.le_of_ble_eq_true rfl⟩) (cc_pS hW0) rfl rfl hl.1 rfl (lv_room (Nat.le_of_ble_eq_true rfl)) dX1_promise_7 ⟨Nat.le_of_ble_eq_true rfl, Nat.le_of_ble_eq_true rfl⟩) hno (fun st t u x hq h1 h2 h3 => ⟨by rw [h1]; exact hq.1, by rw [h1]; exact hq.2⟩) hL (fun q h => h) Bd.notSynchronized
set_option maxHeartbeats 4000000 in
set_option maxRecDepth 100000 in
theorem ct_X1_promise_A {l : Launch} {s0 : State} {D : va_G} {DA : Nat → ClassId} {z0 : Nat} {C : CS} {M : MS} {o : Int64} {H : Heap} (hE : G0 l s0 D DA z0) (hR : RR s0 D DA z0 C M o H) {k wk : Nat} (hk : k < 12) (hw : wk < 12) (x : Int32) (hn : inR x 1 1000 = false) : MetT l yX1_promise (ws_ yX1_promise cX1_promise 6 (some .int)) ({ frames := 7, cells := 1, slots := 6, locals := 102 }) (cP s0 [.ref s0.heap.size, .int (nI k), .int x, .int (nI wk)] H) (cQT s0 "java/lang/IllegalArgumentException" (fun H1 => RR s0 D DA z0 C M o H1)) 1 6 (cF s0) := by
  refine MetT.ofW (cc := cX1_promise) (maxL := 6) (ret := (some .int)) (by decide) rfl ?_
  intro p e s m args below meth c s₁ Bd hml hv
  obtain ⟨rfl, rfl, hW0⟩ := hv
  have hx := Bd.exec
  have hb := Bd.bytes
  have hr := Bd.returns
  have hts := atoms_spec (ws := (ws_ yX1_promise cX1_promise 6 (some .int))) Bd.pre
  have hno := BodyLoose.noHandlers Bd (hts _ List.mem_cons_self)
  have hts : ∀ w ∈ lw_all, w.before _ s = true := fun w h => hts w (List.mem_cons_of_mem _ h)
  have hown : s.vm.findClass RX1 = some m.cls := findClass_of_methodNamed Bd.named
  have hlocks := Bd.notSynchronized
  have hK := va_K.moved hW0.alike hE.K
  have hL : gx_L s0.heap.size ([] : List Loc) := gx_L0
  obtain ⟨Y, hR⟩ := hR
  have hl := lv_entry ([.ref s0.heap.size, .int (nI k), .int x, .int (nI wk)]) (n := 6) (Nat.le_of_ble_eq_true rfl)
  rw [lg_entry_eq]
  generalize (lg_sl ([.ref s0.heap.size, .int (nI k), .int x, .int (nI wk)]) ++ List.replicate (6 - (lg_sl ([.ref s0.heap.size, .int (nI k), .int x, .int (nI wk)])).length) Slot.unset).toArray = ls at hl ⊢
  have hl : lv_has ls 6 [(0, .ref s0.heap.size), (1, .int (nI k)), (2, .int x), (3, .int (nI wk))] := hl
  refine lv_aload_n hx hb dX1_promise_0 rfl (lv_at hl 0 rfl) ?_
  refine lv_iload_n hx hb dX1_promise_1 rfl (lv_at hl 1 rfl) ?_
  refine cc_v (va_runV (b := s0.heap.size) (As := [.int (nI k)]) (rest := []) ⟨hx, hb, hml, hown, hts⟩ (ct_X1_of hE hR hk) (cwV 1 hts (lw_V q536 q538 qs11 q47 q539) rfl rfl rfl (by decide +kernel) ⟨Nat.le_of_ble_eq_true rfl, Nat.le_of_ble_eq_true rfl⟩) (cc_pV hW0 (cc_re hK hR.np (show gcl[0]? = _ from rfl))) rfl rfl hl.1 rfl (lv_room (Nat.le_of_ble_eq_true rfl)) dX1_promise_2 ⟨Nat.le_of_ble_eq_true rfl, Nat.le_of_ble_eq_true rfl⟩) hL (fun H locs hP1 hL => ?_)
  subst hP1
  refine lv_pop hx hb dX1_promise_5 rfl ?_
  refine lv_iload_n hx hb dX1_promise_6 rfl (lv_at hl 3 rfl) ?_
  refine cc_0 (va_runS (As := [.int (nI wk)]) (rest := []) ⟨hx, hb, hml, hown, hts⟩ (ct_X1_week hE (x := nI wk) (in12_n hw)) (va_cwS 1 hts (lw_S q729 q730 q47 q731) rfl rfl rfl (by decide +kernel) ⟨Nat.le_of_ble_eq_true rfl, Nat.le_of_ble_eq_true rfl⟩) (cc_pS hW0) rfl rfl hl.1 rfl (lv_room (Nat.le_of_ble_eq_true rfl)) dX1_promise_7 ⟨Nat.le_of_ble_eq_true rfl, Nat.le_of_ble_eq_true rfl⟩) hL (fun H locs hP1 hL => ?_)
  subst hP1
  refine lv_iload_n hx hb dX1_promise_10 rfl (lv_at hl 2 rfl) ?_
  refine lv_iconst (v := 1) hx hb dX1_promise_11 (by decide) ?_
  refine lv_sipush (v := 1000) hx hb dX1_promise_12 (by decide) ?_
  refine cc_v (va_runS (As := [.int x, .int 1, .int 1000]) (rest := []) ⟨hx, hb, hml, hown, hts⟩ (ct_X1_isIn hE x 1 1000) (va_cwS 3 hts (lw_S q540 q541 q47 q542) rfl rfl rfl (by decide +kernel) ⟨Nat.le_of_ble_eq_true rfl, Nat.le_of_ble_eq_true rfl⟩) (cc_pS hW0) rfl rfl hl.1 rfl (lv_room (Nat.le_of_ble_eq_true rfl)) dX1_promise_15 ⟨Nat.le_of_ble_eq_true rfl, Nat.le_of_ble_eq_true rfl⟩) hL (fun H locs hP1 hL => ?_)
  subst hP1
  exact gt_leave (va_runTS (As := [.int (bZ (inR x 1 1000))]) (rest := []) ⟨hx, hb, hml, hown, hts⟩ (ct_X1_argue_T hE ⟨_, hR⟩ (x := bZ (inR x 1 1000)) (by rw [hn]; rfl)) (va_cwS 1 hts (lw_S q609 q610 q47 q611) rfl rfl rfl (by decide +kernel) ⟨Nat.le_of_ble_eq_true rfl, Nat.le_of_ble_eq_true rfl⟩) (cc_pS hW0) rfl rfl hl.1 rfl (lv_room (Nat.le_of_ble_eq_true rfl)) dX1_promise_18 ⟨Nat.le_of_ble_eq_true rfl, Nat.le_of_ble_eq_true rfl⟩) hno (fun st t u x hq h1 h2 h3 => ⟨by rw [h1]; exact hq.1, by rw [h1]; exact hq.2⟩) hL (fun q h => h) Bd.notSynchronized
set_option maxHeartbeats 4000000 in
set_option maxRecDepth 100000 in
theorem ct_X1_promise_S {l : Launch} {s0 : State} {D : va_G} {DA : Nat → ClassId} {z0 : Nat} {C : CS} {M : MS} {o : Int64} {H : Heap} (hE : G0 l s0 D DA z0) (hR : RR s0 D DA z0 C M o H) {k wk : Nat} (hk : k < 12) (hw : wk < 12) (x : Int32) (hn : inR x 1 1000 = true) (h0 : ¬ kT C = 0) : MetT l yX1_promise (ws_ yX1_promise cX1_promise 6 (some .int)) ({ frames := 8, cells := 1, slots := 6, locals := 124 }) (cP s0 [.ref s0.heap.size, .int (nI k), .int x, .int (nI wk)] H) (cQT s0 "java/lang/IllegalStateException" (fun H1 => RR s0 D DA z0 C M o H1)) 1 6 (cF s0) := by
  refine MetT.ofW (cc := cX1_promise) (maxL := 6) (ret := (some .int)) (by decide) rfl ?_
  intro p e s m args below meth c s₁ Bd hml hv
  obtain ⟨rfl, rfl, hW0⟩ := hv
  have hx := Bd.exec
  have hb := Bd.bytes
  have hr := Bd.returns
  have hts := atoms_spec (ws := (ws_ yX1_promise cX1_promise 6 (some .int))) Bd.pre
  have hno := BodyLoose.noHandlers Bd (hts _ List.mem_cons_self)
  have hts : ∀ w ∈ lw_all, w.before _ s = true := fun w h => hts w (List.mem_cons_of_mem _ h)
  have hown : s.vm.findClass RX1 = some m.cls := findClass_of_methodNamed Bd.named
  have hlocks := Bd.notSynchronized
  have hK := va_K.moved hW0.alike hE.K
  have hL : gx_L s0.heap.size ([] : List Loc) := gx_L0
  obtain ⟨Y, hR⟩ := hR
  have hl := lv_entry ([.ref s0.heap.size, .int (nI k), .int x, .int (nI wk)]) (n := 6) (Nat.le_of_ble_eq_true rfl)
  rw [lg_entry_eq]
  generalize (lg_sl ([.ref s0.heap.size, .int (nI k), .int x, .int (nI wk)]) ++ List.replicate (6 - (lg_sl ([.ref s0.heap.size, .int (nI k), .int x, .int (nI wk)])).length) Slot.unset).toArray = ls at hl ⊢
  have hl : lv_has ls 6 [(0, .ref s0.heap.size), (1, .int (nI k)), (2, .int x), (3, .int (nI wk))] := hl
  refine lv_aload_n hx hb dX1_promise_0 rfl (lv_at hl 0 rfl) ?_
  refine lv_iload_n hx hb dX1_promise_1 rfl (lv_at hl 1 rfl) ?_
  refine cc_v (va_runV (b := s0.heap.size) (As := [.int (nI k)]) (rest := []) ⟨hx, hb, hml, hown, hts⟩ (ct_X1_of hE hR hk) (cwV 1 hts (lw_V q536 q538 qs11 q47 q539) rfl rfl rfl (by decide +kernel) ⟨Nat.le_of_ble_eq_true rfl, Nat.le_of_ble_eq_true rfl⟩) (cc_pV hW0 (cc_re hK hR.np (show gcl[0]? = _ from rfl))) rfl rfl hl.1 rfl (lv_room (Nat.le_of_ble_eq_true rfl)) dX1_promise_2 ⟨Nat.le_of_ble_eq_true rfl, Nat.le_of_ble_eq_true rfl⟩) hL (fun H locs hP1 hL => ?_)
  subst hP1
  refine lv_pop hx hb dX1_promise_5 rfl ?_
  refine lv_iload_n hx hb dX1_promise_6 rfl (lv_at hl 3 rfl) ?_
  refine cc_0 (va_runS (As := [.int (nI wk)]) (rest := []) ⟨hx, hb, hml, hown, hts⟩ (ct_X1_week hE (x := nI wk) (in12_n hw)) (va_cwS 1 hts (lw_S q729 q730 q47 q731) rfl rfl rfl (by decide +kernel) ⟨Nat.le_of_ble_eq_true rfl, Nat.le_of_ble_eq_true rfl⟩) (cc_pS hW0) rfl rfl hl.1 rfl (lv_room (Nat.le_of_ble_eq_true rfl)) dX1_promise_7 ⟨Nat.le_of_ble_eq_true rfl, Nat.le_of_ble_eq_true rfl⟩) hL (fun H locs hP1 hL => ?_)
  subst hP1
  refine lv_iload_n hx hb dX1_promise_10 rfl (lv_at hl 2 rfl) ?_
  refine lv_iconst (v := 1) hx hb dX1_promise_11 (by decide) ?_
  refine lv_sipush (v := 1000) hx hb dX1_promise_12 (by decide) ?_
  refine cc_v (va_runS (As := [.int x, .int 1, .int 1000]) (rest := []) ⟨hx, hb, hml, hown, hts⟩ (ct_X1_isIn hE x 1 1000) (va_cwS 3 hts (lw_S q540 q541 q47 q542) rfl rfl rfl (by decide +kernel) ⟨Nat.le_of_ble_eq_true rfl, Nat.le_of_ble_eq_true rfl⟩) (cc_pS hW0) rfl rfl hl.1 rfl (lv_room (Nat.le_of_ble_eq_true rfl)) dX1_promise_15 ⟨Nat.le_of_ble_eq_true rfl, Nat.le_of_ble_eq_true rfl⟩) hL (fun H locs hP1 hL => ?_)
  subst hP1
  refine cc_0 (va_runS (As := [.int (bZ (inR x 1 1000))]) (rest := []) ⟨hx, hb, hml, hown, hts⟩ (ct_X1_argue hE (x := bZ (inR x 1 1000)) (by rw [hn]; decide)) (va_cwS 1 hts (lw_S q609 q610 q47 q611) rfl rfl rfl (by decide +kernel) ⟨Nat.le_of_ble_eq_true rfl, Nat.le_of_ble_eq_true rfl⟩) (cc_pS hW0) rfl rfl hl.1 rfl (lv_room (Nat.le_of_ble_eq_true rfl)) dX1_promise_18 ⟨Nat.le_of_ble_eq_true rfl, Nat.le_of_ble_eq_true rfl⟩) hL (fun H locs hP1 hL => ?_)
  subst hP1
  refine lv_aload_n hx hb dX1_promise_21 rfl (lv_at hl 0 rfl) ?_
  refine lv_iload_n hx hb dX1_promise_22 rfl (lv_at hl 1 rfl) ?_
  exact gt_leave (va_runTV (b := s0.heap.size) (As := [.int (nI k)]) (rest := []) ⟨hx, hb, hml, hown, hts⟩ (ct_X1_current_S hE ⟨_, hR⟩ hk h0) (cwV 1 hts (lw_V q794 q796 qs19 q47 q797) rfl rfl rfl (by decide +kernel) ⟨Nat.le_of_ble_eq_true rfl, Nat.le_of_ble_eq_true rfl⟩) (cc_pV hW0 (cc_re hK hR.np (show gcl[0]? = _ from rfl))) rfl rfl hl.1 rfl (lv_room (Nat.le_of_ble_eq_true rfl)) dX1_promise_23 ⟨Nat.le_of_ble_eq_true rfl, Nat.le_of_ble_eq_true rfl⟩) hno (fun st t u x hq h1 h2 h3 => ⟨by rw [h1]; exact hq.1, by rw [h1]; exact hq.2⟩) hL (fun q h => h) Bd.notSynchronized
set_option maxHeartbeats 4000000 in
set_option maxRecDepth 100000 in
theorem ct_X1_reserve_I {l : Launch} {s0 : State} {D : va_G} {DA : Nat → ClassId} {z0 : Nat} {C : CS} {M : MS} {o : Int64} {H : Heap} (hE : G0 l s0 D DA z0) (hR : RR s0 D DA z0 C M o H) (i n w : Int32) (h : (in12 i && in12 w) = false) : MetT l yX1_reserve (ws_ yX1_reserve cX1_reserve 5 (some .int)) ({ frames := 8, cells := 1, slots := 6, locals := 123 }) (cP s0 [.ref s0.heap.size, .int i, .int n, .int w] H) (cQT s0 "java/lang/IndexOutOfBoundsException" (fun H1 => RR s0 D DA z0 C M o H1)) 1 6 (cF s0) := by
  refine MetT.ofW (cc := cX1_reserve) (maxL := 5) (ret := (some .int)) (by decide) rfl ?_
  intro p e s m args below meth c s₁ Bd hml hv
  obtain ⟨rfl, rfl, hW0⟩ := hv
  have hx := Bd.exec
  have hb := Bd.bytes
  have hr := Bd.returns
  have hts := atoms_spec (ws := (ws_ yX1_reserve cX1_reserve 5 (some .int))) Bd.pre
  have hno := BodyLoose.noHandlers Bd (hts _ List.mem_cons_self)
  have hts : ∀ w ∈ lw_all, w.before _ s = true := fun w h => hts w (List.mem_cons_of_mem _ h)
  have hown : s.vm.findClass RX1 = some m.cls := findClass_of_methodNamed Bd.named
  have hlocks := Bd.notSynchronized
  have hK := va_K.moved hW0.alike hE.K
  have hL : gx_L s0.heap.size ([] : List Loc) := gx_L0
  obtain ⟨Y, hR⟩ := hR
  have hl := lv_entry ([.ref s0.heap.size, .int i, .int n, .int w]) (n := 5) (Nat.le_of_ble_eq_true rfl)
  rw [lg_entry_eq]
  generalize (lg_sl ([.ref s0.heap.size, .int i, .int n, .int w]) ++ List.replicate (5 - (lg_sl ([.ref s0.heap.size, .int i, .int n, .int w])).length) Slot.unset).toArray = ls at hl ⊢
  have hl : lv_has ls 5 [(0, .ref s0.heap.size), (1, .int i), (2, .int n), (3, .int w)] := hl
  cases hcs : in12 i with
  | false =>
    refine lv_aload_n hx hb dX1_reserve_0 rfl (lv_at hl 0 rfl) ?_
    refine lv_iload_n hx hb dX1_reserve_1 rfl (lv_at hl 1 rfl) ?_
    exact gt_leave (va_runTV (b := s0.heap.size) (As := [.int i]) (rest := []) ⟨hx, hb, hml, hown, hts⟩ (ct_X1_of_T hE ⟨_, hR⟩ (x := i) (hcs)) (cwV 1 hts (lw_V q536 q538 qs11 q47 q539) rfl rfl rfl (by decide +kernel) ⟨Nat.le_of_ble_eq_true rfl, Nat.le_of_ble_eq_true rfl⟩) (cc_pV hW0 (cc_re hK hR.np (show gcl[0]? = _ from rfl))) rfl rfl hl.1 rfl (lv_room (Nat.le_of_ble_eq_true rfl)) dX1_reserve_2 ⟨Nat.le_of_ble_eq_true rfl, Nat.le_of_ble_eq_true rfl⟩) hno (fun st t u x hq h1 h2 h3 => ⟨by rw [h1]; exact hq.1, by rw [h1]; exact hq.2⟩) hL (fun q h => h) Bd.notSynchronized
  | true =>
    obtain ⟨k, hk, rfl⟩ := in12_t hcs
    rw [hcs, Bool.true_and] at h
    refine lv_aload_n hx hb dX1_reserve_0 rfl (lv_at hl 0 rfl) ?_
    refine lv_iload_n hx hb dX1_reserve_1 rfl (lv_at hl 1 rfl) ?_
    refine cc_v (va_runV (b := s0.heap.size) (As := [.int (nI k)]) (rest := []) ⟨hx, hb, hml, hown, hts⟩ (ct_X1_of hE hR hk) (cwV 1 hts (lw_V q536 q538 qs11 q47 q539) rfl rfl rfl (by decide +kernel) ⟨Nat.le_of_ble_eq_true rfl, Nat.le_of_ble_eq_true rfl⟩) (cc_pV hW0 (cc_re hK hR.np (show gcl[0]? = _ from rfl))) rfl rfl hl.1 rfl (lv_room (Nat.le_of_ble_eq_true rfl)) dX1_reserve_2 ⟨Nat.le_of_ble_eq_true rfl, Nat.le_of_ble_eq_true rfl⟩) hL (fun H locs hP1 hL => ?_)
    subst hP1
    refine lv_pop hx hb dX1_reserve_5 rfl ?_
    refine lv_iload_n hx hb dX1_reserve_6 rfl (lv_at hl 3 rfl) ?_
    exact gt_leave (va_runTS (As := [.int w]) (rest := []) ⟨hx, hb, hml, hown, hts⟩ (ct_X1_week_T hE ⟨_, hR⟩ (x := w) (h)) (va_cwS 1 hts (lw_S q729 q730 q47 q731) rfl rfl rfl (by decide +kernel) ⟨Nat.le_of_ble_eq_true rfl, Nat.le_of_ble_eq_true rfl⟩) (cc_pS hW0) rfl rfl hl.1 rfl (lv_room (Nat.le_of_ble_eq_true rfl)) dX1_reserve_7 ⟨Nat.le_of_ble_eq_true rfl, Nat.le_of_ble_eq_true rfl⟩) hno (fun st t u x hq h1 h2 h3 => ⟨by rw [h1]; exact hq.1, by rw [h1]; exact hq.2⟩) hL (fun q h => h) Bd.notSynchronized
set_option maxHeartbeats 4000000 in
set_option maxRecDepth 100000 in
theorem ct_X1_reserve_A {l : Launch} {s0 : State} {D : va_G} {DA : Nat → ClassId} {z0 : Nat} {C : CS} {M : MS} {o : Int64} {H : Heap} (hE : G0 l s0 D DA z0) (hR : RR s0 D DA z0 C M o H) {k wk : Nat} (hk : k < 12) (hw : wk < 12) (x : Int32) (hn : inR x 1 1000 = false) : MetT l yX1_reserve (ws_ yX1_reserve cX1_reserve 5 (some .int)) ({ frames := 7, cells := 1, slots := 6, locals := 102 }) (cP s0 [.ref s0.heap.size, .int (nI k), .int x, .int (nI wk)] H) (cQT s0 "java/lang/IllegalArgumentException" (fun H1 => RR s0 D DA z0 C M o H1)) 1 6 (cF s0) := by
  refine MetT.ofW (cc := cX1_reserve) (maxL := 5) (ret := (some .int)) (by decide) rfl ?_
  intro p e s m args below meth c s₁ Bd hml hv
  obtain ⟨rfl, rfl, hW0⟩ := hv
  have hx := Bd.exec
  have hb := Bd.bytes
  have hr := Bd.returns
  have hts := atoms_spec (ws := (ws_ yX1_reserve cX1_reserve 5 (some .int))) Bd.pre
  have hno := BodyLoose.noHandlers Bd (hts _ List.mem_cons_self)
  have hts : ∀ w ∈ lw_all, w.before _ s = true := fun w h => hts w (List.mem_cons_of_mem _ h)
  have hown : s.vm.findClass RX1 = some m.cls := findClass_of_methodNamed Bd.named
  have hlocks := Bd.notSynchronized
  have hK := va_K.moved hW0.alike hE.K
  have hL : gx_L s0.heap.size ([] : List Loc) := gx_L0
  obtain ⟨Y, hR⟩ := hR
  have hl := lv_entry ([.ref s0.heap.size, .int (nI k), .int x, .int (nI wk)]) (n := 5) (Nat.le_of_ble_eq_true rfl)
  rw [lg_entry_eq]
  generalize (lg_sl ([.ref s0.heap.size, .int (nI k), .int x, .int (nI wk)]) ++ List.replicate (5 - (lg_sl ([.ref s0.heap.size, .int (nI k), .int x, .int (nI wk)])).length) Slot.unset).toArray = ls at hl ⊢
  have hl : lv_has ls 5 [(0, .ref s0.heap.size), (1, .int (nI k)), (2, .int x), (3, .int (nI wk))] := hl
  refine lv_aload_n hx hb dX1_reserve_0 rfl (lv_at hl 0 rfl) ?_
  refine lv_iload_n hx hb dX1_reserve_1 rfl (lv_at hl 1 rfl) ?_
  refine cc_v (va_runV (b := s0.heap.size) (As := [.int (nI k)]) (rest := []) ⟨hx, hb, hml, hown, hts⟩ (ct_X1_of hE hR hk) (cwV 1 hts (lw_V q536 q538 qs11 q47 q539) rfl rfl rfl (by decide +kernel) ⟨Nat.le_of_ble_eq_true rfl, Nat.le_of_ble_eq_true rfl⟩) (cc_pV hW0 (cc_re hK hR.np (show gcl[0]? = _ from rfl))) rfl rfl hl.1 rfl (lv_room (Nat.le_of_ble_eq_true rfl)) dX1_reserve_2 ⟨Nat.le_of_ble_eq_true rfl, Nat.le_of_ble_eq_true rfl⟩) hL (fun H locs hP1 hL => ?_)
  subst hP1
  refine lv_pop hx hb dX1_reserve_5 rfl ?_
  refine lv_iload_n hx hb dX1_reserve_6 rfl (lv_at hl 3 rfl) ?_
  refine cc_0 (va_runS (As := [.int (nI wk)]) (rest := []) ⟨hx, hb, hml, hown, hts⟩ (ct_X1_week hE (x := nI wk) (in12_n hw)) (va_cwS 1 hts (lw_S q729 q730 q47 q731) rfl rfl rfl (by decide +kernel) ⟨Nat.le_of_ble_eq_true rfl, Nat.le_of_ble_eq_true rfl⟩) (cc_pS hW0) rfl rfl hl.1 rfl (lv_room (Nat.le_of_ble_eq_true rfl)) dX1_reserve_7 ⟨Nat.le_of_ble_eq_true rfl, Nat.le_of_ble_eq_true rfl⟩) hL (fun H locs hP1 hL => ?_)
  subst hP1
  refine lv_iload_n hx hb dX1_reserve_10 rfl (lv_at hl 2 rfl) ?_
  refine lv_iconst (v := 1) hx hb dX1_reserve_11 (by decide) ?_
  refine lv_sipush (v := 1000) hx hb dX1_reserve_12 (by decide) ?_
  refine cc_v (va_runS (As := [.int x, .int 1, .int 1000]) (rest := []) ⟨hx, hb, hml, hown, hts⟩ (ct_X1_isIn hE x 1 1000) (va_cwS 3 hts (lw_S q540 q541 q47 q542) rfl rfl rfl (by decide +kernel) ⟨Nat.le_of_ble_eq_true rfl, Nat.le_of_ble_eq_true rfl⟩) (cc_pS hW0) rfl rfl hl.1 rfl (lv_room (Nat.le_of_ble_eq_true rfl)) dX1_reserve_15 ⟨Nat.le_of_ble_eq_true rfl, Nat.le_of_ble_eq_true rfl⟩) hL (fun H locs hP1 hL => ?_)
  subst hP1
  exact gt_leave (va_runTS (As := [.int (bZ (inR x 1 1000))]) (rest := []) ⟨hx, hb, hml, hown, hts⟩ (ct_X1_argue_T hE ⟨_, hR⟩ (x := bZ (inR x 1 1000)) (by rw [hn]; rfl)) (va_cwS 1 hts (lw_S q609 q610 q47 q611) rfl rfl rfl (by decide +kernel) ⟨Nat.le_of_ble_eq_true rfl, Nat.le_of_ble_eq_true rfl⟩) (cc_pS hW0) rfl rfl hl.1 rfl (lv_room (Nat.le_of_ble_eq_true rfl)) dX1_reserve_18 ⟨Nat.le_of_ble_eq_true rfl, Nat.le_of_ble_eq_true rfl⟩) hno (fun st t u x hq h1 h2 h3 => ⟨by rw [h1]; exact hq.1, by rw [h1]; exact hq.2⟩) hL (fun q h => h) Bd.notSynchronized
set_option maxHeartbeats 4000000 in
set_option maxRecDepth 100000 in
theorem ct_X1_reserve_S {l : Launch} {s0 : State} {D : va_G} {DA : Nat → ClassId} {z0 : Nat} {C : CS} {M : MS} {o : Int64} {H : Heap} (hE : G0 l s0 D DA z0) (hR : RR s0 D DA z0 C M o H) {k wk : Nat} (hk : k < 12) (hw : wk < 12) (x : Int32) (hn : inR x 1 1000 = true) (h0 : ¬ kT C = 0) : MetT l yX1_reserve (ws_ yX1_reserve cX1_reserve 5 (some .int)) ({ frames := 8, cells := 1, slots := 6, locals := 124 }) (cP s0 [.ref s0.heap.size, .int (nI k), .int x, .int (nI wk)] H) (cQT s0 "java/lang/IllegalStateException" (fun H1 => RR s0 D DA z0 C M o H1)) 1 6 (cF s0) := by
  refine MetT.ofW (cc := cX1_reserve) (maxL := 5) (ret := (some .int)) (by decide) rfl ?_
  intro p e s m args below meth c s₁ Bd hml hv
  obtain ⟨rfl, rfl, hW0⟩ := hv
  have hx := Bd.exec
  have hb := Bd.bytes
  have hr := Bd.returns
  have hts := atoms_spec (ws := (ws_ yX1_reserve cX1_reserve 5 (some .int))) Bd.pre
  have hno := BodyLoose.noHandlers Bd (hts _ List.mem_cons_self)
  have hts : ∀ w ∈ lw_all, w.before _ s = true := fun w h => hts w (List.mem_cons_of_mem _ h)
  have hown : s.vm.findClass RX1 = some m.cls := findClass_of_methodNamed Bd.named
  have hlocks := Bd.notSynchronized
  have hK := va_K.moved hW0.alike hE.K
  have hL : gx_L s0.heap.size ([] : List Loc) := gx_L0
  obtain ⟨Y, hR⟩ := hR
  have hl := lv_entry ([.ref s0.heap.size, .int (nI k), .int x, .int (nI wk)]) (n := 5) (Nat.le_of_ble_eq_true rfl)
  rw [lg_entry_eq]
  generalize (lg_sl ([.ref s0.heap.size, .int (nI k), .int x, .int (nI wk)]) ++ List.replicate (5 - (lg_sl ([.ref s0.heap.size, .int (nI k), .int x, .int (nI wk)])).length) Slot.unset).toArray = ls at hl ⊢
  have hl : lv_has ls 5 [(0, .ref s0.heap.size), (1, .int (nI k)), (2, .int x), (3, .int (nI wk))] := hl
  refine lv_aload_n hx hb dX1_reserve_0 rfl (lv_at hl 0 rfl) ?_
  refine lv_iload_n hx hb dX1_reserve_1 rfl (lv_at hl 1 rfl) ?_
  refine cc_v (va_runV (b := s0.heap.size) (As := [.int (nI k)]) (rest := []) ⟨hx, hb, hml, hown, hts⟩ (ct_X1_of hE hR hk) (cwV 1 hts (lw_V q536 q538 qs11 q47 q539) rfl rfl rfl (by decide +kernel) ⟨Nat.le_of_ble_eq_true rfl, Nat.le_of_ble_eq_true rfl⟩) (cc_pV hW0 (cc_re hK hR.np (show gcl[0]? = _ from rfl))) rfl rfl hl.1 rfl (lv_room (Nat.le_of_ble_eq_true rfl)) dX1_reserve_2 ⟨Nat.le_of_ble_eq_true rfl, Nat.le_of_ble_eq_true rfl⟩) hL (fun H locs hP1 hL => ?_)
  subst hP1
  refine lv_pop hx hb dX1_reserve_5 rfl ?_
  refine lv_iload_n hx hb dX1_reserve_6 rfl (lv_at hl 3 rfl) ?_
  refine cc_0 (va_runS (As := [.int (nI wk)]) (rest := []) ⟨hx, hb, hml, hown, hts⟩ (ct_X1_week hE (x := nI wk) (in12_n hw)) (va_cwS 1 hts (lw_S q729 q730 q47 q731) rfl rfl rfl (by decide +kernel) ⟨Nat.le_of_ble_eq_true rfl, Nat.le_of_ble_eq_true rfl⟩) (cc_pS hW0) rfl rfl hl.1 rfl (lv_room (Nat.le_of_ble_eq_true rfl)) dX1_reserve_7 ⟨Nat.le_of_ble_eq_true rfl, Nat.le_of_ble_eq_true rfl⟩) hL (fun H locs hP1 hL => ?_)
  subst hP1
  refine lv_iload_n hx hb dX1_reserve_10 rfl (lv_at hl 2 rfl) ?_
  refine lv_iconst (v := 1) hx hb dX1_reserve_11 (by decide) ?_
  refine lv_sipush (v := 1000) hx hb dX1_reserve_12 (by decide) ?_
  refine cc_v (va_runS (As := [.int x, .int 1, .int 1000]) (rest := []) ⟨hx, hb, hml, hown, hts⟩ (ct_X1_isIn hE x 1 1000) (va_cwS 3 hts (lw_S q540 q541 q47 q542) rfl rfl rfl (by decide +kernel) ⟨Nat.le_of_ble_eq_true rfl, Nat.le_of_ble_eq_true rfl⟩) (cc_pS hW0) rfl rfl hl.1 rfl (lv_room (Nat.le_of_ble_eq_true rfl)) dX1_reserve_15 ⟨Nat.le_of_ble_eq_true rfl, Nat.le_of_ble_eq_true rfl⟩) hL (fun H locs hP1 hL => ?_)
  subst hP1
  refine cc_0 (va_runS (As := [.int (bZ (inR x 1 1000))]) (rest := []) ⟨hx, hb, hml, hown, hts⟩ (ct_X1_argue hE (x := bZ (inR x 1 1000)) (by rw [hn]; decide)) (va_cwS 1 hts (lw_S q609 q610 q47 q611) rfl rfl rfl (by decide +kernel) ⟨Nat.le_of_ble_eq_true rfl, Nat.le_of_ble_eq_true rfl⟩) (cc_pS hW0) rfl rfl hl.1 rfl (lv_room (Nat.le_of_ble_eq_true rfl)) dX1_reserve_18 ⟨Nat.le_of_ble_eq_true rfl, Nat.le_of_ble_eq_true rfl⟩) hL (fun H locs hP1 hL => ?_)
  subst hP1
  refine lv_aload_n hx hb dX1_reserve_21 rfl (lv_at hl 0 rfl) ?_
  refine lv_iload_n hx hb dX1_reserve_22 rfl (lv_at hl 1 rfl) ?_
  exact gt_leave (va_runTV (b := s0.heap.size) (As := [.int (nI k)]) (rest := []) ⟨hx, hb, hml, hown, hts⟩ (ct_X1_current_S hE ⟨_, hR⟩ hk h0) (cwV 1 hts (lw_V q794 q796 qs19 q47 q797) rfl rfl rfl (by decide +kernel) ⟨Nat.le_of_ble_eq_true rfl, Nat.le_of_ble_eq_true rfl⟩) (cc_pV hW0 (cc_re hK hR.np (show gcl[0]? = _ from rfl))) rfl rfl hl.1 rfl (lv_room (Nat.le_of_ble_eq_true rfl)) dX1_reserve_23 ⟨Nat.le_of_ble_eq_true rfl, Nat.le_of_ble_eq_true rfl⟩) hno (fun st t u x hq h1 h2 h3 => ⟨by rw [h1]; exact hq.1, by rw [h1]; exact hq.2⟩) hL (fun q h => h) Bd.notSynchronized
set_option maxHeartbeats 4000000 in
set_option maxRecDepth 100000 in
/-- reserve -/
theorem ct_X1_reserve {l : Launch} {s0 : State} {D : va_G} {DA : Nat → ClassId} {z0 : Nat} {C : CS} {M : MS} {o : Int64} {H : Heap} (hE : G0 l s0 D DA z0) (hR : RR s0 D DA z0 C M o H) {k wk : Nat} (hk : k < 12) (hw : wk < 12) (x : Int32) (hn : inR x 1 1000 = true) (h0 : kT C = 0) (h24 : kN C 3 < 24) : Met l yX1_reserve (ws_ yX1_reserve cX1_reserve 5 (some .int)) ({ frames := 8, cells := 2, slots := 39, locals := 192 }) (cP s0 [.ref s0.heap.size, .int (nI k), .int x, .int (nI wk)] H) (cQv (.int (bif c_tr C k x wk 12 then nI (kN C 3) else -1)) (fun H1 => RR s0 D DA z0 (bif c_tr C k x wk 12 then cAddE C 3 (nI k) (nI wk) x else C) M o H1)) 2 39 (cF s0) := by
  refine Met.ofW (cc := cX1_reserve) (maxL := 5) (ret := (some .int)) (by decide) rfl ?_
  intro p e s m args below meth c s₁ Bd hml hv
  obtain ⟨rfl, rfl, hW0⟩ := hv
  have hx := Bd.exec
  have hb := Bd.bytes
  have hr := Bd.returns
  have hts := atoms_spec (ws := (ws_ yX1_reserve cX1_reserve 5 (some .int))) Bd.pre
  have hts : ∀ w ∈ lw_all, w.before _ s = true := fun w h => hts w (List.mem_cons_of_mem _ h)
  have hown : s.vm.findClass RX1 = some m.cls := findClass_of_methodNamed Bd.named
  have hlocks := Bd.notSynchronized
  have hK := va_K.moved hW0.alike hE.K
  have hL : gx_L s0.heap.size ([] : List Loc) := gx_L0
  obtain ⟨Y, hR⟩ := hR
  have hl := lv_entry ([.ref s0.heap.size, .int (nI k), .int x, .int (nI wk)]) (n := 5) (Nat.le_of_ble_eq_true rfl)
  rw [lg_entry_eq]
  generalize (lg_sl ([.ref s0.heap.size, .int (nI k), .int x, .int (nI wk)]) ++ List.replicate (5 - (lg_sl ([.ref s0.heap.size, .int (nI k), .int x, .int (nI wk)])).length) Slot.unset).toArray = ls at hl ⊢
  have hl : lv_has ls 5 [(0, .ref s0.heap.size), (1, .int (nI k)), (2, .int x), (3, .int (nI wk))] := hl
  refine lv_aload_n hx hb dX1_reserve_0 rfl (lv_at hl 0 rfl) ?_
  refine lv_iload_n hx hb dX1_reserve_1 rfl (lv_at hl 1 rfl) ?_
  refine cc_v (va_runV (b := s0.heap.size) (As := [.int (nI k)]) (rest := []) ⟨hx, hb, hml, hown, hts⟩ (ct_X1_of hE hR hk) (cwV 1 hts (lw_V q536 q538 qs11 q47 q539) rfl rfl rfl (by decide +kernel) ⟨Nat.le_of_ble_eq_true rfl, Nat.le_of_ble_eq_true rfl⟩) (cc_pV hW0 (cc_re hK hR.np (show gcl[0]? = _ from rfl))) rfl rfl hl.1 rfl (lv_room (Nat.le_of_ble_eq_true rfl)) dX1_reserve_2 ⟨Nat.le_of_ble_eq_true rfl, Nat.le_of_ble_eq_true rfl⟩) hL (fun H locs hP1 hL => ?_)
  subst hP1
  refine lv_pop hx hb dX1_reserve_5 rfl ?_
  refine lv_iload_n hx hb dX1_reserve_6 rfl (lv_at hl 3 rfl) ?_
  refine cc_0 (va_runS (As := [.int (nI wk)]) (rest := []) ⟨hx, hb, hml, hown, hts⟩ (ct_X1_week hE (x := nI wk) (in12_n hw)) (va_cwS 1 hts (lw_S q729 q730 q47 q731) rfl rfl rfl (by decide +kernel) ⟨Nat.le_of_ble_eq_true rfl, Nat.le_of_ble_eq_true rfl⟩) (cc_pS hW0) rfl rfl hl.1 rfl (lv_room (Nat.le_of_ble_eq_true rfl)) dX1_reserve_7 ⟨Nat.le_of_ble_eq_true rfl, Nat.le_of_ble_eq_true rfl⟩) hL (fun H locs hP1 hL => ?_)
  subst hP1
  refine lv_iload_n hx hb dX1_reserve_10 rfl (lv_at hl 2 rfl) ?_
  refine lv_iconst (v := 1) hx hb dX1_reserve_11 (by decide) ?_
  refine lv_sipush (v := 1000) hx hb dX1_reserve_12 (by decide) ?_
  refine cc_v (va_runS (As := [.int x, .int 1, .int 1000]) (rest := []) ⟨hx, hb, hml, hown, hts⟩ (ct_X1_isIn hE x 1 1000) (va_cwS 3 hts (lw_S q540 q541 q47 q542) rfl rfl rfl (by decide +kernel) ⟨Nat.le_of_ble_eq_true rfl, Nat.le_of_ble_eq_true rfl⟩) (cc_pS hW0) rfl rfl hl.1 rfl (lv_room (Nat.le_of_ble_eq_true rfl)) dX1_reserve_15 ⟨Nat.le_of_ble_eq_true rfl, Nat.le_of_ble_eq_true rfl⟩) hL (fun H locs hP1 hL => ?_)
  subst hP1
  refine cc_0 (va_runS (As := [.int (bZ (inR x 1 1000))]) (rest := []) ⟨hx, hb, hml, hown, hts⟩ (ct_X1_argue hE (x := bZ (inR x 1 1000)) (by rw [hn]; decide)) (va_cwS 1 hts (lw_S q609 q610 q47 q611) rfl rfl rfl (by decide +kernel) ⟨Nat.le_of_ble_eq_true rfl, Nat.le_of_ble_eq_true rfl⟩) (cc_pS hW0) rfl rfl hl.1 rfl (lv_room (Nat.le_of_ble_eq_true rfl)) dX1_reserve_18 ⟨Nat.le_of_ble_eq_true rfl, Nat.le_of_ble_eq_true rfl⟩) hL (fun H locs hP1 hL => ?_)
  subst hP1
  refine lv_aload_n hx hb dX1_reserve_21 rfl (lv_at hl 0 rfl) ?_
  refine lv_iload_n hx hb dX1_reserve_22 rfl (lv_at hl 1 rfl) ?_
  refine cc_v (va_runV (b := s0.heap.size) (As := [.int (nI k)]) (rest := []) ⟨hx, hb, hml, hown, hts⟩ (ct_X1_current hE hR hk h0) (cwV 1 hts (lw_V q794 q796 qs19 q47 q797) rfl rfl rfl (by decide +kernel) ⟨Nat.le_of_ble_eq_true rfl, Nat.le_of_ble_eq_true rfl⟩) (cc_pV hW0 (cc_re hK hR.np (show gcl[0]? = _ from rfl))) rfl rfl hl.1 rfl (lv_room (Nat.le_of_ble_eq_true rfl)) dX1_reserve_23 ⟨Nat.le_of_ble_eq_true rfl, Nat.le_of_ble_eq_true rfl⟩) hL (fun H locs hP1 hL => ?_)
  subst hP1
  refine lv_astore (lv' := [(4, .ref (aI s0.heap.size k)), (0, .ref s0.heap.size), (1, .int (nI k)), (2, .int x), (3, .int (nI wk))]) hx hb dX1_reserve_26 hl (by decide) rfl (fun ls hl => ?_)
  refine lv_aload_n hx hb dX1_reserve_28 rfl (lv_at hl 1 rfl) ?_
  refine gx_get (D := D) (cl := gcl) (ci := 0) (v := .ref (aB s0.heap.size 3)) (C := RX1) (T := TX1) (N := 10) hx hb hts in_X1 hown hK hR.np rfl 4 (by decide) (hts _ q276) (fun _ h9 => h9) rfl dX1_reserve_29 ?_
  refine cc_v (va_runV (b := aB s0.heap.size 3) (As := []) (rest := []) ⟨hx, hb, hml, hown, hts⟩ (ct_X2_isFull (j := 3) hE hR (by decide) (by decide)) (cwV 0 hts (lw_V q732 q733 q734 q51 q735) rfl rfl rfl (by decide +kernel) ⟨Nat.le_of_ble_eq_true rfl, Nat.le_of_ble_eq_true rfl⟩) (cc_pV hW0 (cc_re hK (hR.bok 3 (by decide) (by decide)) (show gcl[2]? = _ from rfl))) rfl rfl hl.1 rfl (lv_room (Nat.le_of_ble_eq_true rfl)) dX1_reserve_32 ⟨Nat.le_of_ble_eq_true rfl, Nat.le_of_ble_eq_true rfl⟩) hL (fun H locs hP1 hL => ?_)
  subst hP1
  refine lv_if_ne (tgt := 42) hx hb dX1_reserve_35 (by decide) (fun c35 => ?_) (fun c35 => ?_)
  · exact absurd (of_decide_eq_true (bZ_1.mp c35)) (by omega)
  · refine lv_iconst (v := 1) hx hb dX1_reserve_38 (by decide) ?_
    refine lv_goto (tgt := 43) hx hb dX1_reserve_39 (by decide) ?_
    refine cc_0 (va_runS (As := [.int 1]) (rest := []) ⟨hx, hb, hml, hown, hts⟩ (ct_X1_allow hE (x := 1) (by decide)) (va_cwS 1 hts (lw_S q666 q667 q47 q668) rfl rfl rfl (by decide +kernel) ⟨Nat.le_of_ble_eq_true rfl, Nat.le_of_ble_eq_true rfl⟩) (cc_pS hW0) rfl rfl hl.1 rfl (lv_room (Nat.le_of_ble_eq_true rfl)) dX1_reserve_43 ⟨Nat.le_of_ble_eq_true rfl, Nat.le_of_ble_eq_true rfl⟩) hL (fun H locs hP1 hL => ?_)
    subst hP1
    refine lv_aload_n hx hb dX1_reserve_46 rfl (lv_at hl 1 rfl) ?_
    refine lv_aload hx hb dX1_reserve_47 (lv_at hl 0 rfl) ?_
    refine lv_iload_n hx hb dX1_reserve_49 rfl (lv_at hl 3 rfl) ?_
    refine lv_iload_n hx hb dX1_reserve_50 rfl (lv_at hl 4 rfl) ?_
    refine cc_v (va_runV (b := s0.heap.size) (As := [.ref (aI s0.heap.size k), .int x, .int (nI wk)]) (rest := []) ⟨hx, hb, hml, hown, hts⟩ (ct_X1_isTrue (wk := wk) hE hR hk hw x) (cwV 3 hts (lw_V q844 q846 qs22 q47 q847) rfl rfl rfl (by decide +kernel) ⟨Nat.le_of_ble_eq_true rfl, Nat.le_of_ble_eq_true rfl⟩) (cc_pV hW0 (cc_re hK hR.np (show gcl[0]? = _ from rfl))) rfl rfl hl.1 rfl (lv_room (Nat.le_of_ble_eq_true rfl)) dX1_reserve_51 ⟨Nat.le_of_ble_eq_true rfl, Nat.le_of_ble_eq_true rfl⟩) hL (fun H locs hP1 hL => ?_)
    subst hP1
    refine lv_if_eq (tgt := 77) hx hb dX1_reserve_54 (by decide) (fun c54 => ?_) (fun c54 => ?_)
    · refine W.widen (k := 2) (n := 39) (by omega) (by omega) ?_
      refine lv_iconst (v := (-1)) hx hb dX1_reserve_77 (by decide) ?_
      exact W.iret (v := (-1)) hx hb hr (fun t ht hW => ⟨ovI (by rw [bZ_0.mp c54]; rfl), by rw [ht]; exact (RR_C (by rw [bZ_0.mp c54]; rfl) ⟨_, hR⟩)⟩) hL dX1_reserve_78
    · refine lv_aload_n hx hb dX1_reserve_57 rfl (lv_at hl 1 rfl) ?_
      refine gx_get (D := D) (cl := gcl) (ci := 0) (v := .ref (aB s0.heap.size 3)) (C := RX1) (T := TX1) (N := 10) hx hb hts in_X1 hown hK hR.np rfl 4 (by decide) (hts _ q276) (fun _ h9 => h9) rfl dX1_reserve_58 ?_
      refine gx_newV (ci := 12) (C := RX13) (T := TX13) (N := 3) (fs := [.int 0, .int 0, .int 0]) hx hb hts in_X13 tyX13 tyX13_ok hown (hts _ q736) (hts _ q737) (hts _ q75) hK rfl (by decide) (Nat.le_of_ble_eq_true rfl) (Nat.le_of_ble_eq_true rfl) dX1_reserve_61 (fun H v hv0 hN hQ => ?_)
      have hfr : yFr s0.heap.size Y C v := hR.fr (Nat.le_of_eq hv0.symm)
      have hR := hR.ext (by rw [hN.1]; exact Nat.le_succ _) hN.2
      refine lv_dup hx hb dX1_reserve_64 rfl ?_
      refine lv_iload_n hx hb dX1_reserve_65 rfl (lv_at hl 2 rfl) ?_
      refine lv_iload_n hx hb dX1_reserve_66 rfl (lv_at hl 4 rfl) ?_
      refine lv_iload_n hx hb dX1_reserve_67 rfl (lv_at hl 3 rfl) ?_
      refine cc_0 (va_runI (b := v) (As := [.int (nI k), .int (nI wk), .int x]) (rest := [.ref v, .ref (aB s0.heap.size 3)]) ⟨hx, hb, hml, hown, hts⟩ (ct_X13_init hE (nI k) (nI wk) x hQ (by have := hfr.1; omega)) (cwI 3 hts (lw_meth q740) rfl rfl rfl (hts _ q75) (hts _ q738) (hts _ q739) rfl (by decide +kernel) ⟨Nat.le_of_ble_eq_true rfl, Nat.le_of_ble_eq_true rfl⟩) (cc_pS hW0) rfl rfl hl.1 rfl (lv_room (Nat.le_of_ble_eq_true rfl)) dX1_reserve_68 ⟨Nat.le_of_ble_eq_true rfl, Nat.le_of_ble_eq_true rfl⟩) hL (fun H locs hP1 hL => ?_)
      obtain ⟨hU9, hQ⟩ := hP1
      have hR := hR.fre hfr hU9
      refine cc_v (va_runV (b := aB s0.heap.size 3) (As := [.ref v]) (rest := []) ⟨hx, hb, hml, hown, hts⟩ (ct_X2_add (j := 3) hE hR (by decide) (by decide) hQ hfr h24) (cwV 1 hts (lw_V q758 q759 q760 q51 q761) rfl rfl rfl (by decide +kernel) ⟨Nat.le_of_ble_eq_true rfl, Nat.le_of_ble_eq_true rfl⟩) (cc_pV hW0 (cc_re hK (hR.bok 3 (by decide) (by decide)) (show gcl[2]? = _ from rfl))) rfl rfl hl.1 rfl (lv_room (Nat.le_of_ble_eq_true rfl)) dX1_reserve_71 ⟨Nat.le_of_ble_eq_true rfl, Nat.le_of_ble_eq_true rfl⟩) hL (fun H locs hP1 hL => ?_)
      obtain ⟨Y, hR⟩ := hP1
      refine lv_goto (tgt := 78) hx hb dX1_reserve_74 (by decide) ?_
      exact W.iret (v := (nI (kN C 3))) hx hb hr (fun t ht hW => ⟨ovI (by rw [bZ_1.mp c54]; rfl), by rw [ht]; exact (RR_C (by rw [bZ_1.mp c54]; rfl) ⟨_, hR⟩)⟩) hL dX1_reserve_78
set_option maxHeartbeats 4000000 in
set_option maxRecDepth 100000 in
theorem ct_X1_reserve_F {l : Launch} {s0 : State} {D : va_G} {DA : Nat → ClassId} {z0 : Nat} {C : CS} {M : MS} {o : Int64} {H : Heap} (hE : G0 l s0 D DA z0) (hR : RR s0 D DA z0 C M o H) {k wk : Nat} (hk : k < 12) (hw : wk < 12) (x : Int32) (hn : inR x 1 1000 = true) (h0 : kT C = 0) (h24 : kN C 3 = 24) : MetT l yX1_reserve (ws_ yX1_reserve cX1_reserve 5 (some .int)) ({ frames := 7, cells := 1, slots := 6, locals := 102 }) (cP s0 [.ref s0.heap.size, .int (nI k), .int x, .int (nI wk)] H) (cQT s0 "java/lang/IllegalStateException" (fun H1 => RR s0 D DA z0 C M o H1)) 1 6 (cF s0) := by
  refine MetT.ofW (cc := cX1_reserve) (maxL := 5) (ret := (some .int)) (by decide) rfl ?_
  intro p e s m args below meth c s₁ Bd hml hv
  obtain ⟨rfl, rfl, hW0⟩ := hv
  have hx := Bd.exec
  have hb := Bd.bytes
  have hr := Bd.returns
  have hts := atoms_spec (ws := (ws_ yX1_reserve cX1_reserve 5 (some .int))) Bd.pre
  have hno := BodyLoose.noHandlers Bd (hts _ List.mem_cons_self)
  have hts : ∀ w ∈ lw_all, w.before _ s = true := fun w h => hts w (List.mem_cons_of_mem _ h)
  have hown : s.vm.findClass RX1 = some m.cls := findClass_of_methodNamed Bd.named
  have hlocks := Bd.notSynchronized
  have hK := va_K.moved hW0.alike hE.K
  have hL : gx_L s0.heap.size ([] : List Loc) := gx_L0
  obtain ⟨Y, hR⟩ := hR
  have hl := lv_entry ([.ref s0.heap.size, .int (nI k), .int x, .int (nI wk)]) (n := 5) (Nat.le_of_ble_eq_true rfl)
  rw [lg_entry_eq]
  generalize (lg_sl ([.ref s0.heap.size, .int (nI k), .int x, .int (nI wk)]) ++ List.replicate (5 - (lg_sl ([.ref s0.heap.size, .int (nI k), .int x, .int (nI wk)])).length) Slot.unset).toArray = ls at hl ⊢
  have hl : lv_has ls 5 [(0, .ref s0.heap.size), (1, .int (nI k)), (2, .int x), (3, .int (nI wk))] := hl
  refine lv_aload_n hx hb dX1_reserve_0 rfl (lv_at hl 0 rfl) ?_
  refine lv_iload_n hx hb dX1_reserve_1 rfl (lv_at hl 1 rfl) ?_
  refine cc_v (va_runV (b := s0.heap.size) (As := [.int (nI k)]) (rest := []) ⟨hx, hb, hml, hown, hts⟩ (ct_X1_of hE hR hk) (cwV 1 hts (lw_V q536 q538 qs11 q47 q539) rfl rfl rfl (by decide +kernel) ⟨Nat.le_of_ble_eq_true rfl, Nat.le_of_ble_eq_true rfl⟩) (cc_pV hW0 (cc_re hK hR.np (show gcl[0]? = _ from rfl))) rfl rfl hl.1 rfl (lv_room (Nat.le_of_ble_eq_true rfl)) dX1_reserve_2 ⟨Nat.le_of_ble_eq_true rfl, Nat.le_of_ble_eq_true rfl⟩) hL (fun H locs hP1 hL => ?_)
  subst hP1
  refine lv_pop hx hb dX1_reserve_5 rfl ?_
  refine lv_iload_n hx hb dX1_reserve_6 rfl (lv_at hl 3 rfl) ?_
  refine cc_0 (va_runS (As := [.int (nI wk)]) (rest := []) ⟨hx, hb, hml, hown, hts⟩ (ct_X1_week hE (x := nI wk) (in12_n hw)) (va_cwS 1 hts (lw_S q729 q730 q47 q731) rfl rfl rfl (by decide +kernel) ⟨Nat.le_of_ble_eq_true rfl, Nat.le_of_ble_eq_true rfl⟩) (cc_pS hW0) rfl rfl hl.1 rfl (lv_room (Nat.le_of_ble_eq_true rfl)) dX1_reserve_7 ⟨Nat.le_of_ble_eq_true rfl, Nat.le_of_ble_eq_true rfl⟩) hL (fun H locs hP1 hL => ?_)
  subst hP1
  refine lv_iload_n hx hb dX1_reserve_10 rfl (lv_at hl 2 rfl) ?_
  refine lv_iconst (v := 1) hx hb dX1_reserve_11 (by decide) ?_
  refine lv_sipush (v := 1000) hx hb dX1_reserve_12 (by decide) ?_
  refine cc_v (va_runS (As := [.int x, .int 1, .int 1000]) (rest := []) ⟨hx, hb, hml, hown, hts⟩ (ct_X1_isIn hE x 1 1000) (va_cwS 3 hts (lw_S q540 q541 q47 q542) rfl rfl rfl (by decide +kernel) ⟨Nat.le_of_ble_eq_true rfl, Nat.le_of_ble_eq_true rfl⟩) (cc_pS hW0) rfl rfl hl.1 rfl (lv_room (Nat.le_of_ble_eq_true rfl)) dX1_reserve_15 ⟨Nat.le_of_ble_eq_true rfl, Nat.le_of_ble_eq_true rfl⟩) hL (fun H locs hP1 hL => ?_)
  subst hP1
  refine cc_0 (va_runS (As := [.int (bZ (inR x 1 1000))]) (rest := []) ⟨hx, hb, hml, hown, hts⟩ (ct_X1_argue hE (x := bZ (inR x 1 1000)) (by rw [hn]; decide)) (va_cwS 1 hts (lw_S q609 q610 q47 q611) rfl rfl rfl (by decide +kernel) ⟨Nat.le_of_ble_eq_true rfl, Nat.le_of_ble_eq_true rfl⟩) (cc_pS hW0) rfl rfl hl.1 rfl (lv_room (Nat.le_of_ble_eq_true rfl)) dX1_reserve_18 ⟨Nat.le_of_ble_eq_true rfl, Nat.le_of_ble_eq_true rfl⟩) hL (fun H locs hP1 hL => ?_)
  subst hP1
  refine lv_aload_n hx hb dX1_reserve_21 rfl (lv_at hl 0 rfl) ?_
  refine lv_iload_n hx hb dX1_reserve_22 rfl (lv_at hl 1 rfl) ?_
  refine cc_v (va_runV (b := s0.heap.size) (As := [.int (nI k)]) (rest := []) ⟨hx, hb, hml, hown, hts⟩ (ct_X1_current hE hR hk h0) (cwV 1 hts (lw_V q794 q796 qs19 q47 q797) rfl rfl rfl (by decide +kernel) ⟨Nat.le_of_ble_eq_true rfl, Nat.le_of_ble_eq_true rfl⟩) (cc_pV hW0 (cc_re hK hR.np (show gcl[0]? = _ from rfl))) rfl rfl hl.1 rfl (lv_room (Nat.le_of_ble_eq_true rfl)) dX1_reserve_23 ⟨Nat.le_of_ble_eq_true rfl, Nat.le_of_ble_eq_true rfl⟩) hL (fun H locs hP1 hL => ?_)
  subst hP1
  refine lv_astore (lv' := [(4, .ref (aI s0.heap.size k)), (0, .ref s0.heap.size), (1, .int (nI k)), (2, .int x), (3, .int (nI wk))]) hx hb dX1_reserve_26 hl (by decide) rfl (fun ls hl => ?_)
  refine lv_aload_n hx hb dX1_reserve_28 rfl (lv_at hl 1 rfl) ?_
  refine gx_get (D := D) (cl := gcl) (ci := 0) (v := .ref (aB s0.heap.size 3)) (C := RX1) (T := TX1) (N := 10) hx hb hts in_X1 hown hK hR.np rfl 4 (by decide) (hts _ q276) (fun _ h9 => h9) rfl dX1_reserve_29 ?_
  refine cc_v (va_runV (b := aB s0.heap.size 3) (As := []) (rest := []) ⟨hx, hb, hml, hown, hts⟩ (ct_X2_isFull (j := 3) hE hR (by decide) (by decide)) (cwV 0 hts (lw_V q732 q733 q734 q51 q735) rfl rfl rfl (by decide +kernel) ⟨Nat.le_of_ble_eq_true rfl, Nat.le_of_ble_eq_true rfl⟩) (cc_pV hW0 (cc_re hK (hR.bok 3 (by decide) (by decide)) (show gcl[2]? = _ from rfl))) rfl rfl hl.1 rfl (lv_room (Nat.le_of_ble_eq_true rfl)) dX1_reserve_32 ⟨Nat.le_of_ble_eq_true rfl, Nat.le_of_ble_eq_true rfl⟩) hL (fun H locs hP1 hL => ?_)
  subst hP1
  refine lv_if_ne (tgt := 42) hx hb dX1_reserve_35 (by decide) (fun c35 => ?_) (fun c35 => ?_)
  · refine lv_iconst (v := 0) hx hb dX1_reserve_42 (by decide) ?_
    exact gt_leave (va_runTS (As := [.int 0]) (rest := []) ⟨hx, hb, hml, hown, hts⟩ (ct_X1_allow_T hE ⟨_, hR⟩ (x := 0) (rfl)) (va_cwS 1 hts (lw_S q666 q667 q47 q668) rfl rfl rfl (by decide +kernel) ⟨Nat.le_of_ble_eq_true rfl, Nat.le_of_ble_eq_true rfl⟩) (cc_pS hW0) rfl rfl hl.1 rfl (lv_room (Nat.le_of_ble_eq_true rfl)) dX1_reserve_43 ⟨Nat.le_of_ble_eq_true rfl, Nat.le_of_ble_eq_true rfl⟩) hno (fun st t u x hq h1 h2 h3 => ⟨by rw [h1]; exact hq.1, by rw [h1]; exact hq.2⟩) hL (fun q h => h) Bd.notSynchronized
  · exact absurd h24 (of_decide_eq_false (bZ_0.mp c35))
set_option maxHeartbeats 4000000 in
set_option maxRecDepth 100000 in
/-- load -/
theorem ct_X1_load {l : Launch} {s0 : State} {D : va_G} {DA : Nat → ClassId} {z0 : Nat} {Y : YS} {C : CS} {M : MS} {o : Int64} {H : Heap} (hE : G0 l s0 D DA z0) (hR : GRb s0.heap.size s0.heap D DA z0 Y C M o H) (ce : Int32) (hce : inR ce 0 2 = true) {wk : Nat} (hw : wk < 12) (hC : CC C) (h0 : kT C = 0) : Met l yX1_load (ws_ yX1_load cX1_load 10 (some .long)) ({ frames := 2, cells := 0, slots := 0, locals := 42 }) (cP s0 [.ref s0.heap.size, .int ce, .int (nI wk)] H) (cQv (.long (c_ld C ce wk 12)) (fun H1 => H1 = H)) 0 0 (cF s0) := by
  refine Met.ofW (cc := cX1_load) (maxL := 10) (ret := (some .long)) (by decide) rfl ?_
  intro p e s m args below meth c s₁ Bd hml hv
  obtain ⟨rfl, rfl, hW0⟩ := hv
  have hx := Bd.exec
  have hb := Bd.bytes
  have hr := Bd.returns
  have hts := atoms_spec (ws := (ws_ yX1_load cX1_load 10 (some .long))) Bd.pre
  have hts : ∀ w ∈ lw_all, w.before _ s = true := fun w h => hts w (List.mem_cons_of_mem _ h)
  have hown : s.vm.findClass RX1 = some m.cls := findClass_of_methodNamed Bd.named
  have hlocks := Bd.notSynchronized
  have hK := va_K.moved hW0.alike hE.K
  have hL : gx_L s0.heap.size ([] : List Loc) := gx_L0
  have hl := lv_entry ([.ref s0.heap.size, .int ce, .int (nI wk)]) (n := 10) (Nat.le_of_ble_eq_true rfl)
  rw [lg_entry_eq]
  generalize (lg_sl ([.ref s0.heap.size, .int ce, .int (nI wk)]) ++ List.replicate (10 - (lg_sl ([.ref s0.heap.size, .int ce, .int (nI wk)])).length) Slot.unset).toArray = ls at hl ⊢
  have hl : lv_has ls 10 [(0, .ref s0.heap.size), (1, .int ce), (2, .int (nI wk))] := hl
  have key : ∀ (n : Nat) (v : Nat) (locs : List Loc) (ls : Array Slot), v ≤ 12 → 12 < v + n → lv_has ls 10 [(3, .long (c_ld C ce wk v)), (7, .int (nI v)), (5, .ref (s0.heap.size + 1)), (6, .int (nI 12)), (1, .int ce), (2, .int (nI wk))] → gx_L s0.heap.size locs → W p l e (headSpec (ws_ yX1_load cX1_load 10 (some .long)) ({ frames := 2, cells := 0, slots := 0, locals := 42 })).room s m ([.ref s0.heap.size, .int ce, .int (nI wk)] : List Value).toArray below meth c s.heap locs 0 0 (MQ below (cQv (.long (c_ld C ce wk 12)) (fun H1 => H1 = s.heap)) ([.ref s0.heap.size, .int ce, .int (nI wk)] : List Value).toArray s 0 0 (cF s0)) (F0 m 44 ls []) := by
    intro n
    induction n with
    | zero =>
      intro v locs ls hv hn hl hL
      omega
    | succ n ih =>
      intro v locs ls hv hn hl hL
      refine lv_iload hx hb dX1_load_44 (lv_at hl 1 rfl) ?_
      refine lv_iload hx hb dX1_load_46 (lv_at hl 3 rfl) ?_
      refine lv_icmp_ge (tgt := 111) hx hb dX1_load_48 (by decide) (fun c48 => ?_) (fun c48 => ?_)
      · have hkc : v = 12 := by have := n_ge (b := 12) c48 (by omega) (by omega); omega
        refine lv_lload_n hx hb dX1_load_111 rfl (lv_at hl 0 rfl) ?_
        exact W.lret (v := (c_ld C ce wk v)) hx hb hr (fun t ht hW => ⟨ovJ (by rw [hkc]), ht⟩) hL dX1_load_112
      · have hkc : v < 12 := by have := n_lt (b := 12) c48 (by omega) (by omega); omega
        refine lv_aload hx hb dX1_load_51 (lv_at hl 2 rfl) ?_
        refine lv_iload hx hb dX1_load_53 (lv_at hl 1 rfl) ?_
        refine gx_aald (x := aI s0.heap.size v) hx hb hK 3 hR.its rfl v (rfl) (hkc) (by decide) rfl dX1_load_55 ?_
        refine lv_astore (lv' := [(8, .ref (aI s0.heap.size v)), (3, .long (c_ld C ce wk v)), (7, .int (nI v)), (5, .ref (s0.heap.size + 1)), (6, .int (nI 12)), (1, .int ce), (2, .int (nI wk))]) hx hb dX1_load_56 hl (by decide) rfl (fun ls hl => ?_)
        refine lv_iload_n hx hb dX1_load_58 rfl (lv_at hl 6 rfl) ?_
        refine lv_aload hx hb dX1_load_59 (lv_at hl 0 rfl) ?_
        refine gx_getN (D := D) (cl := gcl) (ci := 8) (v := .int (kI C 3 v)) (C := RX9) (T := TX9) (N := 19) hx hb hts in_X9 hown hK (hR.itm v hkc) rfl 3 (by decide) (hE.nF hW0 q195) (fun _ h9 => h9) rfl dX1_load_61 ?_
        have hl4 := hC.l4 hkc
        refine gx_ti (nI (cLd C v)) (hC.ld hkc) ?_
        refine lv_iadd hx hb dX1_load_64 ?_
        refine gx_ti (nI (wk + (cLd C v))) (nI_add wk (cLd C v)) ?_
        refine lv_istore (lv' := [(9, .int (nI (wk + (cLd C v)))), (8, .ref (aI s0.heap.size v)), (3, .long (c_ld C ce wk v)), (7, .int (nI v)), (5, .ref (s0.heap.size + 1)), (6, .int (nI 12)), (1, .int ce), (2, .int (nI wk))]) hx hb dX1_load_65 hl (by decide) rfl (fun ls hl => ?_)
        refine lv_lload_n hx hb dX1_load_67 rfl (lv_at hl 2 rfl) ?_
        refine lv_aload hx hb dX1_load_68 (lv_at hl 1 rfl) ?_
        refine gx_getN (D := D) (cl := gcl) (ci := 8) (v := .int (kI C 9 v)) (C := RX9) (T := TX9) (N := 19) hx hb hts in_X9 hown hK (hR.itm v hkc) rfl 9 (by decide) (hE.nF hW0 q204) (fun _ h9 => h9) rfl dX1_load_70 ?_
        refine lv_iload_n hx hb dX1_load_73 rfl (lv_at hl 6 rfl) ?_
        refine lv_icmp_ne (tgt := 102) hx hb dX1_load_74 (by decide) (fun c74 => ?_) (fun c74 => ?_)
        · refine lv_lconst (v := 0) hx hb dX1_load_102 (by decide) ?_
          refine lv_ladd hx hb dX1_load_103 ?_
          refine gx_tl (c_ld C ce wk (v + 1)) (by rw [c_ld, if_neg (fun q => c74 q.1)]) ?_
          refine lv_lstore_n (lv' := [(3, .long (c_ld C ce wk (v + 1))), (9, .int (nI (wk + (cLd C v)))), (8, .ref (aI s0.heap.size v)), (7, .int (nI v)), (5, .ref (s0.heap.size + 1)), (6, .int (nI 12)), (1, .int ce), (2, .int (nI wk))]) hx hb dX1_load_104 rfl hl (by decide) rfl (fun ls hl => ?_)
          refine lv_iinc (v := nI (v + 1)) (lv' := [(7, .int (nI (v + 1))), (3, .long (c_ld C ce wk (v + 1))), (9, .int (nI (wk + (cLd C v)))), (8, .ref (aI s0.heap.size v)), (5, .ref (s0.heap.size + 1)), (6, .int (nI 12)), (1, .int ce), (2, .int (nI wk))]) hx hb dX1_load_105 hl (k := 3) rfl (nI_1 v) (by decide) rfl (fun ls hl => ?_)
          refine lv_goto (tgt := 44) hx hb dX1_load_108 (by decide) ?_
          exact ih (v + 1) _ _ (by omega) (by omega) (lv_sub hl [1, 0, 4, 5, 6, 7] rfl) hL
        · refine lv_iload hx hb dX1_load_77 (lv_at hl 0 rfl) ?_
          refine lv_bipush (v := 12) hx hb dX1_load_79 (by decide) ?_
          refine lv_icmp_ge (tgt := 102) hx hb dX1_load_81 (by decide) (fun c81 => ?_) (fun c81 => ?_)
          · refine lv_lconst (v := 0) hx hb dX1_load_102 (by decide) ?_
            refine lv_ladd hx hb dX1_load_103 ?_
            refine gx_tl (c_ld C ce wk (v + 1)) (by rw [c_ld, if_neg (fun q => by have := n_ge (b := 12) c81 (by omega) (by omega); omega)]) ?_
            refine lv_lstore_n (lv' := [(3, .long (c_ld C ce wk (v + 1))), (9, .int (nI (wk + (cLd C v)))), (8, .ref (aI s0.heap.size v)), (7, .int (nI v)), (5, .ref (s0.heap.size + 1)), (6, .int (nI 12)), (1, .int ce), (2, .int (nI wk))]) hx hb dX1_load_104 rfl hl (by decide) rfl (fun ls hl => ?_)
            refine lv_iinc (v := nI (v + 1)) (lv' := [(7, .int (nI (v + 1))), (3, .long (c_ld C ce wk (v + 1))), (9, .int (nI (wk + (cLd C v)))), (8, .ref (aI s0.heap.size v)), (5, .ref (s0.heap.size + 1)), (6, .int (nI 12)), (1, .int ce), (2, .int (nI wk))]) hx hb dX1_load_105 hl (k := 3) rfl (nI_1 v) (by decide) rfl (fun ls hl => ?_)
            refine lv_goto (tgt := 44) hx hb dX1_load_108 (by decide) ?_
            exact ih (v + 1) _ _ (by omega) (by omega) (lv_sub hl [1, 0, 4, 5, 6, 7] rfl) hL
          · have hw2 : wk + cLd C v < 12 := n_lt (b := 12) c81 (by omega) (by omega)
            refine lv_aload hx hb dX1_load_84 (lv_at hl 1 rfl) ?_
            refine gx_getN (D := D) (cl := gcl) (ci := 8) (v := .int (kI C 10 v)) (C := RX9) (T := TX9) (N := 19) hx hb hts in_X9 hown hK (hR.itm v hkc) rfl 10 (by decide) (hE.nF hW0 q205) (fun _ h9 => h9) rfl dX1_load_86 ?_
            refine lv_i2l (v := (kI C 10 v).toInt64) hx hb dX1_load_89 rfl ?_
            refine lv_aload hx hb dX1_load_90 (lv_at hl 1 rfl) ?_
            refine gx_getN (D := D) (cl := gcl) (ci := 8) (v := .ref (aA s0.heap.size 3 v)) (C := RX9) (T := TX9) (N := 19) hx hb hts in_X9 hown hK (hR.itm v hkc) rfl 17 (by decide) (hE.nF hW0 q218) (fun _ h9 => h9) rfl dX1_load_92 ?_
            refine lv_iload hx hb dX1_load_95 (lv_at hl 0 rfl) ?_
            refine gx_lald (n := 12) hx hb hK 0 (hR.arr 3 v (by decide) hkc) rfl (wk + cLd C v) (rfl) (hw2) (by decide) dX1_load_97 ?_
            refine lv_lmul hx hb dX1_load_98 ?_
            refine lv_goto (tgt := 103) hx hb dX1_load_99 (by decide) ?_
            refine lv_ladd hx hb dX1_load_103 ?_
            refine gx_tl (c_ld C ce wk (v + 1)) (by rw [c_ld, if_pos ⟨c74, hw2⟩]) ?_
            refine lv_lstore_n (lv' := [(3, .long (c_ld C ce wk (v + 1))), (9, .int (nI (wk + (cLd C v)))), (8, .ref (aI s0.heap.size v)), (7, .int (nI v)), (5, .ref (s0.heap.size + 1)), (6, .int (nI 12)), (1, .int ce), (2, .int (nI wk))]) hx hb dX1_load_104 rfl hl (by decide) rfl (fun ls hl => ?_)
            refine lv_iinc (v := nI (v + 1)) (lv' := [(7, .int (nI (v + 1))), (3, .long (c_ld C ce wk (v + 1))), (9, .int (nI (wk + (cLd C v)))), (8, .ref (aI s0.heap.size v)), (5, .ref (s0.heap.size + 1)), (6, .int (nI 12)), (1, .int ce), (2, .int (nI wk))]) hx hb dX1_load_105 hl (k := 3) rfl (nI_1 v) (by decide) rfl (fun ls hl => ?_)
            refine lv_goto (tgt := 44) hx hb dX1_load_108 (by decide) ?_
            exact ih (v + 1) _ _ (by omega) (by omega) (lv_sub hl [1, 0, 4, 5, 6, 7] rfl) hL
  refine lv_iload_n hx hb dX1_load_0 rfl (lv_at hl 1 rfl) ?_
  refine lv_iconst (v := 0) hx hb dX1_load_1 (by decide) ?_
  refine lv_iconst (v := 2) hx hb dX1_load_2 (by decide) ?_
  refine cc_v (va_runS (As := [.int ce, .int 0, .int 2]) (rest := []) ⟨hx, hb, hml, hown, hts⟩ (ct_X1_isIn hE ce 0 2) (va_cwS 3 hts (lw_S q540 q541 q47 q542) rfl rfl rfl (by decide +kernel) ⟨Nat.le_of_ble_eq_true rfl, Nat.le_of_ble_eq_true rfl⟩) (cc_pS hW0) rfl rfl hl.1 rfl (lv_room (Nat.le_of_ble_eq_true rfl)) dX1_load_3 ⟨Nat.le_of_ble_eq_true rfl, Nat.le_of_ble_eq_true rfl⟩) hL (fun H locs hP1 hL => ?_)
  subst hP1
  refine cc_0 (va_runS (As := [.int (bZ (inR ce 0 2))]) (rest := []) ⟨hx, hb, hml, hown, hts⟩ (ct_X1_there hE (x := bZ (inR ce 0 2)) (by rw [hce]; decide)) (va_cwS 1 hts (lw_S q543 q544 q47 q545) rfl rfl rfl (by decide +kernel) ⟨Nat.le_of_ble_eq_true rfl, Nat.le_of_ble_eq_true rfl⟩) (cc_pS hW0) rfl rfl hl.1 rfl (lv_room (Nat.le_of_ble_eq_true rfl)) dX1_load_6 ⟨Nat.le_of_ble_eq_true rfl, Nat.le_of_ble_eq_true rfl⟩) hL (fun H locs hP1 hL => ?_)
  subst hP1
  refine lv_iload_n hx hb dX1_load_9 rfl (lv_at hl 2 rfl) ?_
  refine cc_0 (va_runS (As := [.int (nI wk)]) (rest := []) ⟨hx, hb, hml, hown, hts⟩ (ct_X1_week hE (x := nI wk) (in12_n hw)) (va_cwS 1 hts (lw_S q729 q730 q47 q731) rfl rfl rfl (by decide +kernel) ⟨Nat.le_of_ble_eq_true rfl, Nat.le_of_ble_eq_true rfl⟩) (cc_pS hW0) rfl rfl hl.1 rfl (lv_room (Nat.le_of_ble_eq_true rfl)) dX1_load_10 ⟨Nat.le_of_ble_eq_true rfl, Nat.le_of_ble_eq_true rfl⟩) hL (fun H locs hP1 hL => ?_)
  subst hP1
  refine lv_aload_n hx hb dX1_load_13 rfl (lv_at hl 0 rfl) ?_
  refine gx_get (D := D) (cl := gcl) (ci := 0) (v := .int (kT C)) (C := RX1) (T := TX1) (N := 10) hx hb hts in_X1 hown hK hR.np rfl 8 (by decide) (hts _ q280) (fun _ h9 => h9) rfl dX1_load_14 ?_
  refine lv_if_ne (tgt := 24) hx hb dX1_load_17 (by decide) (fun c17 => ?_) (fun c17 => ?_)
  · exact absurd h0 c17
  · refine lv_iconst (v := 1) hx hb dX1_load_20 (by decide) ?_
    refine lv_goto (tgt := 25) hx hb dX1_load_21 (by decide) ?_
    refine cc_0 (va_runS (As := [.int 1]) (rest := []) ⟨hx, hb, hml, hown, hts⟩ (ct_X1_allow hE (x := 1) (by decide)) (va_cwS 1 hts (lw_S q666 q667 q47 q668) rfl rfl rfl (by decide +kernel) ⟨Nat.le_of_ble_eq_true rfl, Nat.le_of_ble_eq_true rfl⟩) (cc_pS hW0) rfl rfl hl.1 rfl (lv_room (Nat.le_of_ble_eq_true rfl)) dX1_load_25 ⟨Nat.le_of_ble_eq_true rfl, Nat.le_of_ble_eq_true rfl⟩) hL (fun H locs hP1 hL => ?_)
    subst hP1
    refine lv_lconst (v := 0) hx hb dX1_load_28 (by decide) ?_
    refine gx_tl (c_ld C ce wk 0) (rfl) ?_
    refine lv_lstore_n (lv' := [(3, .long (c_ld C ce wk 0)), (0, .ref s0.heap.size), (1, .int ce), (2, .int (nI wk))]) hx hb dX1_load_29 rfl hl (by decide) rfl (fun ls hl => ?_)
    refine lv_aload_n hx hb dX1_load_30 rfl (lv_at hl 1 rfl) ?_
    refine gx_get (D := D) (cl := gcl) (ci := 0) (v := .ref (s0.heap.size + 1)) (C := RX1) (T := TX1) (N := 10) hx hb hts in_X1 hown hK hR.np rfl 0 (by decide) (hts _ q272) (fun _ h9 => h9) rfl dX1_load_31 ?_
    refine lv_astore (lv' := [(5, .ref (s0.heap.size + 1)), (3, .long (c_ld C ce wk 0)), (0, .ref s0.heap.size), (1, .int ce), (2, .int (nI wk))]) hx hb dX1_load_34 hl (by decide) rfl (fun ls hl => ?_)
    refine lv_aload hx hb dX1_load_36 (lv_at hl 0 rfl) ?_
    refine gx_alen hx hb hK 3 hR.its rfl dX1_load_38 ?_
    refine gx_ti (nI 12) rfl ?_
    refine lv_istore (lv' := [(6, .int (nI 12)), (5, .ref (s0.heap.size + 1)), (3, .long (c_ld C ce wk 0)), (0, .ref s0.heap.size), (1, .int ce), (2, .int (nI wk))]) hx hb dX1_load_39 hl (by decide) rfl (fun ls hl => ?_)
    refine lv_iconst (v := 0) hx hb dX1_load_41 (by decide) ?_
    refine gx_ti (nI 0) (by decide) ?_
    refine lv_istore (lv' := [(7, .int (nI 0)), (6, .int (nI 12)), (5, .ref (s0.heap.size + 1)), (3, .long (c_ld C ce wk 0)), (0, .ref s0.heap.size), (1, .int ce), (2, .int (nI wk))]) hx hb dX1_load_42 hl (by decide) rfl (fun ls hl => ?_)
    exact key 13 0 _ _ (by omega) (by omega) (lv_sub hl [3, 0, 2, 1, 5, 6] rfl) hL
set_option maxHeartbeats 4000000 in
set_option maxRecDepth 100000 in
theorem ct_X1_load_I {l : Launch} {s0 : State} {D : va_G} {DA : Nat → ClassId} {z0 : Nat} {C : CS} {M : MS} {o : Int64} {H : Heap} (hE : G0 l s0 D DA z0) (hR : RR s0 D DA z0 C M o H) (ce w : Int32) (h : (inR ce 0 2 && in12 w) = false) : MetT l yX1_load (ws_ yX1_load cX1_load 10 (some .long)) ({ frames := 8, cells := 1, slots := 6, locals := 122 }) (cP s0 [.ref s0.heap.size, .int ce, .int w] H) (cQT s0 "java/lang/IndexOutOfBoundsException" (fun H1 => RR s0 D DA z0 C M o H1)) 1 6 (cF s0) := by
  refine MetT.ofW (cc := cX1_load) (maxL := 10) (ret := (some .long)) (by decide) rfl ?_
  intro p e s m args below meth c s₁ Bd hml hv
  obtain ⟨rfl, rfl, hW0⟩ := hv
  have hx := Bd.exec
  have hb := Bd.bytes
  have hr := Bd.returns
  have hts := atoms_spec (ws := (ws_ yX1_load cX1_load 10 (some .long))) Bd.pre
  have hno := BodyLoose.noHandlers Bd (hts _ List.mem_cons_self)
  have hts : ∀ w ∈ lw_all, w.before _ s = true := fun w h => hts w (List.mem_cons_of_mem _ h)
  have hown : s.vm.findClass RX1 = some m.cls := findClass_of_methodNamed Bd.named
  have hlocks := Bd.notSynchronized
  have hK := va_K.moved hW0.alike hE.K
  have hL : gx_L s0.heap.size ([] : List Loc) := gx_L0
  obtain ⟨Y, hR⟩ := hR
  have hl := lv_entry ([.ref s0.heap.size, .int ce, .int w]) (n := 10) (Nat.le_of_ble_eq_true rfl)
  rw [lg_entry_eq]
  generalize (lg_sl ([.ref s0.heap.size, .int ce, .int w]) ++ List.replicate (10 - (lg_sl ([.ref s0.heap.size, .int ce, .int w])).length) Slot.unset).toArray = ls at hl ⊢
  have hl : lv_has ls 10 [(0, .ref s0.heap.size), (1, .int ce), (2, .int w)] := hl
  cases hcs : inR ce 0 2 with
  | false =>
    refine lv_iload_n hx hb dX1_load_0 rfl (lv_at hl 1 rfl) ?_
    refine lv_iconst (v := 0) hx hb dX1_load_1 (by decide) ?_
    refine lv_iconst (v := 2) hx hb dX1_load_2 (by decide) ?_
    refine cc_v (va_runS (As := [.int ce, .int 0, .int 2]) (rest := []) ⟨hx, hb, hml, hown, hts⟩ (ct_X1_isIn hE ce 0 2) (va_cwS 3 hts (lw_S q540 q541 q47 q542) rfl rfl rfl (by decide +kernel) ⟨Nat.le_of_ble_eq_true rfl, Nat.le_of_ble_eq_true rfl⟩) (cc_pS hW0) rfl rfl hl.1 rfl (lv_room (Nat.le_of_ble_eq_true rfl)) dX1_load_3 ⟨Nat.le_of_ble_eq_true rfl, Nat.le_of_ble_eq_true rfl⟩) hL (fun H locs hP1 hL => ?_)
    subst hP1
    exact gt_leave (va_runTS (As := [.int (bZ (inR ce 0 2))]) (rest := []) ⟨hx, hb, hml, hown, hts⟩ (ct_X1_there_T hE ⟨_, hR⟩ (x := bZ (inR ce 0 2)) (by rw [hcs]; rfl)) (va_cwS 1 hts (lw_S q543 q544 q47 q545) rfl rfl rfl (by decide +kernel) ⟨Nat.le_of_ble_eq_true rfl, Nat.le_of_ble_eq_true rfl⟩) (cc_pS hW0) rfl rfl hl.1 rfl (lv_room (Nat.le_of_ble_eq_true rfl)) dX1_load_6 ⟨Nat.le_of_ble_eq_true rfl, Nat.le_of_ble_eq_true rfl⟩) hno (fun st t u x hq h1 h2 h3 => ⟨by rw [h1]; exact hq.1, by rw [h1]; exact hq.2⟩) hL (fun q h => h) Bd.notSynchronized
  | true =>
    rw [hcs, Bool.true_and] at h
    refine lv_iload_n hx hb dX1_load_0 rfl (lv_at hl 1 rfl) ?_
    refine lv_iconst (v := 0) hx hb dX1_load_1 (by decide) ?_
    refine lv_iconst (v := 2) hx hb dX1_load_2 (by decide) ?_
    refine cc_v (va_runS (As := [.int ce, .int 0, .int 2]) (rest := []) ⟨hx, hb, hml, hown, hts⟩ (ct_X1_isIn hE ce 0 2) (va_cwS 3 hts (lw_S q540 q541 q47 q542) rfl rfl rfl (by decide +kernel) ⟨Nat.le_of_ble_eq_true rfl, Nat.le_of_ble_eq_true rfl⟩) (cc_pS hW0) rfl rfl hl.1 rfl (lv_room (Nat.le_of_ble_eq_true rfl)) dX1_load_3 ⟨Nat.le_of_ble_eq_true rfl, Nat.le_of_ble_eq_true rfl⟩) hL (fun H locs hP1 hL => ?_)
    subst hP1
    refine cc_0 (va_runS (As := [.int (bZ (inR ce 0 2))]) (rest := []) ⟨hx, hb, hml, hown, hts⟩ (ct_X1_there hE (x := bZ (inR ce 0 2)) (by rw [hcs]; decide)) (va_cwS 1 hts (lw_S q543 q544 q47 q545) rfl rfl rfl (by decide +kernel) ⟨Nat.le_of_ble_eq_true rfl, Nat.le_of_ble_eq_true rfl⟩) (cc_pS hW0) rfl rfl hl.1 rfl (lv_room (Nat.le_of_ble_eq_true rfl)) dX1_load_6 ⟨Nat.le_of_ble_eq_true rfl, Nat.le_of_ble_eq_true rfl⟩) hL (fun H locs hP1 hL => ?_)
    subst hP1
    refine lv_iload_n hx hb dX1_load_9 rfl (lv_at hl 2 rfl) ?_
    exact gt_leave (va_runTS (As := [.int w]) (rest := []) ⟨hx, hb, hml, hown, hts⟩ (ct_X1_week_T hE ⟨_, hR⟩ (x := w) (h)) (va_cwS 1 hts (lw_S q729 q730 q47 q731) rfl rfl rfl (by decide +kernel) ⟨Nat.le_of_ble_eq_true rfl, Nat.le_of_ble_eq_true rfl⟩) (cc_pS hW0) rfl rfl hl.1 rfl (lv_room (Nat.le_of_ble_eq_true rfl)) dX1_load_10 ⟨Nat.le_of_ble_eq_true rfl, Nat.le_of_ble_eq_true rfl⟩) hno (fun st t u x hq h1 h2 h3 => ⟨by rw [h1]; exact hq.1, by rw [h1]; exact hq.2⟩) hL (fun q h => h) Bd.notSynchronized
set_option maxHeartbeats 4000000 in
set_option maxRecDepth 100000 in
theorem ct_X1_load_S {l : Launch} {s0 : State} {D : va_G} {DA : Nat → ClassId} {z0 : Nat} {C : CS} {M : MS} {o : Int64} {H : Heap} (hE : G0 l s0 D DA z0) (hR : RR s0 D DA z0 C M o H) (ce : Int32) (hce : inR ce 0 2 = true) {wk : Nat} (hw : wk < 12) (h0 : ¬ kT C = 0) : MetT l yX1_load (ws_ yX1_load cX1_load 10 (some .long)) ({ frames := 7, cells := 1, slots := 6, locals := 102 }) (cP s0 [.ref s0.heap.size, .int ce, .int (nI wk)] H) (cQT s0 "java/lang/IllegalStateException" (fun H1 => RR s0 D DA z0 C M o H1)) 1 6 (cF s0) := by
  refine MetT.ofW (cc := cX1_load) (maxL := 10) (ret := (some .long)) (by decide) rfl ?_
  intro p e s m args below meth c s₁ Bd hml hv
  obtain ⟨rfl, rfl, hW0⟩ := hv
  have hx := Bd.exec
  have hb := Bd.bytes
  have hr := Bd.returns
  have hts := atoms_spec (ws := (ws_ yX1_load cX1_load 10 (some .long))) Bd.pre
  have hno := BodyLoose.noHandlers Bd (hts _ List.mem_cons_self)
  have hts : ∀ w ∈ lw_all, w.before _ s = true := fun w h => hts w (List.mem_cons_of_mem _ h)
  have hown : s.vm.findClass RX1 = some m.cls := findClass_of_methodNamed Bd.named
  have hlocks := Bd.notSynchronized
  have hK := va_K.moved hW0.alike hE.K
  have hL : gx_L s0.heap.size ([] : List Loc) := gx_L0
  obtain ⟨Y, hR⟩ := hR
  have hl := lv_entry ([.ref s0.heap.size, .int ce, .int (nI wk)]) (n := 10) (Nat.le_of_ble_eq_true rfl)
  rw [lg_entry_eq]
  generalize (lg_sl ([.ref s0.heap.size, .int ce, .int (nI wk)]) ++ List.replicate (10 - (lg_sl ([.ref s0.heap.size, .int ce, .int (nI wk)])).length) Slot.unset).toArray = ls at hl ⊢
  have hl : lv_has ls 10 [(0, .ref s0.heap.size), (1, .int ce), (2, .int (nI wk))] := hl
  refine lv_iload_n hx hb dX1_load_0 rfl (lv_at hl 1 rfl) ?_
  refine lv_iconst (v := 0) hx hb dX1_load_1 (by decide) ?_
  refine lv_iconst (v := 2) hx hb dX1_load_2 (by decide) ?_
  refine cc_v (va_runS (As := [.int ce, .int 0, .int 2]) (rest := []) ⟨hx, hb, hml, hown, hts⟩ (ct_X1_isIn hE ce 0 2) (va_cwS 3 hts (lw_S q540 q541 q47 q542) rfl rfl rfl (by decide +kernel) ⟨Nat.le_of_ble_eq_true rfl, Nat.le_of_ble_eq_true rfl⟩) (cc_pS hW0) rfl rfl hl.1 rfl (lv_room (Nat.le_of_ble_eq_true rfl)) dX1_load_3 ⟨Nat.le_of_ble_eq_true rfl, Nat.le_of_ble_eq_true rfl⟩) hL (fun H locs hP1 hL => ?_)
  subst hP1
  refine cc_0 (va_runS (As := [.int (bZ (inR ce 0 2))]) (rest := []) ⟨hx, hb, hml, hown, hts⟩ (ct_X1_there hE (x := bZ (inR ce 0 2)) (by rw [hce]; decide)) (va_cwS 1 hts (lw_S q543 q544 q47 q545) rfl rfl rfl (by decide +kernel) ⟨Nat.le_of_ble_eq_true rfl, Nat.le_of_ble_eq_true rfl⟩) (cc_pS hW0) rfl rfl hl.1 rfl (lv_room (Nat.le_of_ble_eq_true rfl)) dX1_load_6 ⟨Nat.le_of_ble_eq_true rfl, Nat.le_of_ble_eq_true rfl⟩) hL (fun H locs hP1 hL => ?_)
  subst hP1
  refine lv_iload_n hx hb dX1_load_9 rfl (lv_at hl 2 rfl) ?_
  refine cc_0 (va_runS (As := [.int (nI wk)]) (rest := []) ⟨hx, hb, hml, hown, hts⟩ (ct_X1_week hE (x := nI wk) (in12_n hw)) (va_cwS 1 hts (lw_S q729 q730 q47 q731) rfl rfl rfl (by decide +kernel) ⟨Nat.le_of_ble_eq_true rfl, Nat.le_of_ble_eq_true rfl⟩) (cc_pS hW0) rfl rfl hl.1 rfl (lv_room (Nat.le_of_ble_eq_true rfl)) dX1_load_10 ⟨Nat.le_of_ble_eq_true rfl, Nat.le_of_ble_eq_true rfl⟩) hL (fun H locs hP1 hL => ?_)
  subst hP1
  refine lv_aload_n hx hb dX1_load_13 rfl (lv_at hl 0 rfl) ?_
  refine gx_get (D := D) (cl := gcl) (ci := 0) (v := .int (kT C)) (C := RX1) (T := TX1) (N := 10) hx hb hts in_X1 hown hK hR.np rfl 8 (by decide) (hts _ q280) (fun _ h9 => h9) rfl dX1_load_14 ?_
  refine lv_if_ne (tgt := 24) hx hb dX1_load_17 (by decide) (fun c17 => ?_) (fun c17 => ?_)
  · refine lv_iconst (v := 0) hx hb dX1_load_24 (by decide) ?_
    exact gt_leave (va_runTS (As := [.int 0]) (rest := []) ⟨hx, hb, hml, hown, hts⟩ (ct_X1_allow_T hE ⟨_, hR⟩ (x := 0) (rfl)) (va_cwS 1 hts (lw_S q666 q667 q47 q668) rfl rfl rfl (by decide +kernel) ⟨Nat.le_of_ble_eq_true rfl, Nat.le_of_ble_eq_true rfl⟩) (cc_pS hW0) rfl rfl hl.1 rfl (lv_room (Nat.le_of_ble_eq_true rfl)) dX1_load_25 ⟨Nat.le_of_ble_eq_true rfl, Nat.le_of_ble_eq_true rfl⟩) hno (fun st t u x hq h1 h2 h3 => ⟨by rw [h1]; exact hq.1, by rw [h1]; exact hq.2⟩) hL (fun q h => h) Bd.notSynchronized
  · exact absurd c17 h0
