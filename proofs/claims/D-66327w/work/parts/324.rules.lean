set_option maxHeartbeats 4000000 in
set_option maxRecDepth 100000 in
/-- AsNeeded.lot -/
theorem ct_X4_lot {l : Launch} {s0 : State} {D : va_G} {DA : Nat → ClassId} {z0 : Nat} {Y : YS} {C : CS} {M : MS} {o : Int64} {H : Heap} (hE : G0 l s0 D DA z0) (hR : GRb s0.heap.size s0.heap D DA z0 Y C M o H) {k wk : Nat} (hk : k < 12) (hw : wk < 12) (xn xg : Int64) : Met l yX4_lot (ws_ yX4_lot cX4_lot 7 (some .long)) ({ frames := 0, cells := 0, slots := 0, locals := 0 }) (cP s0 [.ref (s0.heap.size + 10), .ref (aI s0.heap.size k), .int (nI wk), .long xn, .long xg] H) (cQv (.long xn) (fun H1 => H1 = H)) 0 0 (cF s0) := by
  refine Met.ofW (cc := cX4_lot) (maxL := 7) (ret := (some .long)) (by decide) rfl ?_
  intro p e s m args below meth c s₁ Bd hml hv
  obtain ⟨rfl, rfl, hW0⟩ := hv
  have hx := Bd.exec
  have hb := Bd.bytes
  have hr := Bd.returns
  have hts := atoms_spec (ws := (ws_ yX4_lot cX4_lot 7 (some .long))) Bd.pre
  have hts : ∀ w ∈ lw_all, w.before _ s = true := fun w h => hts w (List.mem_cons_of_mem _ h)
  have hown : s.vm.findClass RX4 = some m.cls := findClass_of_methodNamed Bd.named
  have hlocks := Bd.notSynchronized
  have hK := va_K.moved hW0.alike hE.K
  have hL : gx_L s0.heap.size ([] : List Loc) := gx_L0
  have hl := lv_entry ([.ref (s0.heap.size + 10), .ref (aI s0.heap.size k), .int (nI wk), .long xn, .long xg]) (n := 7) (Nat.le_of_ble_eq_true rfl)
  rw [lg_entry_eq]
  generalize (lg_sl ([.ref (s0.heap.size + 10), .ref (aI s0.heap.size k), .int (nI wk), .long xn, .long xg]) ++ List.replicate (7 - (lg_sl ([.ref (s0.heap.size + 10), .ref (aI s0.heap.size k), .int (nI wk), .long xn, .long xg])).length) Slot.unset).toArray = ls at hl ⊢
  have hl : lv_has ls 7 [(0, .ref (s0.heap.size + 10)), (1, .ref (aI s0.heap.size k)), (2, .int (nI wk)), (3, .long xn), (5, .long xg)] := hl
  refine lv_lload_n hx hb dX4_lot_0 rfl (lv_at hl 3 rfl) ?_
  exact W.lret (v := xn) hx hb hr (fun t ht hW => ⟨rfl, ht⟩) hL dX4_lot_1
set_option maxHeartbeats 4000000 in
set_option maxRecDepth 100000 in
/-- Multiples.lot -/
theorem ct_X5_lot {l : Launch} {s0 : State} {D : va_G} {DA : Nat → ClassId} {z0 : Nat} {Y : YS} {C : CS} {M : MS} {o : Int64} {H : Heap} (hE : G0 l s0 D DA z0) (hR : GRb s0.heap.size s0.heap D DA z0 Y C M o H) {k wk : Nat} (hk : k < 12) (hw : wk < 12) (xn xg : Int64) (hC : CC C) : Met l yX5_lot (ws_ yX5_lot cX5_lot 7 (some .long)) ({ frames := 0, cells := 0, slots := 0, locals := 0 }) (cP s0 [.ref (s0.heap.size + 11), .ref (aI s0.heap.size k), .int (nI wk), .long xn, .long xg] H) (cQv (.long ((xn + (kI C 2 k).toInt64 - 1) / (kI C 2 k).toInt64 * (kI C 2 k).toInt64)) (fun H1 => H1 = H)) 0 0 (cF s0) := by
  refine Met.ofW (cc := cX5_lot) (maxL := 7) (ret := (some .long)) (by decide) rfl ?_
  intro p e s m args below meth c s₁ Bd hml hv
  obtain ⟨rfl, rfl, hW0⟩ := hv
  have hx := Bd.exec
  have hb := Bd.bytes
  have hr := Bd.returns
  have hts := atoms_spec (ws := (ws_ yX5_lot cX5_lot 7 (some .long))) Bd.pre
  have hts : ∀ w ∈ lw_all, w.before _ s = true := fun w h => hts w (List.mem_cons_of_mem _ h)
  have hown : s.vm.findClass RX5 = some m.cls := findClass_of_methodNamed Bd.named
  have hlocks := Bd.notSynchronized
  have hK := va_K.moved hW0.alike hE.K
  have hL : gx_L s0.heap.size ([] : List Loc) := gx_L0
  have hl := lv_entry ([.ref (s0.heap.size + 11), .ref (aI s0.heap.size k), .int (nI wk), .long xn, .long xg]) (n := 7) (Nat.le_of_ble_eq_true rfl)
  rw [lg_entry_eq]
  generalize (lg_sl ([.ref (s0.heap.size + 11), .ref (aI s0.heap.size k), .int (nI wk), .long xn, .long xg]) ++ List.replicate (7 - (lg_sl ([.ref (s0.heap.size + 11), .ref (aI s0.heap.size k), .int (nI wk), .long xn, .long xg])).length) Slot.unset).toArray = ls at hl ⊢
  have hl : lv_has ls 7 [(0, .ref (s0.heap.size + 11)), (1, .ref (aI s0.heap.size k)), (2, .int (nI wk)), (3, .long xn), (5, .long xg)] := hl
  refine lv_lload_n hx hb dX5_lot_0 rfl (lv_at hl 3 rfl) ?_
  refine lv_aload_n hx hb dX5_lot_1 rfl (lv_at hl 1 rfl) ?_
  refine gx_getN (D := D) (cl := gcl) (ci := 8) (v := .int (kI C 2 k)) (C := RX9) (T := TX9) (N := 19) hx hb hts in_X9 hown hK (hR.itm k hk) rfl 2 (by decide) (hE.nF hW0 q190) (fun _ h9 => h9) rfl dX5_lot_2 ?_
  refine lv_i2l (v := (kI C 2 k).toInt64) hx hb dX5_lot_5 rfl ?_
  refine lv_ladd hx hb dX5_lot_6 ?_
  refine lv_lconst (v := 1) hx hb dX5_lot_7 (by decide) ?_
  refine lv_lsub hx hb dX5_lot_8 ?_
  refine lv_aload_n hx hb dX5_lot_9 rfl (lv_at hl 1 rfl) ?_
  refine gx_getN (D := D) (cl := gcl) (ci := 8) (v := .int (kI C 2 k)) (C := RX9) (T := TX9) (N := 19) hx hb hts in_X9 hown hK (hR.itm k hk) rfl 2 (by decide) (hE.nF hW0 q190) (fun _ h9 => h9) rfl dX5_lot_10 ?_
  refine lv_i2l (v := (kI C 2 k).toInt64) hx hb dX5_lot_13 rfl ?_
  refine lv_ldiv hx hb dX5_lot_14 (by rw [hC.sz hk]; exact sz_ne (hC.z1 hk) (hC.z2 hk)) ?_
  refine lv_aload_n hx hb dX5_lot_15 rfl (lv_at hl 1 rfl) ?_
  refine gx_getN (D := D) (cl := gcl) (ci := 8) (v := .int (kI C 2 k)) (C := RX9) (T := TX9) (N := 19) hx hb hts in_X9 hown hK (hR.itm k hk) rfl 2 (by decide) (hE.nF hW0 q190) (fun _ h9 => h9) rfl dX5_lot_16 ?_
  refine lv_i2l (v := (kI C 2 k).toInt64) hx hb dX5_lot_19 rfl ?_
  refine lv_lmul hx hb dX5_lot_20 ?_
  exact W.lret (v := ((((xn + ((kI C 2 k).toInt64)) - 1) / ((kI C 2 k).toInt64)) * ((kI C 2 k).toInt64))) hx hb hr (fun t ht hW => ⟨rfl, ht⟩) hL dX5_lot_21
set_option maxHeartbeats 4000000 in
set_option maxRecDepth 100000 in
/-- Cover.lot -/
theorem ct_X6_lot {l : Launch} {s0 : State} {D : va_G} {DA : Nat → ClassId} {z0 : Nat} {Y : YS} {C : CS} {M : MS} {o : Int64} {H : Heap} (hE : G0 l s0 D DA z0) (hR : GRb s0.heap.size s0.heap D DA z0 Y C M o H) {k wk : Nat} (hk : k < 12) (hw : wk < 12) (xn xg : Int64) (hC : CC C) : Met l yX6_lot (ws_ yX6_lot cX6_lot 7 (some .long)) ({ frames := 1, cells := 0, slots := 0, locals := 21 }) (cP s0 [.ref (s0.heap.size + 12), .ref (aI s0.heap.size k), .int (nI wk), .long xn, .long xg] H) (cQv (.long (kA C 2 k ((if wk + cSz C k - 1 < 11 then wk + cSz C k - 1 else 11) + 1) - xg)) (fun H1 => H1 = H)) 0 0 (cF s0) := by
  refine Met.ofW (cc := cX6_lot) (maxL := 7) (ret := (some .long)) (by decide) rfl ?_
  intro p e s m args below meth c s₁ Bd hml hv
  obtain ⟨rfl, rfl, hW0⟩ := hv
  have hx := Bd.exec
  have hb := Bd.bytes
  have hr := Bd.returns
  have hts := atoms_spec (ws := (ws_ yX6_lot cX6_lot 7 (some .long))) Bd.pre
  have hts : ∀ w ∈ lw_all, w.before _ s = true := fun w h => hts w (List.mem_cons_of_mem _ h)
  have hown : s.vm.findClass RX6 = some m.cls := findClass_of_methodNamed Bd.named
  have hlocks := Bd.notSynchronized
  have hK := va_K.moved hW0.alike hE.K
  have hL : gx_L s0.heap.size ([] : List Loc) := gx_L0
  have hl := lv_entry ([.ref (s0.heap.size + 12), .ref (aI s0.heap.size k), .int (nI wk), .long xn, .long xg]) (n := 7) (Nat.le_of_ble_eq_true rfl)
  rw [lg_entry_eq]
  generalize (lg_sl ([.ref (s0.heap.size + 12), .ref (aI s0.heap.size k), .int (nI wk), .long xn, .long xg]) ++ List.replicate (7 - (lg_sl ([.ref (s0.heap.size + 12), .ref (aI s0.heap.size k), .int (nI wk), .long xn, .long xg])).length) Slot.unset).toArray = ls at hl ⊢
  have hl : lv_has ls 7 [(0, .ref (s0.heap.size + 12)), (1, .ref (aI s0.heap.size k)), (2, .int (nI wk)), (3, .long xn), (5, .long xg)] := hl
  have z1 := hC.z1 hk
  have z2 := hC.z2 hk
  have hix : (if wk + cSz C k - 1 < 11 then wk + cSz C k - 1 else 11) < 12 := by split <;> omega
  refine lv_aload_n hx hb dX6_lot_0 rfl (lv_at hl 1 rfl) ?_
  refine lv_bipush (v := 11) hx hb dX6_lot_1 (by decide) ?_
  refine lv_iload_n hx hb dX6_lot_3 rfl (lv_at hl 2 rfl) ?_
  refine lv_aload_n hx hb dX6_lot_4 rfl (lv_at hl 1 rfl) ?_
  refine gx_getN (D := D) (cl := gcl) (ci := 8) (v := .int (kI C 2 k)) (C := RX9) (T := TX9) (N := 19) hx hb hts in_X9 hown hK (hR.itm k hk) rfl 2 (by decide) (hE.nF hW0 q191) (fun _ h9 => h9) rfl dX6_lot_5 ?_
  refine lv_iadd hx hb dX6_lot_8 ?_
  refine gx_ti (nI (wk + cSz C k)) (by rw [hC.sz hk]; exact nI_add _ _) ?_
  refine lv_iconst (v := 1) hx hb dX6_lot_9 (by decide) ?_
  refine lv_isub hx hb dX6_lot_10 ?_
  refine gx_ti (nI (wk + cSz C k - 1)) (pk_sub (b := 1) (by omega)) ?_
  refine va_mmin hx hb (by rw [hml]; exact hl.1.symm) hown (hts _ q518) (hts _ q371) (hts _ q73) (hts _ q372) (Nat.le_of_ble_eq_true rfl) (Nat.le_of_ble_eq_true rfl) (Nat.le_of_ble_eq_true rfl) (Nat.le_of_ble_eq_true rfl) dX6_lot_11 ?_
  refine gx_ti (nI (if wk + cSz C k - 1 < 11 then wk + cSz C k - 1 else 11)) (nI_min (by omega)) ?_
  refine cc_v (va_runV (b := aI s0.heap.size k) (As := [.int (nI (if wk + cSz C k - 1 < 11 then wk + cSz C k - 1 else 11))]) (rest := []) ⟨hx, hb, hml, hown, hts⟩ (ct_X9_need (wk := (if wk + cSz C k - 1 < 11 then wk + cSz C k - 1 else 11)) hE hR hk hix) (cwV 1 hts (lw_V q519 q506 q507 q58 q508) rfl rfl rfl (by decide +kernel) ⟨Nat.le_of_ble_eq_true rfl, Nat.le_of_ble_eq_true rfl⟩) (cc_pV hW0 (cc_re hK (hR.itm k hk) (show gcl[8]? = _ from rfl))) rfl rfl hl.1 rfl (lv_room (Nat.le_of_ble_eq_true rfl)) dX6_lot_14 ⟨Nat.le_of_ble_eq_true rfl, Nat.le_of_ble_eq_true rfl⟩) hL (fun H locs hP1 hL => ?_)
  subst hP1
  refine lv_lload hx hb dX6_lot_17 (lv_at hl 4 rfl) ?_
  refine lv_lsub hx hb dX6_lot_19 ?_
  exact W.lret (v := ((kA C 2 k ((if wk + cSz C k - 1 < 11 then wk + cSz C k - 1 else 11) + 1)) - xg)) hx hb hr (fun t ht hW => ⟨rfl, ht⟩) hL dX6_lot_20
set_option maxHeartbeats 4000000 in
set_option maxRecDepth 100000 in
/-- LeastCost.lot -/
theorem ct_X7_lot {l : Launch} {s0 : State} {D : va_G} {DA : Nat → ClassId} {z0 : Nat} {Y : YS} {C : CS} {M : MS} {o : Int64} {H : Heap} (hE : G0 l s0 D DA z0) (hR : GRb s0.heap.size s0.heap D DA z0 Y C M o H) {k wk : Nat} (hk : k < 12) (hw : wk < 12) (xn xg : Int64) (hlw : kW C wk = nI (cW C wk) ∧ cW C wk < 12) : Met l yX7_lot (ws_ yX7_lot cX7_lot 7 (some .long)) ({ frames := 1, cells := 0, slots := 0, locals := 21 }) (cP s0 [.ref (s0.heap.size + 13), .ref (aI s0.heap.size k), .int (nI wk), .long xn, .long xg] H) (cQv (.long (kA C 2 k (cW C wk + 1) - xg)) (fun H1 => H1 = H)) 0 0 (cF s0) := by
  refine Met.ofW (cc := cX7_lot) (maxL := 7) (ret := (some .long)) (by decide) rfl ?_
  intro p e s m args below meth c s₁ Bd hml hv
  obtain ⟨rfl, rfl, hW0⟩ := hv
  have hx := Bd.exec
  have hb := Bd.bytes
  have hr := Bd.returns
  have hts := atoms_spec (ws := (ws_ yX7_lot cX7_lot 7 (some .long))) Bd.pre
  have hts : ∀ w ∈ lw_all, w.before _ s = true := fun w h => hts w (List.mem_cons_of_mem _ h)
  have hown : s.vm.findClass RX7 = some m.cls := findClass_of_methodNamed Bd.named
  have hlocks := Bd.notSynchronized
  have hK := va_K.moved hW0.alike hE.K
  have hL : gx_L s0.heap.size ([] : List Loc) := gx_L0
  have hl := lv_entry ([.ref (s0.heap.size + 13), .ref (aI s0.heap.size k), .int (nI wk), .long xn, .long xg]) (n := 7) (Nat.le_of_ble_eq_true rfl)
  rw [lg_entry_eq]
  generalize (lg_sl ([.ref (s0.heap.size + 13), .ref (aI s0.heap.size k), .int (nI wk), .long xn, .long xg]) ++ List.replicate (7 - (lg_sl ([.ref (s0.heap.size + 13), .ref (aI s0.heap.size k), .int (nI wk), .long xn, .long xg])).length) Slot.unset).toArray = ls at hl ⊢
  have hl : lv_has ls 7 [(0, .ref (s0.heap.size + 13)), (1, .ref (aI s0.heap.size k)), (2, .int (nI wk)), (3, .long xn), (5, .long xg)] := hl
  refine lv_aload_n hx hb dX7_lot_0 rfl (lv_at hl 1 rfl) ?_
  refine lv_aload_n hx hb dX7_lot_1 rfl (lv_at hl 0 rfl) ?_
  refine gx_get (D := D) (cl := gcl) (ci := 6) (v := .ref (s0.heap.size + 15)) (C := RX7) (T := TX7) (N := 2) hx hb hts in_X7 hown hK hR.lc rfl 1 (by decide) (hts _ q158) (fun _ h9 => h9) rfl dX7_lot_2 ?_
  refine lv_iload_n hx hb dX7_lot_5 rfl (lv_at hl 2 rfl) ?_
  refine gx_iald (n := 12) hx hb hK 1 hR.las rfl wk (rfl) (by omega) (by decide) dX7_lot_6 ?_
  refine gx_ti (nI (cW C wk)) (hlw.1) ?_
  refine cc_v (va_runV (b := aI s0.heap.size k) (As := [.int (nI (cW C wk))]) (rest := []) ⟨hx, hb, hml, hown, hts⟩ (ct_X9_need (wk := (cW C wk)) hE hR hk hlw.2) (cwV 1 hts (lw_V q523 q506 q507 q58 q508) rfl rfl rfl (by decide +kernel) ⟨Nat.le_of_ble_eq_true rfl, Nat.le_of_ble_eq_true rfl⟩) (cc_pV hW0 (cc_re hK (hR.itm k hk) (show gcl[8]? = _ from rfl))) rfl rfl hl.1 rfl (lv_room (Nat.le_of_ble_eq_true rfl)) dX7_lot_7 ⟨Nat.le_of_ble_eq_true rfl, Nat.le_of_ble_eq_true rfl⟩) hL (fun H locs hP1 hL => ?_)
  subst hP1
  refine lv_lload hx hb dX7_lot_10 (lv_at hl 4 rfl) ?_
  refine lv_lsub hx hb dX7_lot_12 ?_
  exact W.lret (v := ((kA C 2 k ((cW C wk) + 1)) - xg)) hx hb hr (fun t ht hW => ⟨rfl, ht⟩) hL dX7_lot_13
set_option maxHeartbeats 4000000 in
set_option maxRecDepth 100000 in
/-- LotRule.plan, rule 0 -/
theorem ct_X3_plan_0 {l : Launch} {s0 : State} {D : va_G} {DA : Nat → ClassId} {z0 : Nat} {C : CS} {M : MS} {o : Int64} {H : Heap} (hE : G0 l s0 D DA z0) (hR : RR s0 D DA z0 C M o H) {k : Nat} (hk : k < 12) (hC : CC C) : Met l yX3_plan (ws_ yX3_plan cX3_plan 5 none) ({ frames := 1, cells := 0, slots := 0, locals := 26 }) (cP s0 [.ref (s0.heap.size + 10), .ref (aI s0.heap.size k)] H) (cQ0 (fun H1 => RR s0 D DA z0 (c_pl C 0 k) M o H1)) 0 0 (cF s0) := by
  refine Met.ofW (cc := cX3_plan) (maxL := 5) (ret := none) (by decide) rfl ?_
  intro p e s m args below meth c s₁ Bd hml hv
  obtain ⟨rfl, rfl, hW0⟩ := hv
  have hx := Bd.exec
  have hb := Bd.bytes
  have hr := Bd.returns
  have hts := atoms_spec (ws := (ws_ yX3_plan cX3_plan 5 none)) Bd.pre
  have hts : ∀ w ∈ lw_all, w.before _ s = true := fun w h => hts w (List.mem_cons_of_mem _ h)
  have hown : s.vm.findClass RX3 = some m.cls := findClass_of_methodNamed Bd.named
  have hlocks := Bd.notSynchronized
  have hK := va_K.moved hW0.alike hE.K
  have hL : gx_L s0.heap.size ([] : List Loc) := gx_L0
  obtain ⟨Y, hR⟩ := hR
  have hl := lv_entry ([.ref (s0.heap.size + 10), .ref (aI s0.heap.size k)]) (n := 5) (Nat.le_of_ble_eq_true rfl)
  rw [lg_entry_eq]
  generalize (lg_sl ([.ref (s0.heap.size + 10), .ref (aI s0.heap.size k)]) ++ List.replicate (5 - (lg_sl ([.ref (s0.heap.size + 10), .ref (aI s0.heap.size k)])).length) Slot.unset).toArray = ls at hl ⊢
  have hl : lv_has ls 5 [(0, .ref (s0.heap.size + 10)), (1, .ref (aI s0.heap.size k))] := hl
  have key : ∀ (n : Nat) (v : Nat) (H : Heap) (locs : List Loc) (ls : Array Slot), v ≤ 12 → 12 < v + n → lv_has ls 5 [(2, .long (c_pg C 0 k v)), (4, .int (nI v)), (0, .ref (s0.heap.size + 10)), (1, .ref (aI s0.heap.size k))] → gx_L s0.heap.size locs → GRb s0.heap.size s0.heap D DA z0 Y (c_wr C 3 k v (c_pq C 0 k)) M o H → W p l e (headSpec (ws_ yX3_plan cX3_plan 5 none) ({ frames := 1, cells := 0, slots := 0, locals := 26 })).room s m ([.ref (s0.heap.size + 10), .ref (aI s0.heap.size k)] : List Value).toArray below meth c H locs 0 0 (MQ below (cQ0 (fun H1 => RR s0 D DA z0 (c_pl C 0 k) M o H1)) ([.ref (s0.heap.size + 10), .ref (aI s0.heap.size k)] : List Value).toArray s 0 0 (cF s0)) (F0 m 5 ls []) := by
    intro n
    induction n with
    | zero =>
      intro v H locs ls hv hn hl hL hR
      omega
    | succ n ih =>
      intro v H locs ls hv hn hl hL hR
      have h4 := hC.l4 hk
      refine lv_iload hx hb dX3_plan_5 (lv_at hl 1 rfl) ?_
      refine lv_bipush (v := 12) hx hb dX3_plan_7 (by decide) ?_
      refine lv_icmp_ge (tgt := 82) hx hb dX3_plan_9 (by decide) (fun c9 => ?_) (fun c9 => ?_)
      · have hkc : v = 12 := by have := n_ge (b := 12) c9 (by omega) (by omega); omega
        subst hkc
        exact W.vret hx hb hr (fun t ht hW => ⟨rfl, by rw [ht]; exact ⟨Y, hR⟩⟩) hL dX3_plan_82
      · have hkc : v < 12 := by have := n_lt (b := 12) c9 (by omega) (by omega); omega
        refine lv_aload_n hx hb dX3_plan_12 rfl (lv_at hl 3 rfl) ?_
        refine gx_getN (D := D) (cl := gcl) (ci := 8) (v := .ref (aA s0.heap.size 3 k)) (C := RX9) (T := TX9) (N := 19) hx hb hts in_X9 hown hK (hR.itm k hk) rfl 17 (by decide) (hE.nF hW0 q217) (fun _ h9 => h9) rfl dX3_plan_13 ?_
        refine lv_iload hx hb dX3_plan_16 (lv_at hl 1 rfl) ?_
        refine lv_lconst (v := 0) hx hb dX3_plan_18 (by decide) ?_
        refine gx_last (n := 12) hx hb hK 0 (hR.arr 3 k (by decide) hk) rfl v (rfl) (by omega) (by decide) hL (by (try simp only [aI, aA, aT, aB, aL, mad]); omega) dX3_plan_19 (fun H locs hU hA hL => ?_)
        have hR := GRb.pA (j := 3) (k := k) (by decide) hk hR hU hA
        have hnd : kA (rA (c_wr C 3 k v (c_pq C 0 k)) (up3 (kA (c_wr C 3 k v (c_pq C 0 k))) 3 k v 0)) 2 k = kA C 2 k := by show up3 (kA (c_wr C 3 k v (c_pq C 0 k))) 3 k v 0 2 k = _; rw [up3_n (Or.inl (by decide)), c_wr_o _ _ (Or.inl (by decide))]
        refine lv_iload hx hb dX3_plan_20 (lv_at hl 1 rfl) ?_
        refine lv_aload_n hx hb dX3_plan_22 rfl (lv_at hl 3 rfl) ?_
        refine gx_getN (D := D) (cl := gcl) (ci := 8) (v := .int (kI (rA (c_wr C 3 k v (c_pq C 0 k)) (up3 (kA (c_wr C 3 k v (c_pq C 0 k))) 3 k v 0)) 3 k)) (C := RX9) (T := TX9) (N := 19) hx hb hts in_X9 hown hK (hR.itm k hk) rfl 3 (by decide) (hE.nF hW0 q194) (fun _ h9 => h9) rfl dX3_plan_23 ?_
        refine gx_ti (nI (cLd C k)) (hC.ld hk) ?_
        refine lv_icmp_lt (tgt := 76) hx hb dX3_plan_26 (by decide) (fun c26 => ?_) (fun c26 => ?_)
        · refine lv_iinc (v := nI (v + 1)) (lv' := [(4, .int (nI (v + 1))), (2, .long (c_pg C 0 k v)), (0, .ref (s0.heap.size + 10)), (1, .ref (aI s0.heap.size k))]) hx hb dX3_plan_76 hl (k := 1) rfl (nI_1 v) (by decide) rfl (fun ls hl => ?_)
          refine lv_goto (tgt := 5) hx hb dX3_plan_79 (by decide) ?_
          have hz : c_pq C 0 k v = 0 := by unfold c_pq c_q; rw [if_neg (fun q => absurd q.1 (by have := n_gt c26 (by omega) (by omega); omega))]
          have hR := GR_C (C := (rA (c_wr C 3 k v (c_pq C 0 k)) (up3 (kA (c_wr C 3 k v (c_pq C 0 k))) 3 k v 0))) (C' := c_wr C 3 k (v + 1) (c_pq C 0 k)) (by rw [← c_wr_s, hz]) hR
          have hl : lv_has ls 5 [(4, .int (nI (v + 1))), (2, .long (c_pg C 0 k (v + 1))), (0, .ref (s0.heap.size + 10)), (1, .ref (aI s0.heap.size k))] := by rw [show c_pg C 0 k (v + 1) = c_pg C 0 k v from by show c_pg C 0 k v + c_pq C 0 k v = _; rw [hz]; grind]; exact hl
          exact ih (v + 1) _ _ _ (by omega) (by omega) (lv_sub hl [1, 0, 2, 3] rfl) hL hR
        · have hld : cLd C k ≤ v := n_le c26 (by omega) (by omega)
          refine lv_aload_n hx hb dX3_plan_29 rfl (lv_at hl 3 rfl) ?_
          refine lv_iload hx hb dX3_plan_30 (lv_at hl 1 rfl) ?_
          refine cc_v (va_runV (b := aI s0.heap.size k) (As := [.int (nI v)]) (rest := []) ⟨hx, hb, hml, hown, hts⟩ (ct_X9_need (wk := v) hE hR hk hkc) (cwV 1 hts (lw_V q505 q506 q507 q58 q508) rfl rfl rfl (by decide +kernel) ⟨Nat.le_of_ble_eq_true rfl, Nat.le_of_ble_eq_true rfl⟩) (cc_pV hW0 (cc_re hK (hR.itm k hk) (show gcl[8]? = _ from rfl))) rfl rfl hl.1 rfl (lv_room (Nat.le_of_ble_eq_true rfl)) dX3_plan_32 ⟨Nat.le_of_ble_eq_true rfl, Nat.le_of_ble_eq_true rfl⟩) hL (fun H locs hP1 hL => ?_)
          subst hP1
          refine gx_tl (kA C 2 k (v + 1)) (by rw [hnd]) ?_
          refine lv_lload_n hx hb dX3_plan_35 rfl (lv_at hl 0 rfl) ?_
          refine gx_lc_gt (tgt := 43) (pc1 := 37) hx hb rfl dX3_plan_36 dX3_plan_37 (by decide) (fun c37 => ?_) (fun c37 => ?_)
          · refine lv_aload_n hx hb dX3_plan_43 rfl (lv_at hl 3 rfl) ?_
            refine gx_getN (D := D) (cl := gcl) (ci := 8) (v := .ref (aA s0.heap.size 3 k)) (C := RX9) (T := TX9) (N := 19) hx hb hts in_X9 hown hK (hR.itm k hk) rfl 17 (by decide) (hE.nF hW0 q217) (fun _ h9 => h9) rfl dX3_plan_44 ?_
            refine lv_iload hx hb dX3_plan_47 (lv_at hl 1 rfl) ?_
            refine lv_aload_n hx hb dX3_plan_49 rfl (lv_at hl 2 rfl) ?_
            refine lv_aload_n hx hb dX3_plan_50 rfl (lv_at hl 3 rfl) ?_
            refine lv_iload hx hb dX3_plan_51 (lv_at hl 1 rfl) ?_
            refine lv_aload_n hx hb dX3_plan_53 rfl (lv_at hl 3 rfl) ?_
            refine lv_iload hx hb dX3_plan_54 (lv_at hl 1 rfl) ?_
            refine cc_v (va_runV (b := aI s0.heap.size k) (As := [.int (nI v)]) (rest := [.int (nI v), .ref (aI s0.heap.size k), .ref (s0.heap.size + 10), .int (nI v), .ref (aA s0.heap.size 3 k)]) ⟨hx, hb, hml, hown, hts⟩ (ct_X9_need (wk := v) hE hR hk hkc) (cwV 1 hts (lw_V q505 q506 q507 q58 q508) rfl rfl rfl (by decide +kernel) ⟨Nat.le_of_ble_eq_true rfl, Nat.le_of_ble_eq_true rfl⟩) (cc_pV hW0 (cc_re hK (hR.itm k hk) (show gcl[8]? = _ from rfl))) rfl rfl hl.1 rfl (lv_room (Nat.le_of_ble_eq_true rfl)) dX3_plan_56 ⟨Nat.le_of_ble_eq_true rfl, Nat.le_of_ble_eq_true rfl⟩) hL (fun H locs hP1 hL => ?_)
            subst hP1
            refine gx_tl (kA C 2 k (v + 1)) (by rw [hnd]) ?_
            refine lv_lload_n hx hb dX3_plan_59 rfl (lv_at hl 0 rfl) ?_
            refine lv_lsub hx hb dX3_plan_60 ?_
            refine lv_lload_n hx hb dX3_plan_61 rfl (lv_at hl 0 rfl) ?_
            refine cc_v (va_runU (b := s0.heap.size + 10) (As := [.ref (aI s0.heap.size k), .int (nI v), .long ((kA C 2 k (v + 1)) - (c_pg C 0 k v)), .long (c_pg C 0 k v)]) (rest := [.int (nI v), .ref (aA s0.heap.size 3 k)]) ⟨hx, hb, hml, hown, hts⟩ (ct_X4_lot (wk := v) hE hR hk hkc (kA C 2 k (v + 1) - c_pg C 0 k v) (c_pg C 0 k v)) (va_cwA 4 hts (lw_U (owner := "NettedPlans$LotRule") q509 q511 q512 q513 q53 q514) rfl rfl rfl (va_Nw.warmD hW0 (hE.nw rfl q510)) (by decide +kernel) ⟨Nat.le_of_ble_eq_true rfl, Nat.le_of_ble_eq_true rfl⟩) (cc_pV hW0 (cc_re hK hR.an (show gcl[3]? = _ from rfl))) rfl rfl hl.1 rfl (lv_room (Nat.le_of_ble_eq_true rfl)) dX3_plan_62 ⟨Nat.le_of_ble_eq_true rfl, Nat.le_of_ble_eq_true rfl⟩) hL (fun H locs hP1 hL => ?_)
            subst hP1
            refine gx_tl (c_pq C 0 k v) (by unfold c_pq c_q; rw [if_pos (show cLd C k ≤ v ∧ c_pg C 0 k v < kA C 2 k (v + 1) from ⟨hld, c37⟩)]; unfold c_lot; rw [if_pos (show (0 : Nat) = 0 from rfl)]; try rfl) ?_
            refine gx_last (n := 12) hx hb hK 0 (hR.arr 3 k (by decide) hk) rfl v (rfl) (by omega) (by decide) hL (by (try simp only [aI, aA, aT, aB, aL, mad]); omega) dX3_plan_65 (fun H locs hU hA hL => ?_)
            have hR := GRb.pA (j := 3) (k := k) (by decide) hk hR hU hA
            have hR := GR_C (C := (rA (rA (c_wr C 3 k v (c_pq C 0 k)) (up3 (kA (c_wr C 3 k v (c_pq C 0 k))) 3 k v 0)) (up3 (kA (rA (c_wr C 3 k v (c_pq C 0 k)) (up3 (kA (c_wr C 3 k v (c_pq C 0 k))) 3 k v 0))) 3 k v (c_pq C 0 k v)))) (C' := c_wr C 3 k (v + 1) (c_pq C 0 k)) (by rw [← c_wr_s, rA_rA]; congr 1; exact up3_up3) hR
            refine lv_lload_n hx hb dX3_plan_66 rfl (lv_at hl 0 rfl) ?_
            refine lv_aload_n hx hb dX3_plan_67 rfl (lv_at hl 3 rfl) ?_
            refine gx_getN (D := D) (cl := gcl) (ci := 8) (v := .ref (aA s0.heap.size 3 k)) (C := RX9) (T := TX9) (N := 19) hx hb hts in_X9 hown hK (hR.itm k hk) rfl 17 (by decide) (hE.nF hW0 q217) (fun _ h9 => h9) rfl dX3_plan_68 ?_
            refine lv_iload hx hb dX3_plan_71 (lv_at hl 1 rfl) ?_
            refine gx_lald (n := 12) hx hb hK 0 (hR.arr 3 k (by decide) hk) rfl v (rfl) (by omega) (by decide) dX3_plan_73 ?_
            refine gx_tl (c_pq C 0 k v) (c_wr_i C (c_pq C 0 k) (Nat.lt_succ_self v)) ?_
            refine lv_ladd hx hb dX3_plan_74 ?_
            refine gx_tl (c_pg C 0 k (v + 1)) (rfl) ?_
            refine lv_lstore_n (lv' := [(2, .long (c_pg C 0 k (v + 1))), (4, .int (nI v)), (0, .ref (s0.heap.size + 10)), (1, .ref (aI s0.heap.size k))]) hx hb dX3_plan_75 rfl hl (by decide) rfl (fun ls hl => ?_)
            refine lv_iinc (v := nI (v + 1)) (lv' := [(4, .int (nI (v + 1))), (2, .long (c_pg C 0 k (v + 1))), (0, .ref (s0.heap.size + 10)), (1, .ref (aI s0.heap.size k))]) hx hb dX3_plan_76 hl (k := 1) rfl (nI_1 v) (by decide) rfl (fun ls hl => ?_)
            refine lv_goto (tgt := 5) hx hb dX3_plan_79 (by decide) ?_
            exact ih (v + 1) _ _ _ (by omega) (by omega) (lv_sub hl [1, 0, 2, 3] rfl) hL hR
          · refine lv_goto (tgt := 76) hx hb dX3_plan_40 (by decide) ?_
            refine lv_iinc (v := nI (v + 1)) (lv' := [(4, .int (nI (v + 1))), (2, .long (c_pg C 0 k v)), (0, .ref (s0.heap.size + 10)), (1, .ref (aI s0.heap.size k))]) hx hb dX3_plan_76 hl (k := 1) rfl (nI_1 v) (by decide) rfl (fun ls hl => ?_)
            refine lv_goto (tgt := 5) hx hb dX3_plan_79 (by decide) ?_
            have hz : c_pq C 0 k v = 0 := by unfold c_pq c_q; rw [if_neg (fun q => c37 q.2)]
            have hR := GR_C (C := (rA (c_wr C 3 k v (c_pq C 0 k)) (up3 (kA (c_wr C 3 k v (c_pq C 0 k))) 3 k v 0))) (C' := c_wr C 3 k (v + 1) (c_pq C 0 k)) (by rw [← c_wr_s, hz]) hR
            have hl : lv_has ls 5 [(4, .int (nI (v + 1))), (2, .long (c_pg C 0 k (v + 1))), (0, .ref (s0.heap.size + 10)), (1, .ref (aI s0.heap.size k))] := by rw [show c_pg C 0 k (v + 1) = c_pg C 0 k v from by show c_pg C 0 k v + c_pq C 0 k v = _; rw [hz]; grind]; exact hl
            exact ih (v + 1) _ _ _ (by omega) (by omega) (lv_sub hl [1, 0, 2, 3] rfl) hL hR
  refine lv_lconst (v := 0) hx hb dX3_plan_0 (by decide) ?_
  refine gx_tl (c_pg C 0 k 0) (rfl) ?_
  refine lv_lstore_n (lv' := [(2, .long (c_pg C 0 k 0)), (0, .ref (s0.heap.size + 10)), (1, .ref (aI s0.heap.size k))]) hx hb dX3_plan_1 rfl hl (by decide) rfl (fun ls hl => ?_)
  refine lv_iconst (v := 0) hx hb dX3_plan_2 (by decide) ?_
  refine gx_ti (nI 0) (by decide) ?_
  refine lv_istore (lv' := [(4, .int (nI 0)), (2, .long (c_pg C 0 k 0)), (0, .ref (s0.heap.size + 10)), (1, .ref (aI s0.heap.size k))]) hx hb dX3_plan_3 hl (by decide) rfl (fun ls hl => ?_)
  exact key 13 0 _ _ _ (by omega) (by omega) (lv_sub hl [1, 0, 2, 3] rfl) hL (by rw [c_wr_0]; exact hR)
set_option maxHeartbeats 4000000 in
set_option maxRecDepth 100000 in
/-- LotRule.plan, rule 1 -/
theorem ct_X3_plan_1 {l : Launch} {s0 : State} {D : va_G} {DA : Nat → ClassId} {z0 : Nat} {C : CS} {M : MS} {o : Int64} {H : Heap} (hE : G0 l s0 D DA z0) (hR : RR s0 D DA z0 C M o H) {k : Nat} (hk : k < 12) (hC : CC C) : Met l yX3_plan (ws_ yX3_plan cX3_plan 5 none) ({ frames := 1, cells := 0, slots := 0, locals := 26 }) (cP s0 [.ref (s0.heap.size + 11), .ref (aI s0.heap.size k)] H) (cQ0 (fun H1 => RR s0 D DA z0 (c_pl C 1 k) M o H1)) 0 0 (cF s0) := by
  refine Met.ofW (cc := cX3_plan) (maxL := 5) (ret := none) (by decide) rfl ?_
  intro p e s m args below meth c s₁ Bd hml hv
  obtain ⟨rfl, rfl, hW0⟩ := hv
  have hx := Bd.exec
  have hb := Bd.bytes
  have hr := Bd.returns
  have hts := atoms_spec (ws := (ws_ yX3_plan cX3_plan 5 none)) Bd.pre
  have hts : ∀ w ∈ lw_all, w.before _ s = true := fun w h => hts w (List.mem_cons_of_mem _ h)
  have hown : s.vm.findClass RX3 = some m.cls := findClass_of_methodNamed Bd.named
  have hlocks := Bd.notSynchronized
  have hK := va_K.moved hW0.alike hE.K
  have hL : gx_L s0.heap.size ([] : List Loc) := gx_L0
  obtain ⟨Y, hR⟩ := hR
  have hl := lv_entry ([.ref (s0.heap.size + 11), .ref (aI s0.heap.size k)]) (n := 5) (Nat.le_of_ble_eq_true rfl)
  rw [lg_entry_eq]
  generalize (lg_sl ([.ref (s0.heap.size + 11), .ref (aI s0.heap.size k)]) ++ List.replicate (5 - (lg_sl ([.ref (s0.heap.size + 11), .ref (aI s0.heap.size k)])).length) Slot.unset).toArray = ls at hl ⊢
  have hl : lv_has ls 5 [(0, .ref (s0.heap.size + 11)), (1, .ref (aI s0.heap.size k))] := hl
  have key : ∀ (n : Nat) (v : Nat) (H : Heap) (locs : List Loc) (ls : Array Slot), v ≤ 12 → 12 < v + n → lv_has ls 5 [(2, .long (c_pg C 1 k v)), (4, .int (nI v)), (0, .ref (s0.heap.size + 11)), (1, .ref (aI s0.heap.size k))] → gx_L s0.heap.size locs → GRb s0.heap.size s0.heap D DA z0 Y (c_wr C 3 k v (c_pq C 1 k)) M o H → W p l e (headSpec (ws_ yX3_plan cX3_plan 5 none) ({ frames := 1, cells := 0, slots := 0, locals := 26 })).room s m ([.ref (s0.heap.size + 11), .ref (aI s0.heap.size k)] : List Value).toArray below meth c H locs 0 0 (MQ below (cQ0 (fun H1 => RR s0 D DA z0 (c_pl C 1 k) M o H1)) ([.ref (s0.heap.size + 11), .ref (aI s0.heap.size k)] : List Value).toArray s 0 0 (cF s0)) (F0 m 5 ls []) := by
    intro n
    induction n with
    | zero =>
      intro v H locs ls hv hn hl hL hR
      omega
    | succ n ih =>
      intro v H locs ls hv hn hl hL hR
      have h4 := hC.l4 hk
      refine lv_iload hx hb dX3_plan_5 (lv_at hl 1 rfl) ?_
      refine lv_bipush (v := 12) hx hb dX3_plan_7 (by decide) ?_
      refine lv_icmp_ge (tgt := 82) hx hb dX3_plan_9 (by decide) (fun c9 => ?_) (fun c9 => ?_)
      · have hkc : v = 12 := by have := n_ge (b := 12) c9 (by omega) (by omega); omega
        subst hkc
        exact W.vret hx hb hr (fun t ht hW => ⟨rfl, by rw [ht]; exact ⟨Y, hR⟩⟩) hL dX3_plan_82
      · have hkc : v < 12 := by have := n_lt (b := 12) c9 (by omega) (by omega); omega
        refine lv_aload_n hx hb dX3_plan_12 rfl (lv_at hl 3 rfl) ?_
        refine gx_getN (D := D) (cl := gcl) (ci := 8) (v := .ref (aA s0.heap.size 3 k)) (C := RX9) (T := TX9) (N := 19) hx hb hts in_X9 hown hK (hR.itm k hk) rfl 17 (by decide) (hE.nF hW0 q217) (fun _ h9 => h9) rfl dX3_plan_13 ?_
        refine lv_iload hx hb dX3_plan_16 (lv_at hl 1 rfl) ?_
        refine lv_lconst (v := 0) hx hb dX3_plan_18 (by decide) ?_
        refine gx_last (n := 12) hx hb hK 0 (hR.arr 3 k (by decide) hk) rfl v (rfl) (by omega) (by decide) hL (by (try simp only [aI, aA, aT, aB, aL, mad]); omega) dX3_plan_19 (fun H locs hU hA hL => ?_)
        have hR := GRb.pA (j := 3) (k := k) (by decide) hk hR hU hA
        have hnd : kA (rA (c_wr C 3 k v (c_pq C 1 k)) (up3 (kA (c_wr C 3 k v (c_pq C 1 k))) 3 k v 0)) 2 k = kA C 2 k := by show up3 (kA (c_wr C 3 k v (c_pq C 1 k))) 3 k v 0 2 k = _; rw [up3_n (Or.inl (by decide)), c_wr_o _ _ (Or.inl (by decide))]
        refine lv_iload hx hb dX3_plan_20 (lv_at hl 1 rfl) ?_
        refine lv_aload_n hx hb dX3_plan_22 rfl (lv_at hl 3 rfl) ?_
        refine gx_getN (D := D) (cl := gcl) (ci := 8) (v := .int (kI (rA (c_wr C 3 k v (c_pq C 1 k)) (up3 (kA (c_wr C 3 k v (c_pq C 1 k))) 3 k v 0)) 3 k)) (C := RX9) (T := TX9) (N := 19) hx hb hts in_X9 hown hK (hR.itm k hk) rfl 3 (by decide) (hE.nF hW0 q194) (fun _ h9 => h9) rfl dX3_plan_23 ?_
        refine gx_ti (nI (cLd C k)) (hC.ld hk) ?_
        refine lv_icmp_lt (tgt := 76) hx hb dX3_plan_26 (by decide) (fun c26 => ?_) (fun c26 => ?_)
        · refine lv_iinc (v := nI (v + 1)) (lv' := [(4, .int (nI (v + 1))), (2, .long (c_pg C 1 k v)), (0, .ref (s0.heap.size + 11)), (1, .ref (aI s0.heap.size k))]) hx hb dX3_plan_76 hl (k := 1) rfl (nI_1 v) (by decide) rfl (fun ls hl => ?_)
          refine lv_goto (tgt := 5) hx hb dX3_plan_79 (by decide) ?_
          have hz : c_pq C 1 k v = 0 := by unfold c_pq c_q; rw [if_neg (fun q => absurd q.1 (by have := n_gt c26 (by omega) (by omega); omega))]
          have hR := GR_C (C := (rA (c_wr C 3 k v (c_pq C 1 k)) (up3 (kA (c_wr C 3 k v (c_pq C 1 k))) 3 k v 0))) (C' := c_wr C 3 k (v + 1) (c_pq C 1 k)) (by rw [← c_wr_s, hz]) hR
          have hl : lv_has ls 5 [(4, .int (nI (v + 1))), (2, .long (c_pg C 1 k (v + 1))), (0, .ref (s0.heap.size + 11)), (1, .ref (aI s0.heap.size k))] := by rw [show c_pg C 1 k (v + 1) = c_pg C 1 k v from by show c_pg C 1 k v + c_pq C 1 k v = _; rw [hz]; grind]; exact hl
          exact ih (v + 1) _ _ _ (by omega) (by omega) (lv_sub hl [1, 0, 2, 3] rfl) hL hR
        · have hld : cLd C k ≤ v := n_le c26 (by omega) (by omega)
          refine lv_aload_n hx hb dX3_plan_29 rfl (lv_at hl 3 rfl) ?_
          refine lv_iload hx hb dX3_plan_30 (lv_at hl 1 rfl) ?_
          refine cc_v (va_runV (b := aI s0.heap.size k) (As := [.int (nI v)]) (rest := []) ⟨hx, hb, hml, hown, hts⟩ (ct_X9_need (wk := v) hE hR hk hkc) (cwV 1 hts (lw_V q505 q506 q507 q58 q508) rfl rfl rfl (by decide +kernel) ⟨Nat.le_of_ble_eq_true rfl, Nat.le_of_ble_eq_true rfl⟩) (cc_pV hW0 (cc_re hK (hR.itm k hk) (show gcl[8]? = _ from rfl))) rfl rfl hl.1 rfl (lv_room (Nat.le_of_ble_eq_true rfl)) dX3_plan_32 ⟨Nat.le_of_ble_eq_true rfl, Nat.le_of_ble_eq_true rfl⟩) hL (fun H locs hP1 hL => ?_)
          subst hP1
          refine gx_tl (kA C 2 k (v + 1)) (by rw [hnd]) ?_
          refine lv_lload_n hx hb dX3_plan_35 rfl (lv_at hl 0 rfl) ?_
          refine gx_lc_gt (tgt := 43) (pc1 := 37) hx hb rfl dX3_plan_36 dX3_plan_37 (by decide) (fun c37 => ?_) (fun c37 => ?_)
          · refine lv_aload_n hx hb dX3_plan_43 rfl (lv_at hl 3 rfl) ?_
            refine gx_getN (D := D) (cl := gcl) (ci := 8) (v := .ref (aA s0.heap.size 3 k)) (C := RX9) (T := TX9) (N := 19) hx hb hts in_X9 hown hK (hR.itm k hk) rfl 17 (by decide) (hE.nF hW0 q217) (fun _ h9 => h9) rfl dX3_plan_44 ?_
            refine lv_iload hx hb dX3_plan_47 (lv_at hl 1 rfl) ?_
            refine lv_aload_n hx hb dX3_plan_49 rfl (lv_at hl 2 rfl) ?_
            refine lv_aload_n hx hb dX3_plan_50 rfl (lv_at hl 3 rfl) ?_
            refine lv_iload hx hb dX3_plan_51 (lv_at hl 1 rfl) ?_
            refine lv_aload_n hx hb dX3_plan_53 rfl (lv_at hl 3 rfl) ?_
            refine lv_iload hx hb dX3_plan_54 (lv_at hl 1 rfl) ?_
            refine cc_v (va_runV (b := aI s0.heap.size k) (As := [.int (nI v)]) (rest := [.int (nI v), .ref (aI s0.heap.size k), .ref (s0.heap.size + 11), .int (nI v), .ref (aA s0.heap.size 3 k)]) ⟨hx, hb, hml, hown, hts⟩ (ct_X9_need (wk := v) hE hR hk hkc) (cwV 1 hts (lw_V q505 q506 q507 q58 q508) rfl rfl rfl (by decide +kernel) ⟨Nat.le_of_ble_eq_true rfl, Nat.le_of_ble_eq_true rfl⟩) (cc_pV hW0 (cc_re hK (hR.itm k hk) (show gcl[8]? = _ from rfl))) rfl rfl hl.1 rfl (lv_room (Nat.le_of_ble_eq_true rfl)) dX3_plan_56 ⟨Nat.le_of_ble_eq_true rfl, Nat.le_of_ble_eq_true rfl⟩) hL (fun H locs hP1 hL => ?_)
            subst hP1
            refine gx_tl (kA C 2 k (v + 1)) (by rw [hnd]) ?_
            refine lv_lload_n hx hb dX3_plan_59 rfl (lv_at hl 0 rfl) ?_
            refine lv_lsub hx hb dX3_plan_60 ?_
            refine lv_lload_n hx hb dX3_plan_61 rfl (lv_at hl 0 rfl) ?_
            refine cc_v (va_runU (b := s0.heap.size + 11) (As := [.ref (aI s0.heap.size k), .int (nI v), .long ((kA C 2 k (v + 1)) - (c_pg C 1 k v)), .long (c_pg C 1 k v)]) (rest := [.int (nI v), .ref (aA s0.heap.size 3 k)]) ⟨hx, hb, hml, hown, hts⟩ (ct_X5_lot (wk := v) hE hR hk hkc (kA C 2 k (v + 1) - c_pg C 1 k v) (c_pg C 1 k v) (hC.of rfl rfl rfl rfl rfl)) (va_cwA 4 hts (lw_U (owner := "NettedPlans$LotRule") q509 q511 q524 q525 q54 q526) rfl rfl rfl (va_Nw.warmD hW0 (hE.nw rfl q510)) (by decide +kernel) ⟨Nat.le_of_ble_eq_true rfl, Nat.le_of_ble_eq_true rfl⟩) (cc_pV hW0 (cc_re hK hR.mu (show gcl[4]? = _ from rfl))) rfl rfl hl.1 rfl (lv_room (Nat.le_of_ble_eq_true rfl)) dX3_plan_62 ⟨Nat.le_of_ble_eq_true rfl, Nat.le_of_ble_eq_true rfl⟩) hL (fun H locs hP1 hL => ?_)
            subst hP1
            refine gx_tl (c_pq C 1 k v) (by unfold c_pq c_q; rw [if_pos (show cLd C k ≤ v ∧ c_pg C 1 k v < kA C 2 k (v + 1) from ⟨hld, c37⟩)]; unfold c_lot; rw [if_neg (show ¬ (1 : Nat) = 0 by decide), if_pos (show (1 : Nat) = 1 from rfl)]; try rfl) ?_
            refine gx_last (n := 12) hx hb hK 0 (hR.arr 3 k (by decide) hk) rfl v (rfl) (by omega) (by decide) hL (by (try simp only [aI, aA, aT, aB, aL, mad]); omega) dX3_plan_65 (fun H locs hU hA hL => ?_)
            have hR := GRb.pA (j := 3) (k := k) (by decide) hk hR hU hA
            have hR := GR_C (C := (rA (rA (c_wr C 3 k v (c_pq C 1 k)) (up3 (kA (c_wr C 3 k v (c_pq C 1 k))) 3 k v 0)) (up3 (kA (rA (c_wr C 3 k v (c_pq C 1 k)) (up3 (kA (c_wr C 3 k v (c_pq C 1 k))) 3 k v 0))) 3 k v (c_pq C 1 k v)))) (C' := c_wr C 3 k (v + 1) (c_pq C 1 k)) (by rw [← c_wr_s, rA_rA]; congr 1; exact up3_up3) hR
            refine lv_lload_n hx hb dX3_plan_66 rfl (lv_at hl 0 rfl) ?_
            refine lv_aload_n hx hb dX3_plan_67 rfl (lv_at hl 3 rfl) ?_
            refine gx_getN (D := D) (cl := gcl) (ci := 8) (v := .ref (aA s0.heap.size 3 k)) (C := RX9) (T := TX9) (N := 19) hx hb hts in_X9 hown hK (hR.itm k hk) rfl 17 (by decide) (hE.nF hW0 q217) (fun _ h9 => h9) rfl dX3_plan_68 ?_
            refine lv_iload hx hb dX3_plan_71 (lv_at hl 1 rfl) ?_
            refine gx_lald (n := 12) hx hb hK 0 (hR.arr 3 k (by decide) hk) rfl v (rfl) (by omega) (by decide) dX3_plan_73 ?_
            refine gx_tl (c_pq C 1 k v) (c_wr_i C (c_pq C 1 k) (Nat.lt_succ_self v)) ?_
            refine lv_ladd hx hb dX3_plan_74 ?_
            refine gx_tl (c_pg C 1 k (v + 1)) (rfl) ?_
            refine lv_lstore_n (lv' := [(2, .long (c_pg C 1 k (v + 1))), (4, .int (nI v)), (0, .ref (s0.heap.size + 11)), (1, .ref (aI s0.heap.size k))]) hx hb dX3_plan_75 rfl hl (by decide) rfl (fun ls hl => ?_)
            refine lv_iinc (v := nI (v + 1)) (lv' := [(4, .int (nI (v + 1))), (2, .long (c_pg C 1 k (v + 1))), (0, .ref (s0.heap.size + 11)), (1, .ref (aI s0.heap.size k))]) hx hb dX3_plan_76 hl (k := 1) rfl (nI_1 v) (by decide) rfl (fun ls hl => ?_)
            refine lv_goto (tgt := 5) hx hb dX3_plan_79 (by decide) ?_
            exact ih (v + 1) _ _ _ (by omega) (by omega) (lv_sub hl [1, 0, 2, 3] rfl) hL hR
          · refine lv_goto (tgt := 76) hx hb dX3_plan_40 (by decide) ?_
            refine lv_iinc (v := nI (v + 1)) (lv' := [(4, .int (nI (v + 1))), (2, .long (c_pg C 1 k v)), (0, .ref (s0.heap.size + 11)), (1, .ref (aI s0.heap.size k))]) hx hb dX3_plan_76 hl (k := 1) rfl (nI_1 v) (by decide) rfl (fun ls hl => ?_)
            refine lv_goto (tgt := 5) hx hb dX3_plan_79 (by decide) ?_
            have hz : c_pq C 1 k v = 0 := by unfold c_pq c_q; rw [if_neg (fun q => c37 q.2)]
            have hR := GR_C (C := (rA (c_wr C 3 k v (c_pq C 1 k)) (up3 (kA (c_wr C 3 k v (c_pq C 1 k))) 3 k v 0))) (C' := c_wr C 3 k (v + 1) (c_pq C 1 k)) (by rw [← c_wr_s, hz]) hR
            have hl : lv_has ls 5 [(4, .int (nI (v + 1))), (2, .long (c_pg C 1 k (v + 1))), (0, .ref (s0.heap.size + 11)), (1, .ref (aI s0.heap.size k))] := by rw [show c_pg C 1 k (v + 1) = c_pg C 1 k v from by show c_pg C 1 k v + c_pq C 1 k v = _; rw [hz]; grind]; exact hl
            exact ih (v + 1) _ _ _ (by omega) (by omega) (lv_sub hl [1, 0, 2, 3] rfl) hL hR
  refine lv_lconst (v := 0) hx hb dX3_plan_0 (by decide) ?_
  refine gx_tl (c_pg C 1 k 0) (rfl) ?_
  refine lv_lstore_n (lv' := [(2, .long (c_pg C 1 k 0)), (0, .ref (s0.heap.size + 11)), (1, .ref (aI s0.heap.size k))]) hx hb dX3_plan_1 rfl hl (by decide) rfl (fun ls hl => ?_)
  refine lv_iconst (v := 0) hx hb dX3_plan_2 (by decide) ?_
  refine gx_ti (nI 0) (by decide) ?_
  refine lv_istore (lv' := [(4, .int (nI 0)), (2, .long (c_pg C 1 k 0)), (0, .ref (s0.heap.size + 11)), (1, .ref (aI s0.heap.size k))]) hx hb dX3_plan_3 hl (by decide) rfl (fun ls hl => ?_)
  exact key 13 0 _ _ _ (by omega) (by omega) (lv_sub hl [1, 0, 2, 3] rfl) hL (by rw [c_wr_0]; exact hR)
set_option maxHeartbeats 4000000 in
set_option maxRecDepth 100000 in
/-- LotRule.plan, rule 2 -/
theorem ct_X3_plan_2 {l : Launch} {s0 : State} {D : va_G} {DA : Nat → ClassId} {z0 : Nat} {C : CS} {M : MS} {o : Int64} {H : Heap} (hE : G0 l s0 D DA z0) (hR : RR s0 D DA z0 C M o H) {k : Nat} (hk : k < 12) (hC : CC C) : Met l yX3_plan (ws_ yX3_plan cX3_plan 5 none) ({ frames := 2, cells := 0, slots := 0, locals := 47 }) (cP s0 [.ref (s0.heap.size + 12), .ref (aI s0.heap.size k)] H) (cQ0 (fun H1 => RR s0 D DA z0 (c_pl C 2 k) M o H1)) 0 0 (cF s0) := by
  refine Met.ofW (cc := cX3_plan) (maxL := 5) (ret := none) (by decide) rfl ?_
  intro p e s m args below meth c s₁ Bd hml hv
  obtain ⟨rfl, rfl, hW0⟩ := hv
  have hx := Bd.exec
  have hb := Bd.bytes
  have hr := Bd.returns
  have hts := atoms_spec (ws := (ws_ yX3_plan cX3_plan 5 none)) Bd.pre
  have hts : ∀ w ∈ lw_all, w.before _ s = true := fun w h => hts w (List.mem_cons_of_mem _ h)
  have hown : s.vm.findClass RX3 = some m.cls := findClass_of_methodNamed Bd.named
  have hlocks := Bd.notSynchronized
  have hK := va_K.moved hW0.alike hE.K
  have hL : gx_L s0.heap.size ([] : List Loc) := gx_L0
  obtain ⟨Y, hR⟩ := hR
  have hl := lv_entry ([.ref (s0.heap.size + 12), .ref (aI s0.heap.size k)]) (n := 5) (Nat.le_of_ble_eq_true rfl)
  rw [lg_entry_eq]
  generalize (lg_sl ([.ref (s0.heap.size + 12), .ref (aI s0.heap.size k)]) ++ List.replicate (5 - (lg_sl ([.ref (s0.heap.size + 12), .ref (aI s0.heap.size k)])).length) Slot.unset).toArray = ls at hl ⊢
  have hl : lv_has ls 5 [(0, .ref (s0.heap.size + 12)), (1, .ref (aI s0.heap.size k))] := hl
  have key : ∀ (n : Nat) (v : Nat) (H : Heap) (locs : List Loc) (ls : Array Slot), v ≤ 12 → 12 < v + n → lv_has ls 5 [(2, .long (c_pg C 2 k v)), (4, .int (nI v)), (0, .ref (s0.heap.size + 12)), (1, .ref (aI s0.heap.size k))] → gx_L s0.heap.size locs → GRb s0.heap.size s0.heap D DA z0 Y (c_wr C 3 k v (c_pq C 2 k)) M o H → W p l e (headSpec (ws_ yX3_plan cX3_plan 5 none) ({ frames := 2, cells := 0, slots := 0, locals := 47 })).room s m ([.ref (s0.heap.size + 12), .ref (aI s0.heap.size k)] : List Value).toArray below meth c H locs 0 0 (MQ below (cQ0 (fun H1 => RR s0 D DA z0 (c_pl C 2 k) M o H1)) ([.ref (s0.heap.size + 12), .ref (aI s0.heap.size k)] : List Value).toArray s 0 0 (cF s0)) (F0 m 5 ls []) := by
    intro n
    induction n with
    | zero =>
      intro v H locs ls hv hn hl hL hR
      omega
    | succ n ih =>
      intro v H locs ls hv hn hl hL hR
      have h4 := hC.l4 hk
      refine lv_iload hx hb dX3_plan_5 (lv_at hl 1 rfl) ?_
      refine lv_bipush (v := 12) hx hb dX3_plan_7 (by decide) ?_
      refine lv_icmp_ge (tgt := 82) hx hb dX3_plan_9 (by decide) (fun c9 => ?_) (fun c9 => ?_)
      · have hkc : v = 12 := by have := n_ge (b := 12) c9 (by omega) (by omega); omega
        subst hkc
        exact W.vret hx hb hr (fun t ht hW => ⟨rfl, by rw [ht]; exact ⟨Y, hR⟩⟩) hL dX3_plan_82
      · have hkc : v < 12 := by have := n_lt (b := 12) c9 (by omega) (by omega); omega
        refine lv_aload_n hx hb dX3_plan_12 rfl (lv_at hl 3 rfl) ?_
        refine gx_getN (D := D) (cl := gcl) (ci := 8) (v := .ref (aA s0.heap.size 3 k)) (C := RX9) (T := TX9) (N := 19) hx hb hts in_X9 hown hK (hR.itm k hk) rfl 17 (by decide) (hE.nF hW0 q217) (fun _ h9 => h9) rfl dX3_plan_13 ?_
        refine lv_iload hx hb dX3_plan_16 (lv_at hl 1 rfl) ?_
        refine lv_lconst (v := 0) hx hb dX3_plan_18 (by decide) ?_
        refine gx_last (n := 12) hx hb hK 0 (hR.arr 3 k (by decide) hk) rfl v (rfl) (by omega) (by decide) hL (by (try simp only [aI, aA, aT, aB, aL, mad]); omega) dX3_plan_19 (fun H locs hU hA hL => ?_)
        have hR := GRb.pA (j := 3) (k := k) (by decide) hk hR hU hA
        have hnd : kA (rA (c_wr C 3 k v (c_pq C 2 k)) (up3 (kA (c_wr C 3 k v (c_pq C 2 k))) 3 k v 0)) 2 k = kA C 2 k := by show up3 (kA (c_wr C 3 k v (c_pq C 2 k))) 3 k v 0 2 k = _; rw [up3_n (Or.inl (by decide)), c_wr_o _ _ (Or.inl (by decide))]
        refine lv_iload hx hb dX3_plan_20 (lv_at hl 1 rfl) ?_
        refine lv_aload_n hx hb dX3_plan_22 rfl (lv_at hl 3 rfl) ?_
        refine gx_getN (D := D) (cl := gcl) (ci := 8) (v := .int (kI (rA (c_wr C 3 k v (c_pq C 2 k)) (up3 (kA (c_wr C 3 k v (c_pq C 2 k))) 3 k v 0)) 3 k)) (C := RX9) (T := TX9) (N := 19) hx hb hts in_X9 hown hK (hR.itm k hk) rfl 3 (by decide) (hE.nF hW0 q194) (fun _ h9 => h9) rfl dX3_plan_23 ?_
        refine gx_ti (nI (cLd C k)) (hC.ld hk) ?_
        refine lv_icmp_lt (tgt := 76) hx hb dX3_plan_26 (by decide) (fun c26 => ?_) (fun c26 => ?_)
        · refine lv_iinc (v := nI (v + 1)) (lv' := [(4, .int (nI (v + 1))), (2, .long (c_pg C 2 k v)), (0, .ref (s0.heap.size + 12)), (1, .ref (aI s0.heap.size k))]) hx hb dX3_plan_76 hl (k := 1) rfl (nI_1 v) (by decide) rfl (fun ls hl => ?_)
          refine lv_goto (tgt := 5) hx hb dX3_plan_79 (by decide) ?_
          have hz : c_pq C 2 k v = 0 := by unfold c_pq c_q; rw [if_neg (fun q => absurd q.1 (by have := n_gt c26 (by omega) (by omega); omega))]
          have hR := GR_C (C := (rA (c_wr C 3 k v (c_pq C 2 k)) (up3 (kA (c_wr C 3 k v (c_pq C 2 k))) 3 k v 0))) (C' := c_wr C 3 k (v + 1) (c_pq C 2 k)) (by rw [← c_wr_s, hz]) hR
          have hl : lv_has ls 5 [(4, .int (nI (v + 1))), (2, .long (c_pg C 2 k (v + 1))), (0, .ref (s0.heap.size + 12)), (1, .ref (aI s0.heap.size k))] := by rw [show c_pg C 2 k (v + 1) = c_pg C 2 k v from by show c_pg C 2 k v + c_pq C 2 k v = _; rw [hz]; grind]; exact hl
          exact ih (v + 1) _ _ _ (by omega) (by omega) (lv_sub hl [1, 0, 2, 3] rfl) hL hR
        · have hld : cLd C k ≤ v := n_le c26 (by omega) (by omega)
          refine lv_aload_n hx hb dX3_plan_29 rfl (lv_at hl 3 rfl) ?_
          refine lv_iload hx hb dX3_plan_30 (lv_at hl 1 rfl) ?_
          refine cc_v (va_runV (b := aI s0.heap.size k) (As := [.int (nI v)]) (rest := []) ⟨hx, hb, hml, hown, hts⟩ (ct_X9_need (wk := v) hE hR hk hkc) (cwV 1 hts (lw_V q505 q506 q507 q58 q508) rfl rfl rfl (by decide +kernel) ⟨Nat.le_of_ble_eq_true rfl, Nat.le_of_ble_eq_true rfl⟩) (cc_pV hW0 (cc_re hK (hR.itm k hk) (show gcl[8]? = _ from rfl))) rfl rfl hl.1 rfl (lv_room (Nat.le_of_ble_eq_true rfl)) dX3_plan_32 ⟨Nat.le_of_ble_eq_true rfl, Nat.le_of_ble_eq_true rfl⟩) hL (fun H locs hP1 hL => ?_)
          subst hP1
          refine gx_tl (kA C 2 k (v + 1)) (by rw [hnd]) ?_
          refine lv_lload_n hx hb dX3_plan_35 rfl (lv_at hl 0 rfl) ?_
          refine gx_lc_gt (tgt := 43) (pc1 := 37) hx hb rfl dX3_plan_36 dX3_plan_37 (by decide) (fun c37 => ?_) (fun c37 => ?_)
          · refine lv_aload_n hx hb dX3_plan_43 rfl (lv_at hl 3 rfl) ?_
            refine gx_getN (D := D) (cl := gcl) (ci := 8) (v := .ref (aA s0.heap.size 3 k)) (C := RX9) (T := TX9) (N := 19) hx hb hts in_X9 hown hK (hR.itm k hk) rfl 17 (by decide) (hE.nF hW0 q217) (fun _ h9 => h9) rfl dX3_plan_44 ?_
            refine lv_iload hx hb dX3_plan_47 (lv_at hl 1 rfl) ?_
            refine lv_aload_n hx hb dX3_plan_49 rfl (lv_at hl 2 rfl) ?_
            refine lv_aload_n hx hb dX3_plan_50 rfl (lv_at hl 3 rfl) ?_
            refine lv_iload hx hb dX3_plan_51 (lv_at hl 1 rfl) ?_
            refine lv_aload_n hx hb dX3_plan_53 rfl (lv_at hl 3 rfl) ?_
            refine lv_iload hx hb dX3_plan_54 (lv_at hl 1 rfl) ?_
            refine cc_v (va_runV (b := aI s0.heap.size k) (As := [.int (nI v)]) (rest := [.int (nI v), .ref (aI s0.heap.size k), .ref (s0.heap.size + 12), .int (nI v), .ref (aA s0.heap.size 3 k)]) ⟨hx, hb, hml, hown, hts⟩ (ct_X9_need (wk := v) hE hR hk hkc) (cwV 1 hts (lw_V q505 q506 q507 q58 q508) rfl rfl rfl (by decide +kernel) ⟨Nat.le_of_ble_eq_true rfl, Nat.le_of_ble_eq_true rfl⟩) (cc_pV hW0 (cc_re hK (hR.itm k hk) (show gcl[8]? = _ from rfl))) rfl rfl hl.1 rfl (lv_room (Nat.le_of_ble_eq_true rfl)) dX3_plan_56 ⟨Nat.le_of_ble_eq_true rfl, Nat.le_of_ble_eq_true rfl⟩) hL (fun H locs hP1 hL => ?_)
            subst hP1
            refine gx_tl (kA C 2 k (v + 1)) (by rw [hnd]) ?_
            refine lv_lload_n hx hb dX3_plan_59 rfl (lv_at hl 0 rfl) ?_
            refine lv_lsub hx hb dX3_plan_60 ?_
            refine lv_lload_n hx hb dX3_plan_61 rfl (lv_at hl 0 rfl) ?_
            refine cc_v (va_runU (b := s0.heap.size + 12) (As := [.ref (aI s0.heap.size k), .int (nI v), .long ((kA C 2 k (v + 1)) - (c_pg C 2 k v)), .long (c_pg C 2 k v)]) (rest := [.int (nI v), .ref (aA s0.heap.size 3 k)]) ⟨hx, hb, hml, hown, hts⟩ (ct_X6_lot (wk := v) hE hR hk hkc (kA C 2 k (v + 1) - c_pg C 2 k v) (c_pg C 2 k v) (hC.of rfl rfl rfl rfl rfl)) (va_cwA 4 hts (lw_U (owner := "NettedPlans$LotRule") q509 q511 q515 q516 q55 q517) rfl rfl rfl (va_Nw.warmD hW0 (hE.nw rfl q510)) (by decide +kernel) ⟨Nat.le_of_ble_eq_true rfl, Nat.le_of_ble_eq_true rfl⟩) (cc_pV hW0 (cc_re hK hR.co (show gcl[5]? = _ from rfl))) rfl rfl hl.1 rfl (lv_room (Nat.le_of_ble_eq_true rfl)) dX3_plan_62 ⟨Nat.le_of_ble_eq_true rfl, Nat.le_of_ble_eq_true rfl⟩) hL (fun H locs hP1 hL => ?_)
            subst hP1
            refine gx_tl (c_pq C 2 k v) (by show kA (rA (c_wr C 3 k v (c_pq C 2 k)) (up3 (kA (c_wr C 3 k v (c_pq C 2 k))) 3 k v 0)) 2 k ((if v + cSz C k - 1 < 11 then v + cSz C k - 1 else 11) + 1) - (c_pg C 2 k v) = _; rw [hnd]; unfold c_pq c_q; rw [if_pos (show cLd C k ≤ v ∧ c_pg C 2 k v < kA C 2 k (v + 1) from ⟨hld, c37⟩)]; unfold c_lot; rw [if_neg (show ¬ (2 : Nat) = 0 by decide), if_neg (show ¬ (2 : Nat) = 1 by decide), if_pos (show (2 : Nat) = 2 from rfl)]; try rfl) ?_
            refine gx_last (n := 12) hx hb hK 0 (hR.arr 3 k (by decide) hk) rfl v (rfl) (by omega) (by decide) hL (by (try simp only [aI, aA, aT, aB, aL, mad]); omega) dX3_plan_65 (fun H locs hU hA hL => ?_)
            have hR := GRb.pA (j := 3) (k := k) (by decide) hk hR hU hA
            have hR := GR_C (C := (rA (rA (c_wr C 3 k v (c_pq C 2 k)) (up3 (kA (c_wr C 3 k v (c_pq C 2 k))) 3 k v 0)) (up3 (kA (rA (c_wr C 3 k v (c_pq C 2 k)) (up3 (kA (c_wr C 3 k v (c_pq C 2 k))) 3 k v 0))) 3 k v (c_pq C 2 k v)))) (C' := c_wr C 3 k (v + 1) (c_pq C 2 k)) (by rw [← c_wr_s, rA_rA]; congr 1; exact up3_up3) hR
            refine lv_lload_n hx hb dX3_plan_66 rfl (lv_at hl 0 rfl) ?_
            refine lv_aload_n hx hb dX3_plan_67 rfl (lv_at hl 3 rfl) ?_
            refine gx_getN (D := D) (cl := gcl) (ci := 8) (v := .ref (aA s0.heap.size 3 k)) (C := RX9) (T := TX9) (N := 19) hx hb hts in_X9 hown hK (hR.itm k hk) rfl 17 (by decide) (hE.nF hW0 q217) (fun _ h9 => h9) rfl dX3_plan_68 ?_
            refine lv_iload hx hb dX3_plan_71 (lv_at hl 1 rfl) ?_
            refine gx_lald (n := 12) hx hb hK 0 (hR.arr 3 k (by decide) hk) rfl v (rfl) (by omega) (by decide) dX3_plan_73 ?_
            refine gx_tl (c_pq C 2 k v) (c_wr_i C (c_pq C 2 k) (Nat.lt_succ_self v)) ?_
            refine lv_ladd hx hb dX3_plan_74 ?_
            refine gx_tl (c_pg C 2 k (v + 1)) (rfl) ?_
            refine lv_lstore_n (lv' := [(2, .long (c_pg C 2 k (v + 1))), (4, .int (nI v)), (0, .ref (s0.heap.size + 12)), (1, .ref (aI s0.heap.size k))]) hx hb dX3_plan_75 rfl hl (by decide) rfl (fun ls hl => ?_)
            refine lv_iinc (v := nI (v + 1)) (lv' := [(4, .int (nI (v + 1))), (2, .long (c_pg C 2 k (v + 1))), (0, .ref (s0.heap.size + 12)), (1, .ref (aI s0.heap.size k))]) hx hb dX3_plan_76 hl (k := 1) rfl (nI_1 v) (by decide) rfl (fun ls hl => ?_)
            refine lv_goto (tgt := 5) hx hb dX3_plan_79 (by decide) ?_
            exact ih (v + 1) _ _ _ (by omega) (by omega) (lv_sub hl [1, 0, 2, 3] rfl) hL hR
          · refine lv_goto (tgt := 76) hx hb dX3_plan_40 (by decide) ?_
            refine lv_iinc (v := nI (v + 1)) (lv' := [(4, .int (nI (v + 1))), (2, .long (c_pg C 2 k v)), (0, .ref (s0.heap.size + 12)), (1, .ref (aI s0.heap.size k))]) hx hb dX3_plan_76 hl (k := 1) rfl (nI_1 v) (by decide) rfl (fun ls hl => ?_)
            refine lv_goto (tgt := 5) hx hb dX3_plan_79 (by decide) ?_
            have hz : c_pq C 2 k v = 0 := by unfold c_pq c_q; rw [if_neg (fun q => c37 q.2)]
            have hR := GR_C (C := (rA (c_wr C 3 k v (c_pq C 2 k)) (up3 (kA (c_wr C 3 k v (c_pq C 2 k))) 3 k v 0))) (C' := c_wr C 3 k (v + 1) (c_pq C 2 k)) (by rw [← c_wr_s, hz]) hR
            have hl : lv_has ls 5 [(4, .int (nI (v + 1))), (2, .long (c_pg C 2 k (v + 1))), (0, .ref (s0.heap.size + 12)), (1, .ref (aI s0.heap.size k))] := by rw [show c_pg C 2 k (v + 1) = c_pg C 2 k v from by show c_pg C 2 k v + c_pq C 2 k v = _; rw [hz]; grind]; exact hl
            exact ih (v + 1) _ _ _ (by omega) (by omega) (lv_sub hl [1, 0, 2, 3] rfl) hL hR
  refine lv_lconst (v := 0) hx hb dX3_plan_0 (by decide) ?_
  refine gx_tl (c_pg C 2 k 0) (rfl) ?_
  refine lv_lstore_n (lv' := [(2, .long (c_pg C 2 k 0)), (0, .ref (s0.heap.size + 12)), (1, .ref (aI s0.heap.size k))]) hx hb dX3_plan_1 rfl hl (by decide) rfl (fun ls hl => ?_)
  refine lv_iconst (v := 0) hx hb dX3_plan_2 (by decide) ?_
  refine gx_ti (nI 0) (by decide) ?_
  refine lv_istore (lv' := [(4, .int (nI 0)), (2, .long (c_pg C 2 k 0)), (0, .ref (s0.heap.size + 12)), (1, .ref (aI s0.heap.size k))]) hx hb dX3_plan_3 hl (by decide) rfl (fun ls hl => ?_)
  exact key 13 0 _ _ _ (by omega) (by omega) (lv_sub hl [1, 0, 2, 3] rfl) hL (by rw [c_wr_0]; exact hR)
set_option maxHeartbeats 4000000 in
set_option maxRecDepth 100000 in
/-- LotRule.plan, rule 3 -/
theorem ct_X3_plan_3 {l : Launch} {s0 : State} {D : va_G} {DA : Nat → ClassId} {z0 : Nat} {C : CS} {M : MS} {o : Int64} {H : Heap} (hE : G0 l s0 D DA z0) (hR : RR s0 D DA z0 C M o H) {k : Nat} (hk : k < 12) (hC : CC C) (hlast : ∀ w, cLd C k ≤ w → w < 12 → kW C w = nI (cW C w) ∧ cW C w < 12) : Met l yX3_plan (ws_ yX3_plan cX3_plan 5 none) ({ frames := 2, cells := 0, slots := 0, locals := 47 }) (cP s0 [.ref (s0.heap.size + 13), .ref (aI s0.heap.size k)] H) (cQ0 (fun H1 => RR s0 D DA z0 (c_pl C 3 k) M o H1)) 0 0 (cF s0) := by
  refine Met.ofW (cc := cX3_plan) (maxL := 5) (ret := none) (by decide) rfl ?_
  intro p e s m args below meth c s₁ Bd hml hv
  obtain ⟨rfl, rfl, hW0⟩ := hv
  have hx := Bd.exec
  have hb := Bd.bytes
  have hr := Bd.returns
  have hts := atoms_spec (ws := (ws_ yX3_plan cX3_plan 5 none)) Bd.pre
  have hts : ∀ w ∈ lw_all, w.before _ s = true := fun w h => hts w (List.mem_cons_of_mem _ h)
  have hown : s.vm.findClass RX3 = some m.cls := findClass_of_methodNamed Bd.named
  have hlocks := Bd.notSynchronized
  have hK := va_K.moved hW0.alike hE.K
  have hL : gx_L s0.heap.size ([] : List Loc) := gx_L0
  obtain ⟨Y, hR⟩ := hR
  have hl := lv_entry ([.ref (s0.heap.size + 13), .ref (aI s0.heap.size k)]) (n := 5) (Nat.le_of_ble_eq_true rfl)
  rw [lg_entry_eq]
  generalize (lg_sl ([.ref (s0.heap.size + 13), .ref (aI s0.heap.size k)]) ++ List.replicate (5 - (lg_sl ([.ref (s0.heap.size + 13), .ref (aI s0.heap.size k)])).length) Slot.unset).toArray = ls at hl ⊢
  have hl : lv_has ls 5 [(0, .ref (s0.heap.size + 13)), (1, .ref (aI s0.heap.size k))] := hl
  have key : ∀ (n : Nat) (v : Nat) (H : Heap) (locs : List Loc) (ls : Array Slot), v ≤ 12 → 12 < v + n → lv_has ls 5 [(2, .long (c_pg C 3 k v)), (4, .int (nI v)), (0, .ref (s0.heap.size + 13)), (1, .ref (aI s0.heap.size k))] → gx_L s0.heap.size locs → GRb s0.heap.size s0.heap D DA z0 Y (c_wr C 3 k v (c_pq C 3 k)) M o H → W p l e (headSpec (ws_ yX3_plan cX3_plan 5 none) ({ frames := 2, cells := 0, slots := 0, locals := 47 })).room s m ([.ref (s0.heap.size + 13), .ref (aI s0.heap.size k)] : List Value).toArray below meth c H locs 0 0 (MQ below (cQ0 (fun H1 => RR s0 D DA z0 (c_pl C 3 k) M o H1)) ([.ref (s0.heap.size + 13), .ref (aI s0.heap.size k)] : List Value).toArray s 0 0 (cF s0)) (F0 m 5 ls []) := by
    intro n
    induction n with
    | zero =>
      intro v H locs ls hv hn hl hL hR
      omega
    | succ n ih =>
      intro v H locs ls hv hn hl hL hR
      have h4 := hC.l4 hk
      refine lv_iload hx hb dX3_plan_5 (lv_at hl 1 rfl) ?_
      refine lv_bipush (v := 12) hx hb dX3_plan_7 (by decide) ?_
      refine lv_icmp_ge (tgt := 82) hx hb dX3_plan_9 (by decide) (fun c9 => ?_) (fun c9 => ?_)
      · have hkc : v = 12 := by have := n_ge (b := 12) c9 (by omega) (by omega); omega
        subst hkc
        exact W.vret hx hb hr (fun t ht hW => ⟨rfl, by rw [ht]; exact ⟨Y, hR⟩⟩) hL dX3_plan_82
      · have hkc : v < 12 := by have := n_lt (b := 12) c9 (by omega) (by omega); omega
        refine lv_aload_n hx hb dX3_plan_12 rfl (lv_at hl 3 rfl) ?_
        refine gx_getN (D := D) (cl := gcl) (ci := 8) (v := .ref (aA s0.heap.size 3 k)) (C := RX9) (T := TX9) (N := 19) hx hb hts in_X9 hown hK (hR.itm k hk) rfl 17 (by decide) (hE.nF hW0 q217) (fun _ h9 => h9) rfl dX3_plan_13 ?_
        refine lv_iload hx hb dX3_plan_16 (lv_at hl 1 rfl) ?_
        refine lv_lconst (v := 0) hx hb dX3_plan_18 (by decide) ?_
        refine gx_last (n := 12) hx hb hK 0 (hR.arr 3 k (by decide) hk) rfl v (rfl) (by omega) (by decide) hL (by (try simp only [aI, aA, aT, aB, aL, mad]); omega) dX3_plan_19 (fun H locs hU hA hL => ?_)
        have hR := GRb.pA (j := 3) (k := k) (by decide) hk hR hU hA
        have hnd : kA (rA (c_wr C 3 k v (c_pq C 3 k)) (up3 (kA (c_wr C 3 k v (c_pq C 3 k))) 3 k v 0)) 2 k = kA C 2 k := by show up3 (kA (c_wr C 3 k v (c_pq C 3 k))) 3 k v 0 2 k = _; rw [up3_n (Or.inl (by decide)), c_wr_o _ _ (Or.inl (by decide))]
        refine lv_iload hx hb dX3_plan_20 (lv_at hl 1 rfl) ?_
        refine lv_aload_n hx hb dX3_plan_22 rfl (lv_at hl 3 rfl) ?_
        refine gx_getN (D := D) (cl := gcl) (ci := 8) (v := .int (kI (rA (c_wr C 3 k v (c_pq C 3 k)) (up3 (kA (c_wr C 3 k v (c_pq C 3 k))) 3 k v 0)) 3 k)) (C := RX9) (T := TX9) (N := 19) hx hb hts in_X9 hown hK (hR.itm k hk) rfl 3 (by decide) (hE.nF hW0 q194) (fun _ h9 => h9) rfl dX3_plan_23 ?_
        refine gx_ti (nI (cLd C k)) (hC.ld hk) ?_
        refine lv_icmp_lt (tgt := 76) hx hb dX3_plan_26 (by decide) (fun c26 => ?_) (fun c26 => ?_)
        · refine lv_iinc (v := nI (v + 1)) (lv' := [(4, .int (nI (v + 1))), (2, .long (c_pg C 3 k v)), (0, .ref (s0.heap.size + 13)), (1, .ref (aI s0.heap.size k))]) hx hb dX3_plan_76 hl (k := 1) rfl (nI_1 v) (by decide) rfl (fun ls hl => ?_)
          refine lv_goto (tgt := 5) hx hb dX3_plan_79 (by decide) ?_
          have hz : c_pq C 3 k v = 0 := by unfold c_pq c_q; rw [if_neg (fun q => absurd q.1 (by have := n_gt c26 (by omega) (by omega); omega))]
          have hR := GR_C (C := (rA (c_wr C 3 k v (c_pq C 3 k)) (up3 (kA (c_wr C 3 k v (c_pq C 3 k))) 3 k v 0))) (C' := c_wr C 3 k (v + 1) (c_pq C 3 k)) (by rw [← c_wr_s, hz]) hR
          have hl : lv_has ls 5 [(4, .int (nI (v + 1))), (2, .long (c_pg C 3 k (v + 1))), (0, .ref (s0.heap.size + 13)), (1, .ref (aI s0.heap.size k))] := by rw [show c_pg C 3 k (v + 1) = c_pg C 3 k v from by show c_pg C 3 k v + c_pq C 3 k v = _; rw [hz]; grind]; exact hl
          exact ih (v + 1) _ _ _ (by omega) (by omega) (lv_sub hl [1, 0, 2, 3] rfl) hL hR
        · have hld : cLd C k ≤ v := n_le c26 (by omega) (by omega)
          refine lv_aload_n hx hb dX3_plan_29 rfl (lv_at hl 3 rfl) ?_
          refine lv_iload hx hb dX3_plan_30 (lv_at hl 1 rfl) ?_
          refine cc_v (va_runV (b := aI s0.heap.size k) (As := [.int (nI v)]) (rest := []) ⟨hx, hb, hml, hown, hts⟩ (ct_X9_need (wk := v) hE hR hk hkc) (cwV 1 hts (lw_V q505 q506 q507 q58 q508) rfl rfl rfl (by decide +kernel) ⟨Nat.le_of_ble_eq_true rfl, Nat.le_of_ble_eq_true rfl⟩) (cc_pV hW0 (cc_re hK (hR.itm k hk) (show gcl[8]? = _ from rfl))) rfl rfl hl.1 rfl (lv_room (Nat.le_of_ble_eq_true rfl)) dX3_plan_32 ⟨Nat.le_of_ble_eq_true rfl, Nat.le_of_ble_eq_true rfl⟩) hL (fun H locs hP1 hL => ?_)
          subst hP1
          refine gx_tl (kA C 2 k (v + 1)) (by rw [hnd]) ?_
          refine lv_lload_n hx hb dX3_plan_35 rfl (lv_at hl 0 rfl) ?_
          refine gx_lc_gt (tgt := 43) (pc1 := 37) hx hb rfl dX3_plan_36 dX3_plan_37 (by decide) (fun c37 => ?_) (fun c37 => ?_)
          · refine lv_aload_n hx hb dX3_plan_43 rfl (lv_at hl 3 rfl) ?_
            refine gx_getN (D := D) (cl := gcl) (ci := 8) (v := .ref (aA s0.heap.size 3 k)) (C := RX9) (T := TX9) (N := 19) hx hb hts in_X9 hown hK (hR.itm k hk) rfl 17 (by decide) (hE.nF hW0 q217) (fun _ h9 => h9) rfl dX3_plan_44 ?_
            refine lv_iload hx hb dX3_plan_47 (lv_at hl 1 rfl) ?_
            refine lv_aload_n hx hb dX3_plan_49 rfl (lv_at hl 2 rfl) ?_
            refine lv_aload_n hx hb dX3_plan_50 rfl (lv_at hl 3 rfl) ?_
            refine lv_iload hx hb dX3_plan_51 (lv_at hl 1 rfl) ?_
            refine lv_aload_n hx hb dX3_plan_53 rfl (lv_at hl 3 rfl) ?_
            refine lv_iload hx hb dX3_plan_54 (lv_at hl 1 rfl) ?_
            refine cc_v (va_runV (b := aI s0.heap.size k) (As := [.int (nI v)]) (rest := [.int (nI v), .ref (aI s0.heap.size k), .ref (s0.heap.size + 13), .int (nI v), .ref (aA s0.heap.size 3 k)]) ⟨hx, hb, hml, hown, hts⟩ (ct_X9_need (wk := v) hE hR hk hkc) (cwV 1 hts (lw_V q505 q506 q507 q58 q508) rfl rfl rfl (by decide +kernel) ⟨Nat.le_of_ble_eq_true rfl, Nat.le_of_ble_eq_true rfl⟩) (cc_pV hW0 (cc_re hK (hR.itm k hk) (show gcl[8]? = _ from rfl))) rfl rfl hl.1 rfl (lv_room (Nat.le_of_ble_eq_true rfl)) dX3_plan_56 ⟨Nat.le_of_ble_eq_true rfl, Nat.le_of_ble_eq_true rfl⟩) hL (fun H locs hP1 hL => ?_)
            subst hP1
            refine gx_tl (kA C 2 k (v + 1)) (by rw [hnd]) ?_
            refine lv_lload_n hx hb dX3_plan_59 rfl (lv_at hl 0 rfl) ?_
            refine lv_lsub hx hb dX3_plan_60 ?_
            refine lv_lload_n hx hb dX3_plan_61 rfl (lv_at hl 0 rfl) ?_
            refine cc_v (va_runU (b := s0.heap.size + 13) (As := [.ref (aI s0.heap.size k), .int (nI v), .long ((kA C 2 k (v + 1)) - (c_pg C 3 k v)), .long (c_pg C 3 k v)]) (rest := [.int (nI v), .ref (aA s0.heap.size 3 k)]) ⟨hx, hb, hml, hown, hts⟩ (ct_X7_lot (wk := v) hE hR hk hkc (kA C 2 k (v + 1) - c_pg C 3 k v) (c_pg C 3 k v) (hlast v hld hkc)) (va_cwA 4 hts (lw_U (owner := "NettedPlans$LotRule") q509 q511 q520 q521 q56 q522) rfl rfl rfl (va_Nw.warmD hW0 (hE.nw rfl q510)) (by decide +kernel) ⟨Nat.le_of_ble_eq_true rfl, Nat.le_of_ble_eq_true rfl⟩) (cc_pV hW0 (cc_re hK hR.lc (show gcl[6]? = _ from rfl))) rfl rfl hl.1 rfl (lv_room (Nat.le_of_ble_eq_true rfl)) dX3_plan_62 ⟨Nat.le_of_ble_eq_true rfl, Nat.le_of_ble_eq_true rfl⟩) hL (fun H locs hP1 hL => ?_)
            subst hP1
            refine gx_tl (c_pq C 3 k v) (by show kA (rA (c_wr C 3 k v (c_pq C 3 k)) (up3 (kA (c_wr C 3 k v (c_pq C 3 k))) 3 k v 0)) 2 k (cW C v + 1) - (c_pg C 3 k v) = _; rw [hnd]; unfold c_pq c_q; rw [if_pos (show cLd C k ≤ v ∧ c_pg C 3 k v < kA C 2 k (v + 1) from ⟨hld, c37⟩)]; unfold c_lot; rw [if_neg (show ¬ (3 : Nat) = 0 by decide), if_neg (show ¬ (3 : Nat) = 1 by decide), if_neg (show ¬ (3 : Nat) = 2 by decide)]; try rfl) ?_
            refine gx_last (n := 12) hx hb hK 0 (hR.arr 3 k (by decide) hk) rfl v (rfl) (by omega) (by decide) hL (by (try simp only [aI, aA, aT, aB, aL, mad]); omega) dX3_plan_65 (fun H locs hU hA hL => ?_)
            have hR := GRb.pA (j := 3) (k := k) (by decide) hk hR hU hA
            have hR := GR_C (C := (rA (rA (c_wr C 3 k v (c_pq C 3 k)) (up3 (kA (c_wr C 3 k v (c_pq C 3 k))) 3 k v 0)) (up3 (kA (rA (c_wr C 3 k v (c_pq C 3 k)) (up3 (kA (c_wr C 3 k v (c_pq C 3 k))) 3 k v 0))) 3 k v (c_pq C 3 k v)))) (C' := c_wr C 3 k (v + 1) (c_pq C 3 k)) (by rw [← c_wr_s, rA_rA]; congr 1; exact up3_up3) hR
            refine lv_lload_n hx hb dX3_plan_66 rfl (lv_at hl 0 rfl) ?_
            refine lv_aload_n hx hb dX3_plan_67 rfl (lv_at hl 3 rfl) ?_
            refine gx_getN (D := D) (cl := gcl) (ci := 8) (v := .ref (aA s0.heap.size 3 k)) (C := RX9) (T := TX9) (N := 19) hx hb hts in_X9 hown hK (hR.itm k hk) rfl 17 (by decide) (hE.nF hW0 q217) (fun _ h9 => h9) rfl dX3_plan_68 ?_
            refine lv_iload hx hb dX3_plan_71 (lv_at hl 1 rfl) ?_
            refine gx_lald (n := 12) hx hb hK 0 (hR.arr 3 k (by decide) hk) rfl v (rfl) (by omega) (by decide) dX3_plan_73 ?_
            refine gx_tl (c_pq C 3 k v) (c_wr_i C (c_pq C 3 k) (Nat.lt_succ_self v)) ?_
            refine lv_ladd hx hb dX3_plan_74 ?_
            refine gx_tl (c_pg C 3 k (v + 1)) (rfl) ?_
            refine lv_lstore_n (lv' := [(2, .long (c_pg C 3 k (v + 1))), (4, .int (nI v)), (0, .ref (s0.heap.size + 13)), (1, .ref (aI s0.heap.size k))]) hx hb dX3_plan_75 rfl hl (by decide) rfl (fun ls hl => ?_)
            refine lv_iinc (v := nI (v + 1)) (lv' := [(4, .int (nI (v + 1))), (2, .long (c_pg C 3 k (v + 1))), (0, .ref (s0.heap.size + 13)), (1, .ref (aI s0.heap.size k))]) hx hb dX3_plan_76 hl (k := 1) rfl (nI_1 v) (by decide) rfl (fun ls hl => ?_)
            refine lv_goto (tgt := 5) hx hb dX3_plan_79 (by decide) ?_
            exact ih (v + 1) _ _ _ (by omega) (by omega) (lv_sub hl [1, 0, 2, 3] rfl) hL hR
          · refine lv_goto (tgt := 76) hx hb dX3_plan_40 (by decide) ?_
            refine lv_iinc (v := nI (v + 1)) (lv' := [(4, .int (nI (v + 1))), (2, .long (c_pg C 3 k v)), (0, .ref (s0.heap.size + 13)), (1, .ref (aI s0.heap.size k))]) hx hb dX3_plan_76 hl (k := 1) rfl (nI_1 v) (by decide) rfl (fun ls hl => ?_)
            refine lv_goto (tgt := 5) hx hb dX3_plan_79 (by decide) ?_
            have hz : c_pq C 3 k v = 0 := by unfold c_pq c_q; rw [if_neg (fun q => c37 q.2)]
            have hR := GR_C (C := (rA (c_wr C 3 k v (c_pq C 3 k)) (up3 (kA (c_wr C 3 k v (c_pq C 3 k))) 3 k v 0))) (C' := c_wr C 3 k (v + 1) (c_pq C 3 k)) (by rw [← c_wr_s, hz]) hR
            have hl : lv_has ls 5 [(4, .int (nI (v + 1))), (2, .long (c_pg C 3 k (v + 1))), (0, .ref (s0.heap.size + 13)), (1, .ref (aI s0.heap.size k))] := by rw [show c_pg C 3 k (v + 1) = c_pg C 3 k v from by show c_pg C 3 k v + c_pq C 3 k v = _; rw [hz]; grind]; exact hl
            exact ih (v + 1) _ _ _ (by omega) (by omega) (lv_sub hl [1, 0, 2, 3] rfl) hL hR
  refine lv_lconst (v := 0) hx hb dX3_plan_0 (by decide) ?_
  refine gx_tl (c_pg C 3 k 0) (rfl) ?_
  refine lv_lstore_n (lv' := [(2, .long (c_pg C 3 k 0)), (0, .ref (s0.heap.size + 13)), (1, .ref (aI s0.heap.size k))]) hx hb dX3_plan_1 rfl hl (by decide) rfl (fun ls hl => ?_)
  refine lv_iconst (v := 0) hx hb dX3_plan_2 (by decide) ?_
  refine gx_ti (nI 0) (by decide) ?_
  refine lv_istore (lv' := [(4, .int (nI 0)), (2, .long (c_pg C 3 k 0)), (0, .ref (s0.heap.size + 13)), (1, .ref (aI s0.heap.size k))]) hx hb dX3_plan_3 hl (by decide) rfl (fun ls hl => ?_)
  exact key 13 0 _ _ _ (by omega) (by omega) (lv_sub hl [1, 0, 2, 3] rfl) hL (by rw [c_wr_0]; exact hR)
