set_option maxHeartbeats 4000000 in
set_option maxRecDepth 100000 in
/-- there -/
theorem ct_X1_there {l : Launch} {s0 : State} {D : va_G} {DA : Nat → ClassId} {z0 : Nat} {H : Heap} (hE : G0 l s0 D DA z0) {x : Int32} (hx0 : ¬ x = 0) : Met l yX1_there (ws_ yX1_there cX1_there 1 none) ({ frames := 0, cells := 0, slots := 0, locals := 0 }) (cP s0 [.int x] H) (cQ0 (fun H1 => H1 = H)) 0 0 (cF s0) := by
  refine Met.ofW (cc := cX1_there) (maxL := 1) (ret := none) (by decide) rfl ?_
  intro p e s m args below meth c s₁ Bd hml hv
  obtain ⟨rfl, rfl, hW0⟩ := hv
  have hx := Bd.exec
  have hb := Bd.bytes
  have hr := Bd.returns
  have hts := atoms_spec (ws := (ws_ yX1_there cX1_there 1 none)) Bd.pre
  have hts : ∀ w ∈ lw_all, w.before _ s = true := fun w h => hts w (List.mem_cons_of_mem _ h)
  have hown : s.vm.findClass RX1 = some m.cls := findClass_of_methodNamed Bd.named
  have hlocks := Bd.notSynchronized
  have hK := va_K.moved hW0.alike hE.K
  have hL : gx_L s0.heap.size ([] : List Loc) := gx_L0
  have hl := lv_entry ([.int x]) (n := 1) (Nat.le_of_ble_eq_true rfl)
  rw [lg_entry_eq]
  generalize (lg_sl ([.int x]) ++ List.replicate (1 - (lg_sl ([.int x])).length) Slot.unset).toArray = ls at hl ⊢
  have hl : lv_has ls 1 [(0, .int x)] := hl
  refine lv_iload_n hx hb dX1_there_0 rfl (lv_at hl 0 rfl) ?_
  refine lv_if_ne (tgt := 12) hx hb dX1_there_1 (by decide) (fun c1 => ?_) (fun c1 => ?_)
  · exact W.vret hx hb hr (fun t ht hW => ⟨rfl, ht⟩) hL dX1_there_12
  · exact absurd c1 hx0
set_option maxHeartbeats 4000000 in
set_option maxRecDepth 100000 in
/-- argue -/
theorem ct_X1_argue {l : Launch} {s0 : State} {D : va_G} {DA : Nat → ClassId} {z0 : Nat} {H : Heap} (hE : G0 l s0 D DA z0) {x : Int32} (hx0 : ¬ x = 0) : Met l yX1_argue (ws_ yX1_argue cX1_argue 1 none) ({ frames := 0, cells := 0, slots := 0, locals := 0 }) (cP s0 [.int x] H) (cQ0 (fun H1 => H1 = H)) 0 0 (cF s0) := by
  refine Met.ofW (cc := cX1_argue) (maxL := 1) (ret := none) (by decide) rfl ?_
  intro p e s m args below meth c s₁ Bd hml hv
  obtain ⟨rfl, rfl, hW0⟩ := hv
  have hx := Bd.exec
  have hb := Bd.bytes
  have hr := Bd.returns
  have hts := atoms_spec (ws := (ws_ yX1_argue cX1_argue 1 none)) Bd.pre
  have hts : ∀ w ∈ lw_all, w.before _ s = true := fun w h => hts w (List.mem_cons_of_mem _ h)
  have hown : s.vm.findClass RX1 = some m.cls := findClass_of_methodNamed Bd.named
  have hlocks := Bd.notSynchronized
  have hK := va_K.moved hW0.alike hE.K
  have hL : gx_L s0.heap.size ([] : List Loc) := gx_L0
  have hl := lv_entry ([.int x]) (n := 1) (Nat.le_of_ble_eq_true rfl)
  rw [lg_entry_eq]
  generalize (lg_sl ([.int x]) ++ List.replicate (1 - (lg_sl ([.int x])).length) Slot.unset).toArray = ls at hl ⊢
  have hl : lv_has ls 1 [(0, .int x)] := hl
  refine lv_iload_n hx hb dX1_argue_0 rfl (lv_at hl 0 rfl) ?_
  refine lv_if_ne (tgt := 12) hx hb dX1_argue_1 (by decide) (fun c1 => ?_) (fun c1 => ?_)
  · exact W.vret hx hb hr (fun t ht hW => ⟨rfl, ht⟩) hL dX1_argue_12
  · exact absurd c1 hx0
set_option maxHeartbeats 4000000 in
set_option maxRecDepth 100000 in
/-- allow -/
theorem ct_X1_allow {l : Launch} {s0 : State} {D : va_G} {DA : Nat → ClassId} {z0 : Nat} {H : Heap} (hE : G0 l s0 D DA z0) {x : Int32} (hx0 : ¬ x = 0) : Met l yX1_allow (ws_ yX1_allow cX1_allow 1 none) ({ frames := 0, cells := 0, slots := 0, locals := 0 }) (cP s0 [.int x] H) (cQ0 (fun H1 => H1 = H)) 0 0 (cF s0) := by
  refine Met.ofW (cc := cX1_allow) (maxL := 1) (ret := none) (by decide) rfl ?_
  intro p e s m args below meth c s₁ Bd hml hv
  obtain ⟨rfl, rfl, hW0⟩ := hv
  have hx := Bd.exec
  have hb := Bd.bytes
  have hr := Bd.returns
  have hts := atoms_spec (ws := (ws_ yX1_allow cX1_allow 1 none)) Bd.pre
  have hts : ∀ w ∈ lw_all, w.before _ s = true := fun w h => hts w (List.mem_cons_of_mem _ h)
  have hown : s.vm.findClass RX1 = some m.cls := findClass_of_methodNamed Bd.named
  have hlocks := Bd.notSynchronized
  have hK := va_K.moved hW0.alike hE.K
  have hL : gx_L s0.heap.size ([] : List Loc) := gx_L0
  have hl := lv_entry ([.int x]) (n := 1) (Nat.le_of_ble_eq_true rfl)
  rw [lg_entry_eq]
  generalize (lg_sl ([.int x]) ++ List.replicate (1 - (lg_sl ([.int x])).length) Slot.unset).toArray = ls at hl ⊢
  have hl : lv_has ls 1 [(0, .int x)] := hl
  refine lv_iload_n hx hb dX1_allow_0 rfl (lv_at hl 0 rfl) ?_
  refine lv_if_ne (tgt := 12) hx hb dX1_allow_1 (by decide) (fun c1 => ?_) (fun c1 => ?_)
  · exact W.vret hx hb hr (fun t ht hW => ⟨rfl, ht⟩) hL dX1_allow_12
  · exact absurd c1 hx0
set_option maxHeartbeats 4000000 in
set_option maxRecDepth 100000 in
/-- of -/
theorem ct_X1_of {l : Launch} {s0 : State} {D : va_G} {DA : Nat → ClassId} {z0 : Nat} {Y : YS} {C : CS} {M : MS} {o : Int64} {H : Heap} (hE : G0 l s0 D DA z0) (hR : GRb s0.heap.size s0.heap D DA z0 Y C M o H) {k : Nat} (hk : k < 12) : Met l yX1_of (ws_ yX1_of cX1_of 2 (some (.object "NettedPlans$Item"))) ({ frames := 1, cells := 0, slots := 0, locals := 22 }) (cP s0 [.ref s0.heap.size, .int (nI k)] H) (cQv (.ref (aI s0.heap.size k)) (fun H1 => H1 = H)) 0 0 (cF s0) := by
  refine Met.ofW (cc := cX1_of) (maxL := 2) (ret := (some (.object "NettedPlans$Item"))) (by decide) rfl ?_
  intro p e s m args below meth c s₁ Bd hml hv
  obtain ⟨rfl, rfl, hW0⟩ := hv
  have hx := Bd.exec
  have hb := Bd.bytes
  have hr := Bd.returns
  have hts := atoms_spec (ws := (ws_ yX1_of cX1_of 2 (some (.object "NettedPlans$Item")))) Bd.pre
  have hts : ∀ w ∈ lw_all, w.before _ s = true := fun w h => hts w (List.mem_cons_of_mem _ h)
  have hown : s.vm.findClass RX1 = some m.cls := findClass_of_methodNamed Bd.named
  have hlocks := Bd.notSynchronized
  have hK := va_K.moved hW0.alike hE.K
  have hL : gx_L s0.heap.size ([] : List Loc) := gx_L0
  have hl := lv_entry ([.ref s0.heap.size, .int (nI k)]) (n := 2) (Nat.le_of_ble_eq_true rfl)
  rw [lg_entry_eq]
  generalize (lg_sl ([.ref s0.heap.size, .int (nI k)]) ++ List.replicate (2 - (lg_sl ([.ref s0.heap.size, .int (nI k)])).length) Slot.unset).toArray = ls at hl ⊢
  have hl : lv_has ls 2 [(0, .ref s0.heap.size), (1, .int (nI k))] := hl
  refine lv_iload_n hx hb dX1_of_0 rfl (lv_at hl 1 rfl) ?_
  refine lv_iconst (v := 0) hx hb dX1_of_1 (by decide) ?_
  refine lv_bipush (v := 11) hx hb dX1_of_2 (by decide) ?_
  refine cc_v (va_runS (As := [.int (nI k), .int 0, .int 11]) (rest := []) ⟨hx, hb, hml, hown, hts⟩ (ct_X1_isIn hE (nI k) 0 11) (va_cwS 3 hts (lw_S q540 q541 q47 q542) rfl rfl rfl (by decide +kernel) ⟨Nat.le_of_ble_eq_true rfl, Nat.le_of_ble_eq_true rfl⟩) (cc_pS hW0) rfl rfl hl.1 rfl (lv_room (Nat.le_of_ble_eq_true rfl)) dX1_of_4 ⟨Nat.le_of_ble_eq_true rfl, Nat.le_of_ble_eq_true rfl⟩) hL (fun H locs hP1 hL => ?_)
  subst hP1
  refine cc_0 (va_runS (As := [.int (bZ (inR (nI k) 0 11))]) (rest := []) ⟨hx, hb, hml, hown, hts⟩ (ct_X1_there hE (x := bZ (inR (nI k) 0 11)) (by rw [show inR (nI k) 0 11 = true from in12_n hk]; decide)) (va_cwS 1 hts (lw_S q543 q544 q47 q545) rfl rfl rfl (by decide +kernel) ⟨Nat.le_of_ble_eq_true rfl, Nat.le_of_ble_eq_true rfl⟩) (cc_pS hW0) rfl rfl hl.1 rfl (lv_room (Nat.le_of_ble_eq_true rfl)) dX1_of_7 ⟨Nat.le_of_ble_eq_true rfl, Nat.le_of_ble_eq_true rfl⟩) hL (fun H locs hP1 hL => ?_)
  subst hP1
  refine lv_aload_n hx hb dX1_of_10 rfl (lv_at hl 0 rfl) ?_
  refine gx_get (D := D) (cl := gcl) (ci := 0) (v := .ref (s0.heap.size + 1)) (C := RX1) (T := TX1) (N := 10) hx hb hts in_X1 hown hK hR.np rfl 0 (by decide) (hts _ q272) (fun _ h9 => h9) rfl dX1_of_11 ?_
  refine lv_iload_n hx hb dX1_of_14 rfl (lv_at hl 1 rfl) ?_
  refine gx_aald (x := aI s0.heap.size k) hx hb hK 3 hR.its rfl k (rfl) (by omega) (by decide) rfl dX1_of_15 ?_
  exact W.aret hx hb hr (Or.inl ⟨_, rfl⟩) (Or.inr ⟨_, rfl⟩) (fun t ht hW => ⟨rfl, ht⟩) hL dX1_of_16
set_option maxHeartbeats 4000000 in
set_option maxRecDepth 100000 in
/-- of, out of bounds -/
theorem ct_X1_of_T {l : Launch} {s0 : State} {D : va_G} {DA : Nat → ClassId} {z0 : Nat} {C : CS} {M : MS} {o : Int64} {H : Heap} (hE : G0 l s0 D DA z0) (hR : RR s0 D DA z0 C M o H) {x : Int32} (h : in12 x = false) : MetT l yX1_of (ws_ yX1_of cX1_of 2 (some (.object "NettedPlans$Item"))) ({ frames := 7, cells := 1, slots := 6, locals := 102 }) (cP s0 [.ref s0.heap.size, .int x] H) (cQT s0 "java/lang/IndexOutOfBoundsException" (fun H1 => RR s0 D DA z0 C M o H1)) 1 6 (cF s0) := by
  refine MetT.ofW (cc := cX1_of) (maxL := 2) (ret := (some (.object "NettedPlans$Item"))) (by decide) rfl ?_
  intro p e s m args below meth c s₁ Bd hml hv
  obtain ⟨rfl, rfl, hW0⟩ := hv
  have hx := Bd.exec
  have hb := Bd.bytes
  have hr := Bd.returns
  have hts := atoms_spec (ws := (ws_ yX1_of cX1_of 2 (some (.object "NettedPlans$Item")))) Bd.pre
  have hno := BodyLoose.noHandlers Bd (hts _ List.mem_cons_self)
  have hts : ∀ w ∈ lw_all, w.before _ s = true := fun w h => hts w (List.mem_cons_of_mem _ h)
  have hown : s.vm.findClass RX1 = some m.cls := findClass_of_methodNamed Bd.named
  have hlocks := Bd.notSynchronized
  have hK := va_K.moved hW0.alike hE.K
  have hL : gx_L s0.heap.size ([] : List Loc) := gx_L0
  obtain ⟨Y, hR⟩ := hR
  have hl := lv_entry ([.ref s0.heap.size, .int x]) (n := 2) (Nat.le_of_ble_eq_true rfl)
  rw [lg_entry_eq]
  generalize (lg_sl ([.ref s0.heap.size, .int x]) ++ List.replicate (2 - (lg_sl ([.ref s0.heap.size, .int x])).length) Slot.unset).toArray = ls at hl ⊢
  have hl : lv_has ls 2 [(0, .ref s0.heap.size), (1, .int x)] := hl
  refine lv_iload_n hx hb dX1_of_0 rfl (lv_at hl 1 rfl) ?_
  refine lv_iconst (v := 0) hx hb dX1_of_1 (by decide) ?_
  refine lv_bipush (v := 11) hx hb dX1_of_2 (by decide) ?_
  refine cc_v (va_runS (As := [.int x, .int 0, .int 11]) (rest := []) ⟨hx, hb, hml, hown, hts⟩ (ct_X1_isIn hE x 0 11) (va_cwS 3 hts (lw_S q540 q541 q47 q542) rfl rfl rfl (by decide +kernel) ⟨Nat.le_of_ble_eq_true rfl, Nat.le_of_ble_eq_true rfl⟩) (cc_pS hW0) rfl rfl hl.1 rfl (lv_room (Nat.le_of_ble_eq_true rfl)) dX1_of_4 ⟨Nat.le_of_ble_eq_true rfl, Nat.le_of_ble_eq_true rfl⟩) hL (fun H locs hP1 hL => ?_)
  subst hP1
  exact gt_leave (va_runTS (As := [.int (bZ (inR x 0 11))]) (rest := []) ⟨hx, hb, hml, hown, hts⟩ (ct_X1_there_T hE ⟨_, hR⟩ (x := bZ (inR x 0 11)) (by rw [show inR x 0 11 = false from h]; rfl)) (va_cwS 1 hts (lw_S q543 q544 q47 q545) rfl rfl rfl (by decide +kernel) ⟨Nat.le_of_ble_eq_true rfl, Nat.le_of_ble_eq_true rfl⟩) (cc_pS hW0) rfl rfl hl.1 rfl (lv_room (Nat.le_of_ble_eq_true rfl)) dX1_of_7 ⟨Nat.le_of_ble_eq_true rfl, Nat.le_of_ble_eq_true rfl⟩) hno (fun st t u x hq h1 h2 h3 => ⟨by rw [h1]; exact hq.1, by rw [h1]; exact hq.2⟩) hL (fun q h => h) Bd.notSynchronized
set_option maxHeartbeats 4000000 in
set_option maxRecDepth 100000 in
/-- week -/
theorem ct_X1_week {l : Launch} {s0 : State} {D : va_G} {DA : Nat → ClassId} {z0 : Nat} {H : Heap} (hE : G0 l s0 D DA z0) {x : Int32} (h : in12 x = true) : Met l yX1_week (ws_ yX1_week cX1_week 1 none) ({ frames := 1, cells := 0, slots := 0, locals := 22 }) (cP s0 [.int x] H) (cQ0 (fun H1 => H1 = H)) 0 0 (cF s0) := by
  refine Met.ofW (cc := cX1_week) (maxL := 1) (ret := none) (by decide) rfl ?_
  intro p e s m args below meth c s₁ Bd hml hv
  obtain ⟨rfl, rfl, hW0⟩ := hv
  have hx := Bd.exec
  have hb := Bd.bytes
  have hr := Bd.returns
  have hts := atoms_spec (ws := (ws_ yX1_week cX1_week 1 none)) Bd.pre
  have hts : ∀ w ∈ lw_all, w.before _ s = true := fun w h => hts w (List.mem_cons_of_mem _ h)
  have hown : s.vm.findClass RX1 = some m.cls := findClass_of_methodNamed Bd.named
  have hlocks := Bd.notSynchronized
  have hK := va_K.moved hW0.alike hE.K
  have hL : gx_L s0.heap.size ([] : List Loc) := gx_L0
  have hl := lv_entry ([.int x]) (n := 1) (Nat.le_of_ble_eq_true rfl)
  rw [lg_entry_eq]
  generalize (lg_sl ([.int x]) ++ List.replicate (1 - (lg_sl ([.int x])).length) Slot.unset).toArray = ls at hl ⊢
  have hl : lv_has ls 1 [(0, .int x)] := hl
  refine lv_iload_n hx hb dX1_week_0 rfl (lv_at hl 0 rfl) ?_
  refine lv_iconst (v := 0) hx hb dX1_week_1 (by decide) ?_
  refine lv_bipush (v := 11) hx hb dX1_week_2 (by decide) ?_
  refine cc_v (va_runS (As := [.int x, .int 0, .int 11]) (rest := []) ⟨hx, hb, hml, hown, hts⟩ (ct_X1_isIn hE x 0 11) (va_cwS 3 hts (lw_S q540 q541 q47 q542) rfl rfl rfl (by decide +kernel) ⟨Nat.le_of_ble_eq_true rfl, Nat.le_of_ble_eq_true rfl⟩) (cc_pS hW0) rfl rfl hl.1 rfl (lv_room (Nat.le_of_ble_eq_true rfl)) dX1_week_4 ⟨Nat.le_of_ble_eq_true rfl, Nat.le_of_ble_eq_true rfl⟩) hL (fun H locs hP1 hL => ?_)
  subst hP1
  refine cc_0 (va_runS (As := [.int (bZ (inR x 0 11))]) (rest := []) ⟨hx, hb, hml, hown, hts⟩ (ct_X1_there hE (x := bZ (inR x 0 11)) (by rw [show inR x 0 11 = true from h]; decide)) (va_cwS 1 hts (lw_S q543 q544 q47 q545) rfl rfl rfl (by decide +kernel) ⟨Nat.le_of_ble_eq_true rfl, Nat.le_of_ble_eq_true rfl⟩) (cc_pS hW0) rfl rfl hl.1 rfl (lv_room (Nat.le_of_ble_eq_true rfl)) dX1_week_7 ⟨Nat.le_of_ble_eq_true rfl, Nat.le_of_ble_eq_true rfl⟩) hL (fun H locs hP1 hL => ?_)
  subst hP1
  exact W.vret hx hb hr (fun t ht hW => ⟨rfl, ht⟩) hL dX1_week_10
set_option maxHeartbeats 4000000 in
set_option maxRecDepth 100000 in
/-- week, out of bounds -/
theorem ct_X1_week_T {l : Launch} {s0 : State} {D : va_G} {DA : Nat → ClassId} {z0 : Nat} {C : CS} {M : MS} {o : Int64} {H : Heap} (hE : G0 l s0 D DA z0) (hR : RR s0 D DA z0 C M o H) {x : Int32} (h : in12 x = false) : MetT l yX1_week (ws_ yX1_week cX1_week 1 none) ({ frames := 7, cells := 1, slots := 6, locals := 102 }) (cP s0 [.int x] H) (cQT s0 "java/lang/IndexOutOfBoundsException" (fun H1 => RR s0 D DA z0 C M o H1)) 1 6 (cF s0) := by
  refine MetT.ofW (cc := cX1_week) (maxL := 1) (ret := none) (by decide) rfl ?_
  intro p e s m args below meth c s₁ Bd hml hv
  obtain ⟨rfl, rfl, hW0⟩ := hv
  have hx := Bd.exec
  have hb := Bd.bytes
  have hr := Bd.returns
  have hts := atoms_spec (ws := (ws_ yX1_week cX1_week 1 none)) Bd.pre
  have hno := BodyLoose.noHandlers Bd (hts _ List.mem_cons_self)
  have hts : ∀ w ∈ lw_all, w.before _ s = true := fun w h => hts w (List.mem_cons_of_mem _ h)
  have hown : s.vm.findClass RX1 = some m.cls := findClass_of_methodNamed Bd.named
  have hlocks := Bd.notSynchronized
  have hK := va_K.moved hW0.alike hE.K
  have hL : gx_L s0.heap.size ([] : List Loc) := gx_L0
  obtain ⟨Y, hR⟩ := hR
  have hl := lv_entry ([.int x]) (n := 1) (Nat.le_of_ble_eq_true rfl)
  rw [lg_entry_eq]
  generalize (lg_sl ([.int x]) ++ List.replicate (1 - (lg_sl ([.int x])).length) Slot.unset).toArray = ls at hl ⊢
  have hl : lv_has ls 1 [(0, .int x)] := hl
  refine lv_iload_n hx hb dX1_week_0 rfl (lv_at hl 0 rfl) ?_
  refine lv_iconst (v := 0) hx hb dX1_week_1 (by decide) ?_
  refine lv_bipush (v := 11) hx hb dX1_week_2 (by decide) ?_
  refine cc_v (va_runS (As := [.int x, .int 0, .int 11]) (rest := []) ⟨hx, hb, hml, hown, hts⟩ (ct_X1_isIn hE x 0 11) (va_cwS 3 hts (lw_S q540 q541 q47 q542) rfl rfl rfl (by decide +kernel) ⟨Nat.le_of_ble_eq_true rfl, Nat.le_of_ble_eq_true rfl⟩) (cc_pS hW0) rfl rfl hl.1 rfl (lv_room (Nat.le_of_ble_eq_true rfl)) dX1_week_4 ⟨Nat.le_of_ble_eq_true rfl, Nat.le_of_ble_eq_true rfl⟩) hL (fun H locs hP1 hL => ?_)
  subst hP1
  exact gt_leave (va_runTS (As := [.int (bZ (inR x 0 11))]) (rest := []) ⟨hx, hb, hml, hown, hts⟩ (ct_X1_there_T hE ⟨_, hR⟩ (x := bZ (inR x 0 11)) (by rw [show inR x 0 11 = false from h]; rfl)) (va_cwS 1 hts (lw_S q543 q544 q47 q545) rfl rfl rfl (by decide +kernel) ⟨Nat.le_of_ble_eq_true rfl, Nat.le_of_ble_eq_true rfl⟩) (cc_pS hW0) rfl rfl hl.1 rfl (lv_room (Nat.le_of_ble_eq_true rfl)) dX1_week_7 ⟨Nat.le_of_ble_eq_true rfl, Nat.le_of_ble_eq_true rfl⟩) hno (fun st t u x hq h1 h2 h3 => ⟨by rw [h1]; exact hq.1, by rw [h1]; exact hq.2⟩) hL (fun q h => h) Bd.notSynchronized
set_option maxHeartbeats 4000000 in
set_option maxRecDepth 100000 in
/-- tell -/
theorem ct_X1_tell {l : Launch} {s0 : State} {D : va_G} {DA : Nat → ClassId} {z0 : Nat} {C : CS} {M : MS} {o : Int64} {H : Heap} (hE : G0 l s0 D DA z0) (hR : RR s0 D DA z0 C M o H) {k : Nat} (hk : k < 12) : Met l yX1_tell (ws_ yX1_tell cX1_tell 2 none) ({ frames := 0, cells := 0, slots := 0, locals := 0 }) (cP s0 [.ref s0.heap.size, .ref (aI s0.heap.size k)] H) (cQ0 (fun H1 => RR s0 D DA z0 (c_tell C k) M o H1)) 0 0 (cF s0) := by
  refine Met.ofW (cc := cX1_tell) (maxL := 2) (ret := none) (by decide) rfl ?_
  intro p e s m args below meth c s₁ Bd hml hv
  obtain ⟨rfl, rfl, hW0⟩ := hv
  have hx := Bd.exec
  have hb := Bd.bytes
  have hr := Bd.returns
  have hts := atoms_spec (ws := (ws_ yX1_tell cX1_tell 2 none)) Bd.pre
  have hts : ∀ w ∈ lw_all, w.before _ s = true := fun w h => hts w (List.mem_cons_of_mem _ h)
  have hown : s.vm.findClass RX1 = some m.cls := findClass_of_methodNamed Bd.named
  have hlocks := Bd.notSynchronized
  have hK := va_K.moved hW0.alike hE.K
  have hL : gx_L s0.heap.size ([] : List Loc) := gx_L0
  obtain ⟨Y, hR⟩ := hR
  have hl := lv_entry ([.ref s0.heap.size, .ref (aI s0.heap.size k)]) (n := 2) (Nat.le_of_ble_eq_true rfl)
  rw [lg_entry_eq]
  generalize (lg_sl ([.ref s0.heap.size, .ref (aI s0.heap.size k)]) ++ List.replicate (2 - (lg_sl ([.ref s0.heap.size, .ref (aI s0.heap.size k)])).length) Slot.unset).toArray = ls at hl ⊢
  have hl : lv_has ls 2 [(0, .ref s0.heap.size), (1, .ref (aI s0.heap.size k))] := hl
  refine lv_aload_n hx hb dX1_tell_0 rfl (lv_at hl 1 rfl) ?_
  refine lv_iconst (v := 1) hx hb dX1_tell_1 (by decide) ?_
  refine gx_putN (D := D) (cl := gcl) (ci := 8) (v := .int 1) (ty := .boolean) (C := RX9) (T := TX9) (N := 19) hx hb hts in_X9 tyX9 tyX9_ok nmX9 hown hK (hR.itm k hk) rfl 12 (by decide) (hE.nF hW0 q209) (fun _ h9 => h9) rfl (by decide +kernel) (rfl) rfl (Nat.le_of_ble_eq_true rfl) hL (by (try simp only [aI, aA, aT, aB, aL, mad]); omega) dX1_tell_2 (fun H locs hU hA hL => ?_)
  have hR := GRb.pI (j := 12) (k := k) (by decide) (by decide) hk hR hU hA
  refine lv_aload_n hx hb dX1_tell_5 rfl (lv_at hl 0 rfl) ?_
  refine lv_iconst (v := 1) hx hb dX1_tell_6 (by decide) ?_
  refine gx_put (D := D) (cl := gcl) (ci := 0) (v := .int 1) (ty := .boolean) (C := RX1) (T := TX1) (N := 10) hx hb hts in_X1 tyX1 tyX1_ok nmX1 hown hK hR.np rfl 8 (by decide) (hts _ q280) (fun _ h9 => h9) rfl (by decide +kernel) (rfl) rfl (Nat.le_of_ble_eq_true rfl) hL (by (try simp only [aI, aA, aT, aB, aL, mad]); omega) dX1_tell_7 (fun H locs hU hA hL => ?_)
  have hR := GRb.pT hR hU hA
  exact W.vret hx hb hr (fun t ht hW => ⟨rfl, by rw [ht]; exact ⟨_, hR⟩⟩) hL dX1_tell_10
set_option maxHeartbeats 4000000 in
set_option maxRecDepth 100000 in
/-- item -/
theorem ct_X1_item {l : Launch} {s0 : State} {D : va_G} {DA : Nat → ClassId} {z0 : Nat} {C : CS} {M : MS} {o : Int64} {H : Heap} (hE : G0 l s0 D DA z0) (hR : RR s0 D DA z0 C M o H) {k : Nat} (hk : k < 12) (r z d q : Int32) (h1 : inR r 0 3 = true) (h2 : inR z 1 1000 = true) (h3 : inR d 0 4 = true) (h4 : inR q 0 1000 = true) : Met l yX1_item (ws_ yX1_item cX1_item 7 none) ({ frames := 2, cells := 0, slots := 0, locals := 43 }) (cP s0 [.ref s0.heap.size, .int (nI k), .int r, .int z, .int d, .int q] H) (cQ0 (fun H1 => RR s0 D DA z0 (c_item C k r z d q) M o H1)) 0 0 (cF s0) := by
  refine Met.ofW (cc := cX1_item) (maxL := 7) (ret := none) (by decide) rfl ?_
  intro p e s m args below meth c s₁ Bd hml hv
  obtain ⟨rfl, rfl, hW0⟩ := hv
  have hx := Bd.exec
  have hb := Bd.bytes
  have hr := Bd.returns
  have hts := atoms_spec (ws := (ws_ yX1_item cX1_item 7 none)) Bd.pre
  have hts : ∀ w ∈ lw_all, w.before _ s = true := fun w h => hts w (List.mem_cons_of_mem _ h)
  have hown : s.vm.findClass RX1 = some m.cls := findClass_of_methodNamed Bd.named
  have hlocks := Bd.notSynchronized
  have hK := va_K.moved hW0.alike hE.K
  have hL : gx_L s0.heap.size ([] : List Loc) := gx_L0
  obtain ⟨Y, hR⟩ := hR
  have hl := lv_entry ([.ref s0.heap.size, .int (nI k), .int r, .int z, .int d, .int q]) (n := 7) (Nat.le_of_ble_eq_true rfl)
  rw [lg_entry_eq]
  generalize (lg_sl ([.ref s0.heap.size, .int (nI k), .int r, .int z, .int d, .int q]) ++ List.replicate (7 - (lg_sl ([.ref s0.heap.size, .int (nI k), .int r, .int z, .int d, .int q])).length) Slot.unset).toArray = ls at hl ⊢
  have hl : lv_has ls 7 [(0, .ref s0.heap.size), (1, .int (nI k)), (2, .int r), (3, .int z), (4, .int d), (5, .int q)] := hl
  refine lv_aload_n hx hb dX1_item_0 rfl (lv_at hl 0 rfl) ?_
  refine lv_iload_n hx hb dX1_item_1 rfl (lv_at hl 1 rfl) ?_
  refine cc_v (va_runV (b := s0.heap.size) (As := [.int (nI k)]) (rest := []) ⟨hx, hb, hml, hown, hts⟩ (ct_X1_of hE hR hk) (cwV 1 hts (lw_V q536 q538 qs11 q47 q539) rfl rfl rfl (by decide +kernel) ⟨Nat.le_of_ble_eq_true rfl, Nat.le_of_ble_eq_true rfl⟩) (cc_pV hW0 (cc_re hK hR.np (show gcl[0]? = _ from rfl))) rfl rfl hl.1 rfl (lv_room (Nat.le_of_ble_eq_true rfl)) dX1_item_2 ⟨Nat.le_of_ble_eq_true rfl, Nat.le_of_ble_eq_true rfl⟩) hL (fun H locs hP1 hL => ?_)
  subst hP1
  refine lv_astore (lv' := [(6, .ref (aI s0.heap.size k)), (0, .ref s0.heap.size), (1, .int (nI k)), (2, .int r), (3, .int z), (4, .int d), (5, .int q)]) hx hb dX1_item_5 hl (by decide) rfl (fun ls hl => ?_)
  refine lv_iload_n hx hb dX1_item_7 rfl (lv_at hl 3 rfl) ?_
  refine lv_iconst (v := 0) hx hb dX1_item_8 (by decide) ?_
  refine lv_iconst (v := 3) hx hb dX1_item_9 (by decide) ?_
  refine cc_v (va_runS (As := [.int r, .int 0, .int 3]) (rest := []) ⟨hx, hb, hml, hown, hts⟩ (ct_X1_isIn hE r 0 3) (va_cwS 3 hts (lw_S q540 q541 q47 q542) rfl rfl rfl (by decide +kernel) ⟨Nat.le_of_ble_eq_true rfl, Nat.le_of_ble_eq_true rfl⟩) (cc_pS hW0) rfl rfl hl.1 rfl (lv_room (Nat.le_of_ble_eq_true rfl)) dX1_item_10 ⟨Nat.le_of_ble_eq_true rfl, Nat.le_of_ble_eq_true rfl⟩) hL (fun H locs hP1 hL => ?_)
  subst hP1
  refine lv_if_eq (tgt := 53) hx hb dX1_item_13 (by decide) (fun c13 => ?_) (fun c13 => ?_)
  · exact absurd c13 (by rw [h1]; decide)
  · refine lv_iload_n hx hb dX1_item_16 rfl (lv_at hl 4 rfl) ?_
    refine lv_iconst (v := 1) hx hb dX1_item_17 (by decide) ?_
    refine lv_sipush (v := 1000) hx hb dX1_item_18 (by decide) ?_
    refine cc_v (va_runS (As := [.int z, .int 1, .int 1000]) (rest := []) ⟨hx, hb, hml, hown, hts⟩ (ct_X1_isIn hE z 1 1000) (va_cwS 3 hts (lw_S q540 q541 q47 q542) rfl rfl rfl (by decide +kernel) ⟨Nat.le_of_ble_eq_true rfl, Nat.le_of_ble_eq_true rfl⟩) (cc_pS hW0) rfl rfl hl.1 rfl (lv_room (Nat.le_of_ble_eq_true rfl)) dX1_item_21 ⟨Nat.le_of_ble_eq_true rfl, Nat.le_of_ble_eq_true rfl⟩) hL (fun H locs hP1 hL => ?_)
    subst hP1
    refine lv_if_eq (tgt := 53) hx hb dX1_item_24 (by decide) (fun c24 => ?_) (fun c24 => ?_)
    · exact absurd c24 (by rw [h2]; decide)
    · refine lv_iload hx hb dX1_item_27 (lv_at hl 5 rfl) ?_
      refine lv_iconst (v := 0) hx hb dX1_item_29 (by decide) ?_
      refine lv_iconst (v := 4) hx hb dX1_item_30 (by decide) ?_
      refine cc_v (va_runS (As := [.int d, .int 0, .int 4]) (rest := []) ⟨hx, hb, hml, hown, hts⟩ (ct_X1_isIn hE d 0 4) (va_cwS 3 hts (lw_S q540 q541 q47 q542) rfl rfl rfl (by decide +kernel) ⟨Nat.le_of_ble_eq_true rfl, Nat.le_of_ble_eq_true rfl⟩) (cc_pS hW0) rfl rfl hl.1 rfl (lv_room (Nat.le_of_ble_eq_true rfl)) dX1_item_31 ⟨Nat.le_of_ble_eq_true rfl, Nat.le_of_ble_eq_true rfl⟩) hL (fun H locs hP1 hL => ?_)
      subst hP1
      refine lv_if_eq (tgt := 53) hx hb dX1_item_34 (by decide) (fun c34 => ?_) (fun c34 => ?_)
      · exact absurd c34 (by rw [h3]; decide)
      · refine lv_iload hx hb dX1_item_37 (lv_at hl 6 rfl) ?_
        refine lv_iconst (v := 0) hx hb dX1_item_39 (by decide) ?_
        refine lv_sipush (v := 1000) hx hb dX1_item_40 (by decide) ?_
        refine cc_v (va_runS (As := [.int q, .int 0, .int 1000]) (rest := []) ⟨hx, hb, hml, hown, hts⟩ (ct_X1_isIn hE q 0 1000) (va_cwS 3 hts (lw_S q540 q541 q47 q542) rfl rfl rfl (by decide +kernel) ⟨Nat.le_of_ble_eq_true rfl, Nat.le_of_ble_eq_true rfl⟩) (cc_pS hW0) rfl rfl hl.1 rfl (lv_room (Nat.le_of_ble_eq_true rfl)) dX1_item_43 ⟨Nat.le_of_ble_eq_true rfl, Nat.le_of_ble_eq_true rfl⟩) hL (fun H locs hP1 hL => ?_)
        subst hP1
        refine lv_if_eq (tgt := 53) hx hb dX1_item_46 (by decide) (fun c46 => ?_) (fun c46 => ?_)
        · exact absurd c46 (by rw [h4]; decide)
        · refine lv_iconst (v := 1) hx hb dX1_item_49 (by decide) ?_
          refine lv_goto (tgt := 54) hx hb dX1_item_50 (by decide) ?_
          refine cc_0 (va_runS (As := [.int 1]) (rest := []) ⟨hx, hb, hml, hown, hts⟩ (ct_X1_argue hE (x := 1) (by decide)) (va_cwS 1 hts (lw_S q609 q610 q47 q611) rfl rfl rfl (by decide +kernel) ⟨Nat.le_of_ble_eq_true rfl, Nat.le_of_ble_eq_true rfl⟩) (cc_pS hW0) rfl rfl hl.1 rfl (lv_room (Nat.le_of_ble_eq_true rfl)) dX1_item_54 ⟨Nat.le_of_ble_eq_true rfl, Nat.le_of_ble_eq_true rfl⟩) hL (fun H locs hP1 hL => ?_)
          subst hP1
          refine lv_aload hx hb dX1_item_57 (lv_at hl 0 rfl) ?_
          refine lv_iload_n hx hb dX1_item_59 rfl (lv_at hl 3 rfl) ?_
          refine gx_putN (D := D) (cl := gcl) (ci := 8) (v := .int r) (ty := .int) (C := RX9) (T := TX9) (N := 19) hx hb hts in_X9 tyX9 tyX9_ok nmX9 hown hK (hR.itm k hk) rfl 1 (by decide) (hE.nF hW0 q188) (fun _ h9 => h9) rfl (by decide +kernel) (rfl) rfl (Nat.le_of_ble_eq_true rfl) hL (by (try simp only [aI, aA, aT, aB, aL, mad]); omega) dX1_item_60 (fun H locs hU hA hL => ?_)
          have hR := GRb.pI (j := 1) (k := k) (by decide) (by decide) hk hR hU hA
          refine lv_aload hx hb dX1_item_63 (lv_at hl 0 rfl) ?_
          refine lv_iload_n hx hb dX1_item_65 rfl (lv_at hl 4 rfl) ?_
          refine gx_putN (D := D) (cl := gcl) (ci := 8) (v := .int z) (ty := .int) (C := RX9) (T := TX9) (N := 19) hx hb hts in_X9 tyX9 tyX9_ok nmX9 hown hK (hR.itm k hk) rfl 2 (by decide) (hE.nF hW0 q192) (fun _ h9 => h9) rfl (by decide +kernel) (rfl) rfl (Nat.le_of_ble_eq_true rfl) hL (by (try simp only [aI, aA, aT, aB, aL, mad]); omega) dX1_item_66 (fun H locs hU hA hL => ?_)
          have hR := GRb.pI (j := 2) (k := k) (by decide) (by decide) hk hR hU hA
          refine lv_aload hx hb dX1_item_69 (lv_at hl 0 rfl) ?_
          refine lv_iload hx hb dX1_item_71 (lv_at hl 5 rfl) ?_
          refine gx_putN (D := D) (cl := gcl) (ci := 8) (v := .int d) (ty := .int) (C := RX9) (T := TX9) (N := 19) hx hb hts in_X9 tyX9 tyX9_ok nmX9 hown hK (hR.itm k hk) rfl 3 (by decide) (hE.nF hW0 q195) (fun _ h9 => h9) rfl (by decide +kernel) (rfl) rfl (Nat.le_of_ble_eq_true rfl) hL (by (try simp only [aI, aA, aT, aB, aL, mad]); omega) dX1_item_73 (fun H locs hU hA hL => ?_)
          have hR := GRb.pI (j := 3) (k := k) (by decide) (by decide) hk hR hU hA
          refine lv_aload hx hb dX1_item_76 (lv_at hl 0 rfl) ?_
          refine lv_iload hx hb dX1_item_78 (lv_at hl 6 rfl) ?_
          refine gx_putN (D := D) (cl := gcl) (ci := 8) (v := .int q) (ty := .int) (C := RX9) (T := TX9) (N := 19) hx hb hts in_X9 tyX9 tyX9_ok nmX9 hown hK (hR.itm k hk) rfl 4 (by decide) (hE.nF hW0 q196) (fun _ h9 => h9) rfl (by decide +kernel) (rfl) rfl (Nat.le_of_ble_eq_true rfl) hL (by (try simp only [aI, aA, aT, aB, aL, mad]); omega) dX1_item_80 (fun H locs hU hA hL => ?_)
          have hR := GRb.pI (j := 4) (k := k) (by decide) (by decide) hk hR hU hA
          refine lv_aload_n hx hb dX1_item_83 rfl (lv_at hl 1 rfl) ?_
          refine lv_aload hx hb dX1_item_84 (lv_at hl 0 rfl) ?_
          refine cc_0 (va_runV (b := s0.heap.size) (As := [.ref (aI s0.heap.size k)]) (rest := []) ⟨hx, hb, hml, hown, hts⟩ (ct_X1_tell hE ⟨_, hR⟩ hk) (cwV 1 hts (lw_V q627 q629 qs13 q47 q630) rfl rfl rfl (by decide +kernel) ⟨Nat.le_of_ble_eq_true rfl, Nat.le_of_ble_eq_true rfl⟩) (cc_pV hW0 (cc_re hK hR.np (show gcl[0]? = _ from rfl))) rfl rfl hl.1 rfl (lv_room (Nat.le_of_ble_eq_true rfl)) dX1_item_86 ⟨Nat.le_of_ble_eq_true rfl, Nat.le_of_ble_eq_true rfl⟩) hL (fun H locs hP1 hL => ?_)
          obtain ⟨Y, hR⟩ := hP1
          exact W.vret hx hb hr (fun t ht hW => ⟨rfl, by rw [ht]; exact ⟨_, hR⟩⟩) hL dX1_item_89
set_option maxHeartbeats 4000000 in
set_option maxRecDepth 100000 in
/-- item, out of bounds -/
theorem ct_X1_item_I {l : Launch} {s0 : State} {D : va_G} {DA : Nat → ClassId} {z0 : Nat} {C : CS} {M : MS} {o : Int64} {H : Heap} (hE : G0 l s0 D DA z0) (hR : RR s0 D DA z0 C M o H) (i r z d q : Int32) (h : in12 i = false) : MetT l yX1_item (ws_ yX1_item cX1_item 7 none) ({ frames := 8, cells := 1, slots := 6, locals := 123 }) (cP s0 [.ref s0.heap.size, .int i, .int r, .int z, .int d, .int q] H) (cQT s0 "java/lang/IndexOutOfBoundsException" (fun H1 => RR s0 D DA z0 C M o H1)) 1 6 (cF s0) := by
  refine MetT.ofW (cc := cX1_item) (maxL := 7) (ret := none) (by decide) rfl ?_
  intro p e s m args below meth c s₁ Bd hml hv
  obtain ⟨rfl, rfl, hW0⟩ := hv
  have hx := Bd.exec
  have hb := Bd.bytes
  have hr := Bd.returns
  have hts := atoms_spec (ws := (ws_ yX1_item cX1_item 7 none)) Bd.pre
  have hno := BodyLoose.noHandlers Bd (hts _ List.mem_cons_self)
  have hts : ∀ w ∈ lw_all, w.before _ s = true := fun w h => hts w (List.mem_cons_of_mem _ h)
  have hown : s.vm.findClass RX1 = some m.cls := findClass_of_methodNamed Bd.named
  have hlocks := Bd.notSynchronized
  have hK := va_K.moved hW0.alike hE.K
  have hL : gx_L s0.heap.size ([] : List Loc) := gx_L0
  obtain ⟨Y, hR⟩ := hR
  have hl := lv_entry ([.ref s0.heap.size, .int i, .int r, .int z, .int d, .int q]) (n := 7) (Nat.le_of_ble_eq_true rfl)
  rw [lg_entry_eq]
  generalize (lg_sl ([.ref s0.heap.size, .int i, .int r, .int z, .int d, .int q]) ++ List.replicate (7 - (lg_sl ([.ref s0.heap.size, .int i, .int r, .int z, .int d, .int q])).length) Slot.unset).toArray = ls at hl ⊢
  have hl : lv_has ls 7 [(0, .ref s0.heap.size), (1, .int i), (2, .int r), (3, .int z), (4, .int d), (5, .int q)] := hl
  refine lv_aload_n hx hb dX1_item_0 rfl (lv_at hl 0 rfl) ?_
  refine lv_iload_n hx hb dX1_item_1 rfl (lv_at hl 1 rfl) ?_
  exact gt_leave (va_runTV (b := s0.heap.size) (As := [.int i]) (rest := []) ⟨hx, hb, hml, hown, hts⟩ (ct_X1_of_T hE ⟨_, hR⟩ (x := i) (h)) (cwV 1 hts (lw_V q536 q538 qs11 q47 q539) rfl rfl rfl (by decide +kernel) ⟨Nat.le_of_ble_eq_true rfl, Nat.le_of_ble_eq_true rfl⟩) (cc_pV hW0 (cc_re hK hR.np (show gcl[0]? = _ from rfl))) rfl rfl hl.1 rfl (lv_room (Nat.le_of_ble_eq_true rfl)) dX1_item_2 ⟨Nat.le_of_ble_eq_true rfl, Nat.le_of_ble_eq_true rfl⟩) hno (fun st t u x hq h1 h2 h3 => ⟨by rw [h1]; exact hq.1, by rw [h1]; exact hq.2⟩) hL (fun q h => h) Bd.notSynchronized
set_option maxHeartbeats 4000000 in
set_option maxRecDepth 100000 in
/-- item, bad argument -/
theorem ct_X1_item_A {l : Launch} {s0 : State} {D : va_G} {DA : Nat → ClassId} {z0 : Nat} {C : CS} {M : MS} {o : Int64} {H : Heap} (hE : G0 l s0 D DA z0) (hR : RR s0 D DA z0 C M o H) {k : Nat} (hk : k < 12) (r z d q : Int32) (h : (inR r 0 3 && inR z 1 1000 && inR d 0 4 && inR q 0 1000) = false) : MetT l yX1_item (ws_ yX1_item cX1_item 7 none) ({ frames := 7, cells := 1, slots := 6, locals := 102 }) (cP s0 [.ref s0.heap.size, .int (nI k), .int r, .int z, .int d, .int q] H) (cQT s0 "java/lang/IllegalArgumentException" (fun H1 => RR s0 D DA z0 C M o H1)) 1 6 (cF s0) := by
  refine MetT.ofW (cc := cX1_item) (maxL := 7) (ret := none) (by decide) rfl ?_
  intro p e s m args below meth c s₁ Bd hml hv
  obtain ⟨rfl, rfl, hW0⟩ := hv
  have hx := Bd.exec
  have hb := Bd.bytes
  have hr := Bd.returns
  have hts := atoms_spec (ws := (ws_ yX1_item cX1_item 7 none)) Bd.pre
  have hno := BodyLoose.noHandlers Bd (hts _ List.mem_cons_self)
  have hts : ∀ w ∈ lw_all, w.before _ s = true := fun w h => hts w (List.mem_cons_of_mem _ h)
  have hown : s.vm.findClass RX1 = some m.cls := findClass_of_methodNamed Bd.named
  have hlocks := Bd.notSynchronized
  have hK := va_K.moved hW0.alike hE.K
  have hL : gx_L s0.heap.size ([] : List Loc) := gx_L0
  obtain ⟨Y, hR⟩ := hR
  have hl := lv_entry ([.ref s0.heap.size, .int (nI k), .int r, .int z, .int d, .int q]) (n := 7) (Nat.le_of_ble_eq_true rfl)
  rw [lg_entry_eq]
  generalize (lg_sl ([.ref s0.heap.size, .int (nI k), .int r, .int z, .int d, .int q]) ++ List.replicate (7 - (lg_sl ([.ref s0.heap.size, .int (nI k), .int r, .int z, .int d, .int q])).length) Slot.unset).toArray = ls at hl ⊢
  have hl : lv_has ls 7 [(0, .ref s0.heap.size), (1, .int (nI k)), (2, .int r), (3, .int z), (4, .int d), (5, .int q)] := hl
  refine lv_aload_n hx hb dX1_item_0 rfl (lv_at hl 0 rfl) ?_
  refine lv_iload_n hx hb dX1_item_1 rfl (lv_at hl 1 rfl) ?_
  refine cc_v (va_runV (b := s0.heap.size) (As := [.int (nI k)]) (rest := []) ⟨hx, hb, hml, hown, hts⟩ (ct_X1_of hE hR hk) (cwV 1 hts (lw_V q536 q538 qs11 q47 q539) rfl rfl rfl (by decide +kernel) ⟨Nat.le_of_ble_eq_true rfl, Nat.le_of_ble_eq_true rfl⟩) (cc_pV hW0 (cc_re hK hR.np (show gcl[0]? = _ from rfl))) rfl rfl hl.1 rfl (lv_room (Nat.le_of_ble_eq_true rfl)) dX1_item_2 ⟨Nat.le_of_ble_eq_true rfl, Nat.le_of_ble_eq_true rfl⟩) hL (fun H locs hP1 hL => ?_)
  subst hP1
  refine lv_astore (lv' := [(6, .ref (aI s0.heap.size k)), (0, .ref s0.heap.size), (1, .int (nI k)), (2, .int r), (3, .int z), (4, .int d), (5, .int q)]) hx hb dX1_item_5 hl (by decide) rfl (fun ls hl => ?_)
  refine lv_iload_n hx hb dX1_item_7 rfl (lv_at hl 3 rfl) ?_
  refine lv_iconst (v := 0) hx hb dX1_item_8 (by decide) ?_
  refine lv_iconst (v := 3) hx hb dX1_item_9 (by decide) ?_
  refine cc_v (va_runS (As := [.int r, .int 0, .int 3]) (rest := []) ⟨hx, hb, hml, hown, hts⟩ (ct_X1_isIn hE r 0 3) (va_cwS 3 hts (lw_S q540 q541 q47 q542) rfl rfl rfl (by decide +kernel) ⟨Nat.le_of_ble_eq_true rfl, Nat.le_of_ble_eq_true rfl⟩) (cc_pS hW0) rfl rfl hl.1 rfl (lv_room (Nat.le_of_ble_eq_true rfl)) dX1_item_10 ⟨Nat.le_of_ble_eq_true rfl, Nat.le_of_ble_eq_true rfl⟩) hL (fun H locs hP1 hL => ?_)
  subst hP1
  refine lv_if_eq (tgt := 53) hx hb dX1_item_13 (by decide) (fun c13 => ?_) (fun c13 => ?_)
  · refine lv_iconst (v := 0) hx hb dX1_item_53 (by decide) ?_
    exact gt_leave (va_runTS (As := [.int 0]) (rest := []) ⟨hx, hb, hml, hown, hts⟩ (ct_X1_argue_T hE ⟨_, hR⟩ (x := 0) (rfl)) (va_cwS 1 hts (lw_S q609 q610 q47 q611) rfl rfl rfl (by decide +kernel) ⟨Nat.le_of_ble_eq_true rfl, Nat.le_of_ble_eq_true rfl⟩) (cc_pS hW0) rfl rfl hl.1 rfl (lv_room (Nat.le_of_ble_eq_true rfl)) dX1_item_54 ⟨Nat.le_of_ble_eq_true rfl, Nat.le_of_ble_eq_true rfl⟩) hno (fun st t u x hq h1 h2 h3 => ⟨by rw [h1]; exact hq.1, by rw [h1]; exact hq.2⟩) hL (fun q h => h) Bd.notSynchronized
  · refine lv_iload_n hx hb dX1_item_16 rfl (lv_at hl 4 rfl) ?_
    refine lv_iconst (v := 1) hx hb dX1_item_17 (by decide) ?_
    refine lv_sipush (v := 1000) hx hb dX1_item_18 (by decide) ?_
    refine cc_v (va_runS (As := [.int z, .int 1, .int 1000]) (rest := []) ⟨hx, hb, hml, hown, hts⟩ (ct_X1_isIn hE z 1 1000) (va_cwS 3 hts (lw_S q540 q541 q47 q542) rfl rfl rfl (by decide +kernel) ⟨Nat.le_of_ble_eq_true rfl, Nat.le_of_ble_eq_true rfl⟩) (cc_pS hW0) rfl rfl hl.1 rfl (lv_room (Nat.le_of_ble_eq_true rfl)) dX1_item_21 ⟨Nat.le_of_ble_eq_true rfl, Nat.le_of_ble_eq_true rfl⟩) hL (fun H locs hP1 hL => ?_)
    subst hP1
    refine lv_if_eq (tgt := 53) hx hb dX1_item_24 (by decide) (fun c24 => ?_) (fun c24 => ?_)
    · refine lv_iconst (v := 0) hx hb dX1_item_53 (by decide) ?_
      exact gt_leave (va_runTS (As := [.int 0]) (rest := []) ⟨hx, hb, hml, hown, hts⟩ (ct_X1_argue_T hE ⟨_, hR⟩ (x := 0) (rfl)) (va_cwS 1 hts (lw_S q609 q610 q47 q611) rfl rfl rfl (by decide +kernel) ⟨Nat.le_of_ble_eq_true rfl, Nat.le_of_ble_eq_true rfl⟩) (cc_pS hW0) rfl rfl hl.1 rfl (lv_room (Nat.le_of_ble_eq_true rfl)) dX1_item_54 ⟨Nat.le_of_ble_eq_true rfl, Nat.le_of_ble_eq_true rfl⟩) hno (fun st t u x hq h1 h2 h3 => ⟨by rw [h1]; exact hq.1, by rw [h1]; exact hq.2⟩) hL (fun q h => h) Bd.notSynchronized
    · refine lv_iload hx hb dX1_item_27 (lv_at hl 5 rfl) ?_
      refine lv_iconst (v := 0) hx hb dX1_item_29 (by decide) ?_
      refine lv_iconst (v := 4) hx hb dX1_item_30 (by decide) ?_
      refine cc_v (va_runS (As := [.int d, .int 0, .int 4]) (rest := []) ⟨hx, hb, hml, hown, hts⟩ (ct_X1_isIn hE d 0 4) (va_cwS 3 hts (lw_S q540 q541 q47 q542) rfl rfl rfl (by decide +kernel) ⟨Nat.le_of_ble_eq_true rfl, Nat.le_of_ble_eq_true rfl⟩) (cc_pS hW0) rfl rfl hl.1 rfl (lv_room (Nat.le_of_ble_eq_true rfl)) dX1_item_31 ⟨Nat.le_of_ble_eq_true rfl, Nat.le_of_ble_eq_true rfl⟩) hL (fun H locs hP1 hL => ?_)
      subst hP1
      refine lv_if_eq (tgt := 53) hx hb dX1_item_34 (by decide) (fun c34 => ?_) (fun c34 => ?_)
      · refine lv_iconst (v := 0) hx hb dX1_item_53 (by decide) ?_
        exact gt_leave (va_runTS (As := [.int 0]) (rest := []) ⟨hx, hb, hml, hown, hts⟩ (ct_X1_argue_T hE ⟨_, hR⟩ (x := 0) (rfl)) (va_cwS 1 hts (lw_S q609 q610 q47 q611) rfl rfl rfl (by decide +kernel) ⟨Nat.le_of_ble_eq_true rfl, Nat.le_of_ble_eq_true rfl⟩) (cc_pS hW0) rfl rfl hl.1 rfl (lv_room (Nat.le_of_ble_eq_true rfl)) dX1_item_54 ⟨Nat.le_of_ble_eq_true rfl, Nat.le_of_ble_eq_true rfl⟩) hno (fun st t u x hq h1 h2 h3 => ⟨by rw [h1]; exact hq.1, by rw [h1]; exact hq.2⟩) hL (fun q h => h) Bd.notSynchronized
      · refine lv_iload hx hb dX1_item_37 (lv_at hl 6 rfl) ?_
        refine lv_iconst (v := 0) hx hb dX1_item_39 (by decide) ?_
        refine lv_sipush (v := 1000) hx hb dX1_item_40 (by decide) ?_
        refine cc_v (va_runS (As := [.int q, .int 0, .int 1000]) (rest := []) ⟨hx, hb, hml, hown, hts⟩ (ct_X1_isIn hE q 0 1000) (va_cwS 3 hts (lw_S q540 q541 q47 q542) rfl rfl rfl (by decide +kernel) ⟨Nat.le_of_ble_eq_true rfl, Nat.le_of_ble_eq_true rfl⟩) (cc_pS hW0) rfl rfl hl.1 rfl (lv_room (Nat.le_of_ble_eq_true rfl)) dX1_item_43 ⟨Nat.le_of_ble_eq_true rfl, Nat.le_of_ble_eq_true rfl⟩) hL (fun H locs hP1 hL => ?_)
        subst hP1
        refine lv_if_eq (tgt := 53) hx hb dX1_item_46 (by decide) (fun c46 => ?_) (fun c46 => ?_)
        · refine lv_iconst (v := 0) hx hb dX1_item_53 (by decide) ?_
          exact gt_leave (va_runTS (As := [.int 0]) (rest := []) ⟨hx, hb, hml, hown, hts⟩ (ct_X1_argue_T hE ⟨_, hR⟩ (x := 0) (rfl)) (va_cwS 1 hts (lw_S q609 q610 q47 q611) rfl rfl rfl (by decide +kernel) ⟨Nat.le_of_ble_eq_true rfl, Nat.le_of_ble_eq_true rfl⟩) (cc_pS hW0) rfl rfl hl.1 rfl (lv_room (Nat.le_of_ble_eq_true rfl)) dX1_item_54 ⟨Nat.le_of_ble_eq_true rfl, Nat.le_of_ble_eq_true rfl⟩) hno (fun st t u x hq h1 h2 h3 => ⟨by rw [h1]; exact hq.1, by rw [h1]; exact hq.2⟩) hL (fun q h => h) Bd.notSynchronized
        · exact absurd h (by rw [bZ_1.mp c13, bZ_1.mp c24, bZ_1.mp c34, bZ_1.mp c46]; decide)
set_option maxHeartbeats 4000000 in
set_option maxRecDepth 100000 in
/-- costs -/
theorem ct_X1_costs {l : Launch} {s0 : State} {D : va_G} {DA : Nat → ClassId} {z0 : Nat} {C : CS} {M : MS} {o : Int64} {H : Heap} (hE : G0 l s0 D DA z0) (hR : RR s0 D DA z0 C M o H) {k : Nat} (hk : k < 12) (r z d : Int32) (h1 : inR r 0 200 = true) (h2 : inR z 0 100000 = true) (h3 : inR d 0 100 = true) : Met l yX1_costs (ws_ yX1_costs cX1_costs 6 none) ({ frames := 2, cells := 0, slots := 0, locals := 43 }) (cP s0 [.ref s0.heap.size, .int (nI k), .int r, .int z, .int d] H) (cQ0 (fun H1 => RR s0 D DA z0 (c_costs C k r z d) M o H1)) 0 0 (cF s0) := by
  refine Met.ofW (cc := cX1_costs) (maxL := 6) (ret := none) (by decide) rfl ?_
  intro p e s m args below meth c s₁ Bd hml hv
  obtain ⟨rfl, rfl, hW0⟩ := hv
  have hx := Bd.exec
  have hb := Bd.bytes
  have hr := Bd.returns
  have hts := atoms_spec (ws := (ws_ yX1_costs cX1_costs 6 none)) Bd.pre
  have hts : ∀ w ∈ lw_all, w.before _ s = true := fun w h => hts w (List.mem_cons_of_mem _ h)
  have hown : s.vm.findClass RX1 = some m.cls := findClass_of_methodNamed Bd.named
  have hlocks := Bd.notSynchronized
  have hK := va_K.moved hW0.alike hE.K
  have hL : gx_L s0.heap.size ([] : List Loc) := gx_L0
  obtain ⟨Y, hR⟩ := hR
  have hl := lv_entry ([.ref s0.heap.size, .int (nI k), .int r, .int z, .int d]) (n := 6) (Nat.le_of_ble_eq_true rfl)
  rw [lg_entry_eq]
  generalize (lg_sl ([.ref s0.heap.size, .int (nI k), .int r, .int z, .int d]) ++ List.replicate (6 - (lg_sl ([.ref s0.heap.size, .int (nI k), .int r, .int z, .int d])).length) Slot.unset).toArray = ls at hl ⊢
  have hl : lv_has ls 6 [(0, .ref s0.heap.size), (1, .int (nI k)), (2, .int r), (3, .int z), (4, .int d)] := hl
  refine lv_aload_n hx hb dX1_costs_0 rfl (lv_at hl 0 rfl) ?_
  refine lv_iload_n hx hb dX1_costs_1 rfl (lv_at hl 1 rfl) ?_
  refine cc_v (va_runV (b := s0.heap.size) (As := [.int (nI k)]) (rest := []) ⟨hx, hb, hml, hown, hts⟩ (ct_X1_of hE hR hk) (cwV 1 hts (lw_V q536 q538 qs11 q47 q539) rfl rfl rfl (by decide +kernel) ⟨Nat.le_of_ble_eq_true rfl, Nat.le_of_ble_eq_true rfl⟩) (cc_pV hW0 (cc_re hK hR.np (show gcl[0]? = _ from rfl))) rfl rfl hl.1 rfl (lv_room (Nat.le_of_ble_eq_true rfl)) dX1_costs_2 ⟨Nat.le_of_ble_eq_true rfl, Nat.le_of_ble_eq_true rfl⟩) hL (fun H locs hP1 hL => ?_)
  subst hP1
  refine lv_astore (lv' := [(5, .ref (aI s0.heap.size k)), (0, .ref s0.heap.size), (1, .int (nI k)), (2, .int r), (3, .int z), (4, .int d)]) hx hb dX1_costs_5 hl (by decide) rfl (fun ls hl => ?_)
  refine lv_iload_n hx hb dX1_costs_7 rfl (lv_at hl 3 rfl) ?_
  refine lv_iconst (v := 0) hx hb dX1_costs_8 (by decide) ?_
  refine lv_sipush (v := 200) hx hb dX1_costs_9 (by decide) ?_
  refine cc_v (va_runS (As := [.int r, .int 0, .int 200]) (rest := []) ⟨hx, hb, hml, hown, hts⟩ (ct_X1_isIn hE r 0 200) (va_cwS 3 hts (lw_S q540 q541 q47 q542) rfl rfl rfl (by decide +kernel) ⟨Nat.le_of_ble_eq_true rfl, Nat.le_of_ble_eq_true rfl⟩) (cc_pS hW0) rfl rfl hl.1 rfl (lv_room (Nat.le_of_ble_eq_true rfl)) dX1_costs_12 ⟨Nat.le_of_ble_eq_true rfl, Nat.le_of_ble_eq_true rfl⟩) hL (fun H locs hP1 hL => ?_)
  subst hP1
  refine lv_if_eq (tgt := 43) hx hb dX1_costs_15 (by decide) (fun c15 => ?_) (fun c15 => ?_)
  · exact absurd c15 (by rw [h1]; decide)
  · refine lv_iload_n hx hb dX1_costs_18 rfl (lv_at hl 4 rfl) ?_
    refine lv_iconst (v := 0) hx hb dX1_costs_19 (by decide) ?_
    refine lv_ldc (v := 100000) hx hb hown (hts _ q638) dX1_costs_20 ?_
    refine cc_v (va_runS (As := [.int z, .int 0, .int 100000]) (rest := []) ⟨hx, hb, hml, hown, hts⟩ (ct_X1_isIn hE z 0 100000) (va_cwS 3 hts (lw_S q540 q541 q47 q542) rfl rfl rfl (by decide +kernel) ⟨Nat.le_of_ble_eq_true rfl, Nat.le_of_ble_eq_true rfl⟩) (cc_pS hW0) rfl rfl hl.1 rfl (lv_room (Nat.le_of_ble_eq_true rfl)) dX1_costs_22 ⟨Nat.le_of_ble_eq_true rfl, Nat.le_of_ble_eq_true rfl⟩) hL (fun H locs hP1 hL => ?_)
    subst hP1
    refine lv_if_eq (tgt := 43) hx hb dX1_costs_25 (by decide) (fun c25 => ?_) (fun c25 => ?_)
    · exact absurd c25 (by rw [h2]; decide)
    · refine lv_iload hx hb dX1_costs_28 (lv_at hl 5 rfl) ?_
      refine lv_iconst (v := 0) hx hb dX1_costs_30 (by decide) ?_
      refine lv_bipush (v := 100) hx hb dX1_costs_31 (by decide) ?_
      refine cc_v (va_runS (As := [.int d, .int 0, .int 100]) (rest := []) ⟨hx, hb, hml, hown, hts⟩ (ct_X1_isIn hE d 0 100) (va_cwS 3 hts (lw_S q540 q541 q47 q542) rfl rfl rfl (by decide +kernel) ⟨Nat.le_of_ble_eq_true rfl, Nat.le_of_ble_eq_true rfl⟩) (cc_pS hW0) rfl rfl hl.1 rfl (lv_room (Nat.le_of_ble_eq_true rfl)) dX1_costs_33 ⟨Nat.le_of_ble_eq_true rfl, Nat.le_of_ble_eq_true rfl⟩) hL (fun H locs hP1 hL => ?_)
      subst hP1
      refine lv_if_eq (tgt := 43) hx hb dX1_costs_36 (by decide) (fun c36 => ?_) (fun c36 => ?_)
      · exact absurd c36 (by rw [h3]; decide)
      · refine lv_iconst (v := 1) hx hb dX1_costs_39 (by decide) ?_
        refine lv_goto (tgt := 44) hx hb dX1_costs_40 (by decide) ?_
        refine cc_0 (va_runS (As := [.int 1]) (rest := []) ⟨hx, hb, hml, hown, hts⟩ (ct_X1_argue hE (x := 1) (by decide)) (va_cwS 1 hts (lw_S q609 q610 q47 q611) rfl rfl rfl (by decide +kernel) ⟨Nat.le_of_ble_eq_true rfl, Nat.le_of_ble_eq_true rfl⟩) (cc_pS hW0) rfl rfl hl.1 rfl (lv_room (Nat.le_of_ble_eq_true rfl)) dX1_costs_44 ⟨Nat.le_of_ble_eq_true rfl, Nat.le_of_ble_eq_true rfl⟩) hL (fun H locs hP1 hL => ?_)
        subst hP1
        refine lv_aload hx hb dX1_costs_47 (lv_at hl 0 rfl) ?_
        refine lv_iload_n hx hb dX1_costs_49 rfl (lv_at hl 3 rfl) ?_
        refine gx_putN (D := D) (cl := gcl) (ci := 8) (v := .int r) (ty := .int) (C := RX9) (T := TX9) (N := 19) hx hb hts in_X9 tyX9 tyX9_ok nmX9 hown hK (hR.itm k hk) rfl 5 (by decide) (hE.nF hW0 q198) (fun _ h9 => h9) rfl (by decide +kernel) (rfl) rfl (Nat.le_of_ble_eq_true rfl) hL (by (try simp only [aI, aA, aT, aB, aL, mad]); omega) dX1_costs_50 (fun H locs hU hA hL => ?_)
        have hR := GRb.pI (j := 5) (k := k) (by decide) (by decide) hk hR hU hA
        refine lv_aload hx hb dX1_costs_53 (lv_at hl 0 rfl) ?_
        refine lv_iload_n hx hb dX1_costs_55 rfl (lv_at hl 4 rfl) ?_
        refine gx_putN (D := D) (cl := gcl) (ci := 8) (v := .int z) (ty := .int) (C := RX9) (T := TX9) (N := 19) hx hb hts in_X9 tyX9 tyX9_ok nmX9 hown hK (hR.itm k hk) rfl 6 (by decide) (hE.nF hW0 q200) (fun _ h9 => h9) rfl (by decide +kernel) (rfl) rfl (Nat.le_of_ble_eq_true rfl) hL (by (try simp only [aI, aA, aT, aB, aL, mad]); omega) dX1_costs_56 (fun H locs hU hA hL => ?_)
        have hR := GRb.pI (j := 6) (k := k) (by decide) (by decide) hk hR hU hA
        refine lv_aload hx hb dX1_costs_59 (lv_at hl 0 rfl) ?_
        refine lv_iload hx hb dX1_costs_61 (lv_at hl 5 rfl) ?_
        refine gx_putN (D := D) (cl := gcl) (ci := 8) (v := .int d) (ty := .int) (C := RX9) (T := TX9) (N := 19) hx hb hts in_X9 tyX9 tyX9_ok nmX9 hown hK (hR.itm k hk) rfl 7 (by decide) (hE.nF hW0 q202) (fun _ h9 => h9) rfl (by decide +kernel) (rfl) rfl (Nat.le_of_ble_eq_true rfl) hL (by (try simp only [aI, aA, aT, aB, aL, mad]); omega) dX1_costs_63 (fun H locs hU hA hL => ?_)
        have hR := GRb.pI (j := 7) (k := k) (by decide) (by decide) hk hR hU hA
        refine lv_aload_n hx hb dX1_costs_66 rfl (lv_at hl 1 rfl) ?_
        refine lv_aload hx hb dX1_costs_67 (lv_at hl 0 rfl) ?_
        refine cc_0 (va_runV (b := s0.heap.size) (As := [.ref (aI s0.heap.size k)]) (rest := []) ⟨hx, hb, hml, hown, hts⟩ (ct_X1_tell hE ⟨_, hR⟩ hk) (cwV 1 hts (lw_V q627 q629 qs13 q47 q630) rfl rfl rfl (by decide +kernel) ⟨Nat.le_of_ble_eq_true rfl, Nat.le_of_ble_eq_true rfl⟩) (cc_pV hW0 (cc_re hK hR.np (show gcl[0]? = _ from rfl))) rfl rfl hl.1 rfl (lv_room (Nat.le_of_ble_eq_true rfl)) dX1_costs_69 ⟨Nat.le_of_ble_eq_true rfl, Nat.le_of_ble_eq_true rfl⟩) hL (fun H locs hP1 hL => ?_)
        obtain ⟨Y, hR⟩ := hP1
        exact W.vret hx hb hr (fun t ht hW => ⟨rfl, by rw [ht]; exact ⟨_, hR⟩⟩) hL dX1_costs_72
set_option maxHeartbeats 4000000 in
set_option maxRecDepth 100000 in
/-- costs, out of bounds -/
theorem ct_X1_costs_I {l : Launch} {s0 : State} {D : va_G} {DA : Nat → ClassId} {z0 : Nat} {C : CS} {M : MS} {o : Int64} {H : Heap} (hE : G0 l s0 D DA z0) (hR : RR s0 D DA z0 C M o H) (i r z d : Int32) (h : in12 i = false) : MetT l yX1_costs (ws_ yX1_costs cX1_costs 6 none) ({ frames := 8, cells := 1, slots := 6, locals := 123 }) (cP s0 [.ref s0.heap.size, .int i, .int r, .int z, .int d] H) (cQT s0 "java/lang/IndexOutOfBoundsException" (fun H1 => RR s0 D DA z0 C M o H1)) 1 6 (cF s0) := by
  refine MetT.ofW (cc := cX1_costs) (maxL := 6) (ret := none) (by decide) rfl ?_
  intro p e s m args below meth c s₁ Bd hml hv
  obtain ⟨rfl, rfl, hW0⟩ := hv
  have hx := Bd.exec
  have hb := Bd.bytes
  have hr := Bd.returns
  have hts := atoms_spec (ws := (ws_ yX1_costs cX1_costs 6 none)) Bd.pre
  have hno := BodyLoose.noHandlers Bd (hts _ List.mem_cons_self)
  have hts : ∀ w ∈ lw_all, w.before _ s = true := fun w h => hts w (List.mem_cons_of_mem _ h)
  have hown : s.vm.findClass RX1 = some m.cls := findClass_of_methodNamed Bd.named
  have hlocks := Bd.notSynchronized
  have hK := va_K.moved hW0.alike hE.K
  have hL : gx_L s0.heap.size ([] : List Loc) := gx_L0
  obtain ⟨Y, hR⟩ := hR
  have hl := lv_entry ([.ref s0.heap.size, .int i, .int r, .int z, .int d]) (n := 6) (Nat.le_of_ble_eq_true rfl)
  rw [lg_entry_eq]
  generalize (lg_sl ([.ref s0.heap.size, .int i, .int r, .int z, .int d]) ++ List.replicate (6 - (lg_sl ([.ref s0.heap.size, .int i, .int r, .int z, .int d])).length) Slot.unset).toArray = ls at hl ⊢
  have hl : lv_has ls 6 [(0, .ref s0.heap.size), (1, .int i), (2, .int r), (3, .int z), (4, .int d)] := hl
  refine lv_aload_n hx hb dX1_costs_0 rfl (lv_at hl 0 rfl) ?_
  refine lv_iload_n hx hb dX1_costs_1 rfl (lv_at hl 1 rfl) ?_
  exact gt_leave (va_runTV (b := s0.heap.size) (As := [.int i]) (rest := []) ⟨hx, hb, hml, hown, hts⟩ (ct_X1_of_T hE ⟨_, hR⟩ (x := i) (h)) (cwV 1 hts (lw_V q536 q538 qs11 q47 q539) rfl rfl rfl (by decide +kernel) ⟨Nat.le_of_ble_eq_true rfl, Nat.le_of_ble_eq_true rfl⟩) (cc_pV hW0 (cc_re hK hR.np (show gcl[0]? = _ from rfl))) rfl rfl hl.1 rfl (lv_room (Nat.le_of_ble_eq_true rfl)) dX1_costs_2 ⟨Nat.le_of_ble_eq_true rfl, Nat.le_of_ble_eq_true rfl⟩) hno (fun st t u x hq h1 h2 h3 => ⟨by rw [h1]; exact hq.1, by rw [h1]; exact hq.2⟩) hL (fun q h => h) Bd.notSynchronized
set_option maxHeartbeats 4000000 in
set_option maxRecDepth 100000 in
/-- costs, bad argument -/
theorem ct_X1_costs_A {l : Launch} {s0 : State} {D : va_G} {DA : Nat → ClassId} {z0 : Nat} {C : CS} {M : MS} {o : Int64} {H : Heap} (hE : G0 l s0 D DA z0) (hR : RR s0 D DA z0 C M o H) {k : Nat} (hk : k < 12) (r z d : Int32) (h : (inR r 0 200 && inR z 0 100000 && inR d 0 100) = false) : MetT l yX1_costs (ws_ yX1_costs cX1_costs 6 none) ({ frames := 7, cells := 1, slots := 6, locals := 102 }) (cP s0 [.ref s0.heap.size, .int (nI k), .int r, .int z, .int d] H) (cQT s0 "java/lang/IllegalArgumentException" (fun H1 => RR s0 D DA z0 C M o H1)) 1 6 (cF s0) := by
  refine MetT.ofW (cc := cX1_costs) (maxL := 6) (ret := none) (by decide) rfl ?_
  intro p e s m args below meth c s₁ Bd hml hv
  obtain ⟨rfl, rfl, hW0⟩ := hv
  have hx := Bd.exec
  have hb := Bd.bytes
  have hr := Bd.returns
  have hts := atoms_spec (ws := (ws_ yX1_costs cX1_costs 6 none)) Bd.pre
  have hno := BodyLoose.noHandlers Bd (hts _ List.mem_cons_self)
  have hts : ∀ w ∈ lw_all, w.before _ s = true := fun w h => hts w (List.mem_cons_of_mem _ h)
  have hown : s.vm.findClass RX1 = some m.cls := findClass_of_methodNamed Bd.named
  have hlocks := Bd.notSynchronized
  have hK := va_K.moved hW0.alike hE.K
  have hL : gx_L s0.heap.size ([] : List Loc) := gx_L0
  obtain ⟨Y, hR⟩ := hR
  have hl := lv_entry ([.ref s0.heap.size, .int (nI k), .int r, .int z, .int d]) (n := 6) (Nat.le_of_ble_eq_true rfl)
  rw [lg_entry_eq]
  generalize (lg_sl ([.ref s0.heap.size, .int (nI k), .int r, .int z, .int d]) ++ List.replicate (6 - (lg_sl ([.ref s0.heap.size, .int (nI k), .int r, .int z, .int d])).length) Slot.unset).toArray = ls at hl ⊢
  have hl : lv_has ls 6 [(0, .ref s0.heap.size), (1, .int (nI k)), (2, .int r), (3, .int z), (4, .int d)] := hl
  refine lv_aload_n hx hb dX1_costs_0 rfl (lv_at hl 0 rfl) ?_
  refine lv_iload_n hx hb dX1_costs_1 rfl (lv_at hl 1 rfl) ?_
  refine cc_v (va_runV (b := s0.heap.size) (As := [.int (nI k)]) (rest := []) ⟨hx, hb, hml, hown, hts⟩ (ct_X1_of hE hR hk) (cwV 1 hts (lw_V q536 q538 qs11 q47 q539) rfl rfl rfl (by decide +kernel) ⟨Nat.le_of_ble_eq_true rfl, Nat.le_of_ble_eq_true rfl⟩) (cc_pV hW0 (cc_re hK hR.np (show gcl[0]? = _ from rfl))) rfl rfl hl.1 rfl (lv_room (Nat.le_of_ble_eq_true rfl)) dX1_costs_2 ⟨Nat.le_of_ble_eq_true rfl, Nat.le_of_ble_eq_true rfl⟩) hL (fun H locs hP1 hL => ?_)
  subst hP1
  refine lv_astore (lv' := [(5, .ref (aI s0.heap.size k)), (0, .ref s0.heap.size), (1, .int (nI k)), (2, .int r), (3, .int z), (4, .int d)]) hx hb dX1_costs_5 hl (by decide) rfl (fun ls hl => ?_)
  refine lv_iload_n hx hb dX1_costs_7 rfl (lv_at hl 3 rfl) ?_
  refine lv_iconst (v := 0) hx hb dX1_costs_8 (by decide) ?_
  refine lv_sipush (v := 200) hx hb dX1_costs_9 (by decide) ?_
  refine cc_v (va_runS (As := [.int r, .int 0, .int 200]) (rest := []) ⟨hx, hb, hml, hown, hts⟩ (ct_X1_isIn hE r 0 200) (va_cwS 3 hts (lw_S q540 q541 q47 q542) rfl rfl rfl (by decide +kernel) ⟨Nat.le_of_ble_eq_true rfl, Nat.le_of_ble_eq_true rfl⟩) (cc_pS hW0) rfl rfl hl.1 rfl (lv_room (Nat.le_of_ble_eq_true rfl)) dX1_costs_12 ⟨Nat.le_of_ble_eq_true rfl, Nat.le_of_ble_eq_true rfl⟩) hL (fun H locs hP1 hL => ?_)
  subst hP1
  refine lv_if_eq (tgt := 43) hx hb dX1_costs_15 (by decide) (fun c15 => ?_) (fun c15 => ?_)
  · refine lv_iconst (v := 0) hx hb dX1_costs_43 (by decide) ?_
    exact gt_leave (va_runTS (As := [.int 0]) (rest := []) ⟨hx, hb, hml, hown, hts⟩ (ct_X1_argue_T hE ⟨_, hR⟩ (x := 0) (rfl)) (va_cwS 1 hts (lw_S q609 q610 q47 q611) rfl rfl rfl (by decide +kernel) ⟨Nat.le_of_ble_eq_true rfl, Nat.le_of_ble_eq_true rfl⟩) (cc_pS hW0) rfl rfl hl.1 rfl (lv_room (Nat.le_of_ble_eq_true rfl)) dX1_costs_44 ⟨Nat.le_of_ble_eq_true rfl, Nat.le_of_ble_eq_true rfl⟩) hno (fun st t u x hq h1 h2 h3 => ⟨by rw [h1]; exact hq.1, by rw [h1]; exact hq.2⟩) hL (fun q h => h) Bd.notSynchronized
  · refine lv_iload_n hx hb dX1_costs_18 rfl (lv_at hl 4 rfl) ?_
    refine lv_iconst (v := 0) hx hb dX1_costs_19 (by decide) ?_
    refine lv_ldc (v := 100000) hx hb hown (hts _ q638) dX1_costs_20 ?_
    refine cc_v (va_runS (As := [.int z, .int 0, .int 100000]) (rest := []) ⟨hx, hb, hml, hown, hts⟩ (ct_X1_isIn hE z 0 100000) (va_cwS 3 hts (lw_S q540 q541 q47 q542) rfl rfl rfl (by decide +kernel) ⟨Nat.le_of_ble_eq_true rfl, Nat.le_of_ble_eq_true rfl⟩) (cc_pS hW0) rfl rfl hl.1 rfl (lv_room (Nat.le_of_ble_eq_true rfl)) dX1_costs_22 ⟨Nat.le_of_ble_eq_true rfl, Nat.le_of_ble_eq_true rfl⟩) hL (fun H locs hP1 hL => ?_)
    subst hP1
    refine lv_if_eq (tgt := 43) hx hb dX1_costs_25 (by decide) (fun c25 => ?_) (fun c25 => ?_)
    · refine lv_iconst (v := 0) hx hb dX1_costs_43 (by decide) ?_
      exact gt_leave (va_runTS (As := [.int 0]) (rest := []) ⟨hx, hb, hml, hown, hts⟩ (ct_X1_argue_T hE ⟨_, hR⟩ (x := 0) (rfl)) (va_cwS 1 hts (lw_S q609 q610 q47 q611) rfl rfl rfl (by decide +kernel) ⟨Nat.le_of_ble_eq_true rfl, Nat.le_of_ble_eq_true rfl⟩) (cc_pS hW0) rfl rfl hl.1 rfl (lv_room (Nat.le_of_ble_eq_true rfl)) dX1_costs_44 ⟨Nat.le_of_ble_eq_true rfl, Nat.le_of_ble_eq_true rfl⟩) hno (fun st t u x hq h1 h2 h3 => ⟨by rw [h1]; exact hq.1, by rw [h1]; exact hq.2⟩) hL (fun q h => h) Bd.notSynchronized
    · refine lv_iload hx hb dX1_costs_28 (lv_at hl 5 rfl) ?_
      refine lv_iconst (v := 0) hx hb dX1_costs_30 (by decide) ?_
      refine lv_bipush (v := 100) hx hb dX1_costs_31 (by decide) ?_
      refine cc_v (va_runS (As := [.int d, .int 0, .int 100]) (rest := []) ⟨hx, hb, hml, hown, hts⟩ (ct_X1_isIn hE d 0 100) (va_cwS 3 hts (lw_S q540 q541 q47 q542) rfl rfl rfl (by decide +kernel) ⟨Nat.le_of_ble_eq_true rfl, Nat.le_of_ble_eq_true rfl⟩) (cc_pS hW0) rfl rfl hl.1 rfl (lv_room (Nat.le_of_ble_eq_true rfl)) dX1_costs_33 ⟨Nat.le_of_ble_eq_true rfl, Nat.le_of_ble_eq_true rfl⟩) hL (fun H locs hP1 hL => ?_)
      subst hP1
      refine lv_if_eq (tgt := 43) hx hb dX1_costs_36 (by decide) (fun c36 => ?_) (fun c36 => ?_)
      · refine lv_iconst (v := 0) hx hb dX1_costs_43 (by decide) ?_
        exact gt_leave (va_runTS (As := [.int 0]) (rest := []) ⟨hx, hb, hml, hown, hts⟩ (ct_X1_argue_T hE ⟨_, hR⟩ (x := 0) (rfl)) (va_cwS 1 hts (lw_S q609 q610 q47 q611) rfl rfl rfl (by decide +kernel) ⟨Nat.le_of_ble_eq_true rfl, Nat.le_of_ble_eq_true rfl⟩) (cc_pS hW0) rfl rfl hl.1 rfl (lv_room (Nat.le_of_ble_eq_true rfl)) dX1_costs_44 ⟨Nat.le_of_ble_eq_true rfl, Nat.le_of_ble_eq_true rfl⟩) hno (fun st t u x hq h1 h2 h3 => ⟨by rw [h1]; exact hq.1, by rw [h1]; exact hq.2⟩) hL (fun q h => h) Bd.notSynchronized
      · exact absurd h (by rw [bZ_1.mp c15, bZ_1.mp c25, bZ_1.mp c36]; decide)
set_option maxHeartbeats 4000000 in
set_option maxRecDepth 100000 in
/-- made -/
theorem ct_X1_made {l : Launch} {s0 : State} {D : va_G} {DA : Nat → ClassId} {z0 : Nat} {C : CS} {M : MS} {o : Int64} {H : Heap} (hE : G0 l s0 D DA z0) (hR : RR s0 D DA z0 C M o H) {k : Nat} (hk : k < 12) (r z : Int32) (h1 : inR r 0 2 = true) (h2 : inR z 0 9 = true) : Met l yX1_made (ws_ yX1_made cX1_made 5 none) ({ frames := 2, cells := 0, slots := 0, locals := 43 }) (cP s0 [.ref s0.heap.size, .int (nI k), .int r, .int z] H) (cQ0 (fun H1 => RR s0 D DA z0 (c_made C k r z) M o H1)) 0 0 (cF s0) := by
  refine Met.ofW (cc := cX1_made) (maxL := 5) (ret := none) (by decide) rfl ?_
  intro p e s m args below meth c s₁ Bd hml hv
  obtain ⟨rfl, rfl, hW0⟩ := hv
  have hx := Bd.exec
  have hb := Bd.bytes
  have hr := Bd.returns
  have hts := atoms_spec (ws := (ws_ yX1_made cX1_made 5 none)) Bd.pre
  have hts : ∀ w ∈ lw_all, w.before _ s = true := fun w h => hts w (List.mem_cons_of_mem _ h)
  have hown : s.vm.findClass RX1 = some m.cls := findClass_of_methodNamed Bd.named
  have hlocks := Bd.notSynchronized
  have hK := va_K.moved hW0.alike hE.K
  have hL : gx_L s0.heap.size ([] : List Loc) := gx_L0
  obtain ⟨Y, hR⟩ := hR
  have hl := lv_entry ([.ref s0.heap.size, .int (nI k), .int r, .int z]) (n := 5) (Nat.le_of_ble_eq_true rfl)
  rw [lg_entry_eq]
  generalize (lg_sl ([.ref s0.heap.size, .int (nI k), .int r, .int z]) ++ List.replicate (5 - (lg_sl ([.ref s0.heap.size, .int (nI k), .int r, .int z])).length) Slot.unset).toArray = ls at hl ⊢
  have hl : lv_has ls 5 [(0, .ref s0.heap.size), (1, .int (nI k)), (2, .int r), (3, .int z)] := hl
  refine lv_aload_n hx hb dX1_made_0 rfl (lv_at hl 0 rfl) ?_
  refine lv_iload_n hx hb dX1_made_1 rfl (lv_at hl 1 rfl) ?_
  refine cc_v (va_runV (b := s0.heap.size) (As := [.int (nI k)]) (rest := []) ⟨hx, hb, hml, hown, hts⟩ (ct_X1_of hE hR hk) (cwV 1 hts (lw_V q536 q538 qs11 q47 q539) rfl rfl rfl (by decide +kernel) ⟨Nat.le_of_ble_eq_true rfl, Nat.le_of_ble_eq_true rfl⟩) (cc_pV hW0 (cc_re hK hR.np (show gcl[0]? = _ from rfl))) rfl rfl hl.1 rfl (lv_room (Nat.le_of_ble_eq_true rfl)) dX1_made_2 ⟨Nat.le_of_ble_eq_true rfl, Nat.le_of_ble_eq_true rfl⟩) hL (fun H locs hP1 hL => ?_)
  subst hP1
  refine lv_astore (lv' := [(4, .ref (aI s0.heap.size k)), (0, .ref s0.heap.size), (1, .int (nI k)), (2, .int r), (3, .int z)]) hx hb dX1_made_5 hl (by decide) rfl (fun ls hl => ?_)
  refine lv_iload_n hx hb dX1_made_7 rfl (lv_at hl 3 rfl) ?_
  refine lv_iconst (v := 0) hx hb dX1_made_8 (by decide) ?_
  refine lv_iconst (v := 2) hx hb dX1_made_9 (by decide) ?_
  refine cc_v (va_runS (As := [.int r, .int 0, .int 2]) (rest := []) ⟨hx, hb, hml, hown, hts⟩ (ct_X1_isIn hE r 0 2) (va_cwS 3 hts (lw_S q540 q541 q47 q542) rfl rfl rfl (by decide +kernel) ⟨Nat.le_of_ble_eq_true rfl, Nat.le_of_ble_eq_true rfl⟩) (cc_pS hW0) rfl rfl hl.1 rfl (lv_room (Nat.le_of_ble_eq_true rfl)) dX1_made_10 ⟨Nat.le_of_ble_eq_true rfl, Nat.le_of_ble_eq_true rfl⟩) hL (fun H locs hP1 hL => ?_)
  subst hP1
  refine cc_0 (va_runS (As := [.int (bZ (inR r 0 2))]) (rest := []) ⟨hx, hb, hml, hown, hts⟩ (ct_X1_there hE (x := bZ (inR r 0 2)) (by rw [h1]; decide)) (va_cwS 1 hts (lw_S q543 q544 q47 q545) rfl rfl rfl (by decide +kernel) ⟨Nat.le_of_ble_eq_true rfl, Nat.le_of_ble_eq_true rfl⟩) (cc_pS hW0) rfl rfl hl.1 rfl (lv_room (Nat.le_of_ble_eq_true rfl)) dX1_made_13 ⟨Nat.le_of_ble_eq_true rfl, Nat.le_of_ble_eq_true rfl⟩) hL (fun H locs hP1 hL => ?_)
  subst hP1
  refine lv_iload_n hx hb dX1_made_16 rfl (lv_at hl 4 rfl) ?_
  refine lv_iconst (v := 0) hx hb dX1_made_17 (by decide) ?_
  refine lv_bipush (v := 9) hx hb dX1_made_18 (by decide) ?_
  refine cc_v (va_runS (As := [.int z, .int 0, .int 9]) (rest := []) ⟨hx, hb, hml, hown, hts⟩ (ct_X1_isIn hE z 0 9) (va_cwS 3 hts (lw_S q540 q541 q47 q542) rfl rfl rfl (by decide +kernel) ⟨Nat.le_of_ble_eq_true rfl, Nat.le_of_ble_eq_true rfl⟩) (cc_pS hW0) rfl rfl hl.1 rfl (lv_room (Nat.le_of_ble_eq_true rfl)) dX1_made_20 ⟨Nat.le_of_ble_eq_true rfl, Nat.le_of_ble_eq_true rfl⟩) hL (fun H locs hP1 hL => ?_)
  subst hP1
  refine cc_0 (va_runS (As := [.int (bZ (inR z 0 9))]) (rest := []) ⟨hx, hb, hml, hown, hts⟩ (ct_X1_argue hE (x := bZ (inR z 0 9)) (by rw [h2]; decide)) (va_cwS 1 hts (lw_S q609 q610 q47 q611) rfl rfl rfl (by decide +kernel) ⟨Nat.le_of_ble_eq_true rfl, Nat.le_of_ble_eq_true rfl⟩) (cc_pS hW0) rfl rfl hl.1 rfl (lv_room (Nat.le_of_ble_eq_true rfl)) dX1_made_23 ⟨Nat.le_of_ble_eq_true rfl, Nat.le_of_ble_eq_true rfl⟩) hL (fun H locs hP1 hL => ?_)
  subst hP1
  refine lv_aload hx hb dX1_made_26 (lv_at hl 0 rfl) ?_
  refine lv_iload_n hx hb dX1_made_28 rfl (lv_at hl 3 rfl) ?_
  refine gx_putN (D := D) (cl := gcl) (ci := 8) (v := .int r) (ty := .int) (C := RX9) (T := TX9) (N := 19) hx hb hts in_X9 tyX9 tyX9_ok nmX9 hown hK (hR.itm k hk) rfl 9 (by decide) (hE.nF hW0 q204) (fun _ h9 => h9) rfl (by decide +kernel) (rfl) rfl (Nat.le_of_ble_eq_true rfl) hL (by (try simp only [aI, aA, aT, aB, aL, mad]); omega) dX1_made_29 (fun H locs hU hA hL => ?_)
  have hR := GRb.pI (j := 9) (k := k) (by decide) (by decide) hk hR hU hA
  refine lv_aload hx hb dX1_made_32 (lv_at hl 0 rfl) ?_
  refine lv_iload_n hx hb dX1_made_34 rfl (lv_at hl 4 rfl) ?_
  refine gx_putN (D := D) (cl := gcl) (ci := 8) (v := .int z) (ty := .int) (C := RX9) (T := TX9) (N := 19) hx hb hts in_X9 tyX9 tyX9_ok nmX9 hown hK (hR.itm k hk) rfl 10 (by decide) (hE.nF hW0 q205) (fun _ h9 => h9) rfl (by decide +kernel) (rfl) rfl (Nat.le_of_ble_eq_true rfl) hL (by (try simp only [aI, aA, aT, aB, aL, mad]); omega) dX1_made_35 (fun H locs hU hA hL => ?_)
  have hR := GRb.pI (j := 10) (k := k) (by decide) (by decide) hk hR hU hA
  exact W.vret hx hb hr (fun t ht hW => ⟨rfl, by rw [ht]; exact ⟨_, hR⟩⟩) hL dX1_made_38
set_option maxHeartbeats 4000000 in
set_option maxRecDepth 100000 in
/-- made, out of bounds -/
theorem ct_X1_made_I {l : Launch} {s0 : State} {D : va_G} {DA : Nat → ClassId} {z0 : Nat} {C : CS} {M : MS} {o : Int64} {H : Heap} (hE : G0 l s0 D DA z0) (hR : RR s0 D DA z0 C M o H) (i r z : Int32) (h : (in12 i && inR r 0 2) = false) : MetT l yX1_made (ws_ yX1_made cX1_made 5 none) ({ frames := 8, cells := 1, slots := 6, locals := 123 }) (cP s0 [.ref s0.heap.size, .int i, .int r, .int z] H) (cQT s0 "java/lang/IndexOutOfBoundsException" (fun H1 => RR s0 D DA z0 C M o H1)) 1 6 (cF s0) := by
  refine MetT.ofW (cc := cX1_made) (maxL := 5) (ret := none) (by decide) rfl ?_
  intro p e s m args below meth c s₁ Bd hml hv
  obtain ⟨rfl, rfl, hW0⟩ := hv
  have hx := Bd.exec
  have hb := Bd.bytes
  have hr := Bd.returns
  have hts := atoms_spec (ws := (ws_ yX1_made cX1_made 5 none)) Bd.pre
  have hno := BodyLoose.noHandlers Bd (hts _ List.mem_cons_self)
  have hts : ∀ w ∈ lw_all, w.before _ s = true := fun w h => hts w (List.mem_cons_of_mem _ h)
  have hown : s.vm.findClass RX1 = some m.cls := findClass_of_methodNamed Bd.named
  have hlocks := Bd.notSynchronized
  have hK := va_K.moved hW0.alike hE.K
  have hL : gx_L s0.heap.size ([] : List Loc) := gx_L0
  obtain ⟨Y, hR⟩ := hR
  have hl := lv_entry ([.ref s0.heap.size, .int i, .int r, .int z]) (n := 5) (Nat.le_of_ble_eq_true rfl)
  rw [lg_entry_eq]
  generalize (lg_sl ([.ref s0.heap.size, .int i, .int r, .int z]) ++ List.replicate (5 - (lg_sl ([.ref s0.heap.size, .int i, .int r, .int z])).length) Slot.unset).toArray = ls at hl ⊢
  have hl : lv_has ls 5 [(0, .ref s0.heap.size), (1, .int i), (2, .int r), (3, .int z)] := hl
  cases hcs : in12 i with
  | false =>
    refine lv_aload_n hx hb dX1_made_0 rfl (lv_at hl 0 rfl) ?_
    refine lv_iload_n hx hb dX1_made_1 rfl (lv_at hl 1 rfl) ?_
    exact gt_leave (va_runTV (b := s0.heap.size) (As := [.int i]) (rest := []) ⟨hx, hb, hml, hown, hts⟩ (ct_X1_of_T hE ⟨_, hR⟩ (x := i) (hcs)) (cwV 1 hts (lw_V q536 q538 qs11 q47 q539) rfl rfl rfl (by decide +kernel) ⟨Nat.le_of_ble_eq_true rfl, Nat.le_of_ble_eq_true rfl⟩) (cc_pV hW0 (cc_re hK hR.np (show gcl[0]? = _ from rfl))) rfl rfl hl.1 rfl (lv_room (Nat.le_of_ble_eq_true rfl)) dX1_made_2 ⟨Nat.le_of_ble_eq_true rfl, Nat.le_of_ble_eq_true rfl⟩) hno (fun st t u x hq h1 h2 h3 => ⟨by rw [h1]; exact hq.1, by rw [h1]; exact hq.2⟩) hL (fun q h => h) Bd.notSynchronized
  | true =>
    obtain ⟨k, hk, rfl⟩ := in12_t hcs
    rw [hcs, Bool.true_and] at h
    refine lv_aload_n hx hb dX1_made_0 rfl (lv_at hl 0 rfl) ?_
    refine lv_iload_n hx hb dX1_made_1 rfl (lv_at hl 1 rfl) ?_
    refine cc_v (va_runV (b := s0.heap.size) (As := [.int (nI k)]) (rest := []) ⟨hx, hb, hml, hown, hts⟩ (ct_X1_of hE hR hk) (cwV 1 hts (lw_V q536 q538 qs11 q47 q539) rfl rfl rfl (by decide +kernel) ⟨Nat.le_of_ble_eq_true rfl, Nat.le_of_ble_eq_true rfl⟩) (cc_pV hW0 (cc_re hK hR.np (show gcl[0]? = _ from rfl))) rfl rfl hl.1 rfl (lv_room (Nat.le_of_ble_eq_true rfl)) dX1_made_2 ⟨Nat.le_of_ble_eq_true rfl, Nat.le_of_ble_eq_true rfl⟩) hL (fun H locs hP1 hL => ?_)
    subst hP1
    refine lv_astore (lv' := [(4, .ref (aI s0.heap.size k)), (0, .ref s0.heap.size), (1, .int (nI k)), (2, .int r), (3, .int z)]) hx hb dX1_made_5 hl (by decide) rfl (fun ls hl => ?_)
    refine lv_iload_n hx hb dX1_made_7 rfl (lv_at hl 3 rfl) ?_
    refine lv_iconst (v := 0) hx hb dX1_made_8 (by decide) ?_
    refine lv_iconst (v := 2) hx hb dX1_made_9 (by decide) ?_
    refine cc_v (va_runS (As := [.int r, .int 0, .int 2]) (rest := []) ⟨hx, hb, hml, hown, hts⟩ (ct_X1_isIn hE r 0 2) (va_cwS 3 hts (lw_S q540 q541 q47 q542) rfl rfl rfl (by decide +kernel) ⟨Nat.le_of_ble_eq_true rfl, Nat.le_of_ble_eq_true rfl⟩) (cc_pS hW0) rfl rfl hl.1 rfl (lv_room (Nat.le_of_ble_eq_true rfl)) dX1_made_10 ⟨Nat.le_of_ble_eq_true rfl, Nat.le_of_ble_eq_true rfl⟩) hL (fun H locs hP1 hL => ?_)
    subst hP1
    exact gt_leave (va_runTS (As := [.int (bZ (inR r 0 2))]) (rest := []) ⟨hx, hb, hml, hown, hts⟩ (ct_X1_there_T hE ⟨_, hR⟩ (x := bZ (inR r 0 2)) (by rw [h]; rfl)) (va_cwS 1 hts (lw_S q543 q544 q47 q545) rfl rfl rfl (by decide +kernel) ⟨Nat.le_of_ble_eq_true rfl, Nat.le_of_ble_eq_true rfl⟩) (cc_pS hW0) rfl rfl hl.1 rfl (lv_room (Nat.le_of_ble_eq_true rfl)) dX1_made_13 ⟨Nat.le_of_ble_eq_true rfl, Nat.le_of_ble_eq_true rfl⟩) hno (fun st t u x hq h1 h2 h3 => ⟨by rw [h1]; exact hq.1, by rw [h1]; exact hq.2⟩) hL (fun q h => h) Bd.notSynchronized
set_option maxHeartbeats 4000000 in
set_option maxRecDepth 100000 in
/-- made, bad argument -/
theorem ct_X1_made_A {l : Launch} {s0 : State} {D : va_G} {DA : Nat → ClassId} {z0 : Nat} {C : CS} {M : MS} {o : Int64} {H : Heap} (hE : G0 l s0 D DA z0) (hR : RR s0 D DA z0 C M o H) {k : Nat} (hk : k < 12) (r z : Int32) (h1 : inR r 0 2 = true) (h : inR z 0 9 = false) : MetT l yX1_made (ws_ yX1_made cX1_made 5 none) ({ frames := 7, cells := 1, slots := 6, locals := 102 }) (cP s0 [.ref s0.heap.size, .int (nI k), .int r, .int z] H) (cQT s0 "java/lang/IllegalArgumentException" (fun H1 => RR s0 D DA z0 C M o H1)) 1 6 (cF s0) := by
  refine MetT.ofW (cc := cX1_made) (maxL := 5) (ret := none) (by decide) rfl ?_
  intro p e s m args below meth c s₁ Bd hml hv
  obtain ⟨rfl, rfl, hW0⟩ := hv
  have hx := Bd.exec
  have hb := Bd.bytes
  have hr := Bd.returns
  have hts := atoms_spec (ws := (ws_ yX1_made cX1_made 5 none)) Bd.pre
  have hno := BodyLoose.noHandlers Bd (hts _ List.mem_cons_self)
  have hts : ∀ w ∈ lw_all, w.before _ s = true := fun w h => hts w (List.mem_cons_of_mem _ h)
  have hown : s.vm.findClass RX1 = some m.cls := findClass_of_methodNamed Bd.named
  have hlocks := Bd.notSynchronized
  have hK := va_K.moved hW0.alike hE.K
  have hL : gx_L s0.heap.size ([] : List Loc) := gx_L0
  obtain ⟨Y, hR⟩ := hR
  have hl := lv_entry ([.ref s0.heap.size, .int (nI k), .int r, .int z]) (n := 5) (Nat.le_of_ble_eq_true rfl)
  rw [lg_entry_eq]
  generalize (lg_sl ([.ref s0.heap.size, .int (nI k), .int r, .int z]) ++ List.replicate (5 - (lg_sl ([.ref s0.heap.size, .int (nI k), .int r, .int z])).length) Slot.unset).toArray = ls at hl ⊢
  have hl : lv_has ls 5 [(0, .ref s0.heap.size), (1, .int (nI k)), (2, .int r), (3, .int z)] := hl
  refine lv_aload_n hx hb dX1_made_0 rfl (lv_at hl 0 rfl) ?_
  refine lv_iload_n hx hb dX1_made_1 rfl (lv_at hl 1 rfl) ?_
  refine cc_v (va_runV (b := s0.heap.size) (As := [.int (nI k)]) (rest := []) ⟨hx, hb, hml, hown, hts⟩ (ct_X1_of hE hR hk) (cwV 1 hts (lw_V q536 q538 qs11 q47 q539) rfl rfl rfl (by decide +kernel) ⟨Nat.le_of_ble_eq_true rfl, Nat.le_of_ble_eq_true rfl⟩) (cc_pV hW0 (cc_re hK hR.np (show gcl[0]? = _ from rfl))) rfl rfl hl.1 rfl (lv_room (Nat.le_of_ble_eq_true rfl)) dX1_made_2 ⟨Nat.le_of_ble_eq_true rfl, Nat.le_of_ble_eq_true rfl⟩) hL (fun H locs hP1 hL => ?_)
  subst hP1
  refine lv_astore (lv' := [(4, .ref (aI s0.heap.size k)), (0, .ref s0.heap.size), (1, .int (nI k)), (2, .int r), (3, .int z)]) hx hb dX1_made_5 hl (by decide) rfl (fun ls hl => ?_)
  refine lv_iload_n hx hb dX1_made_7 rfl (lv_at hl 3 rfl) ?_
  refine lv_iconst (v := 0) hx hb dX1_made_8 (by decide) ?_
  refine lv_iconst (v := 2) hx hb dX1_made_9 (by decide) ?_
  refine cc_v (va_runS (As := [.int r, .int 0, .int 2]) (rest := []) ⟨hx, hb, hml, hown, hts⟩ (ct_X1_isIn hE r 0 2) (va_cwS 3 hts (lw_S q540 q541 q47 q542) rfl rfl rfl (by decide +kernel) ⟨Nat.le_of_ble_eq_true rfl, Nat.le_of_ble_eq_true rfl⟩) (cc_pS hW0) rfl rfl hl.1 rfl (lv_room (Nat.le_of_ble_eq_true rfl)) dX1_made_10 ⟨Nat.le_of_ble_eq_true rfl, Nat.le_of_ble_eq_true rfl⟩) hL (fun H locs hP1 hL => ?_)
  subst hP1
  refine cc_0 (va_runS (As := [.int (bZ (inR r 0 2))]) (rest := []) ⟨hx, hb, hml, hown, hts⟩ (ct_X1_there hE (x := bZ (inR r 0 2)) (by rw [h1]; decide)) (va_cwS 1 hts (lw_S q543 q544 q47 q545) rfl rfl rfl (by decide +kernel) ⟨Nat.le_of_ble_eq_true rfl, Nat.le_of_ble_eq_true rfl⟩) (cc_pS hW0) rfl rfl hl.1 rfl (lv_room (Nat.le_of_ble_eq_true rfl)) dX1_made_13 ⟨Nat.le_of_ble_eq_true rfl, Nat.le_of_ble_eq_true rfl⟩) hL (fun H locs hP1 hL => ?_)
  subst hP1
  refine lv_iload_n hx hb dX1_made_16 rfl (lv_at hl 4 rfl) ?_
  refine lv_iconst (v := 0) hx hb dX1_made_17 (by decide) ?_
  refine lv_bipush (v := 9) hx hb dX1_made_18 (by decide) ?_
  refine cc_v (va_runS (As := [.int z, .int 0, .int 9]) (rest := []) ⟨hx, hb, hml, hown, hts⟩ (ct_X1_isIn hE z 0 9) (va_cwS 3 hts (lw_S q540 q541 q47 q542) rfl rfl rfl (by decide +kernel) ⟨Nat.le_of_ble_eq_true rfl, Nat.le_of_ble_eq_true rfl⟩) (cc_pS hW0) rfl rfl hl.1 rfl (lv_room (Nat.le_of_ble_eq_true rfl)) dX1_made_20 ⟨Nat.le_of_ble_eq_true rfl, Nat.le_of_ble_eq_true rfl⟩) hL (fun H locs hP1 hL => ?_)
  subst hP1
  exact gt_leave (va_runTS (As := [.int (bZ (inR z 0 9))]) (rest := []) ⟨hx, hb, hml, hown, hts⟩ (ct_X1_argue_T hE ⟨_, hR⟩ (x := bZ (inR z 0 9)) (by rw [h]; rfl)) (va_cwS 1 hts (lw_S q609 q610 q47 q611) rfl rfl rfl (by decide +kernel) ⟨Nat.le_of_ble_eq_true rfl, Nat.le_of_ble_eq_true rfl⟩) (cc_pS hW0) rfl rfl hl.1 rfl (lv_room (Nat.le_of_ble_eq_true rfl)) dX1_made_23 ⟨Nat.le_of_ble_eq_true rfl, Nat.le_of_ble_eq_true rfl⟩) hno (fun st t u x hq h1 h2 h3 => ⟨by rw [h1]; exact hq.1, by rw [h1]; exact hq.2⟩) hL (fun q h => h) Bd.notSynchronized
set_option maxHeartbeats 4000000 in
set_option maxRecDepth 100000 in
/-- stock -/
theorem ct_X1_stock {l : Launch} {s0 : State} {D : va_G} {DA : Nat → ClassId} {z0 : Nat} {C : CS} {M : MS} {o : Int64} {H : Heap} (hE : G0 l s0 D DA z0) (hR : RR s0 D DA z0 C M o H) {k : Nat} (hk : k < 12) (r : Int32) (h1 : inR r 0 10000 = true) : Met l yX1_stock (ws_ yX1_stock cX1_stock 5 (some .int)) ({ frames := 2, cells := 0, slots := 0, locals := 43 }) (cP s0 [.ref s0.heap.size, .int (nI k), .int r] H) (cQv (.int (kI C 8 k)) (fun H1 => RR s0 D DA z0 (c_stock C k r) M o H1)) 0 0 (cF s0) := by
  refine Met.ofW (cc := cX1_stock) (maxL := 5) (ret := (some .int)) (by decide) rfl ?_
  intro p e s m args below meth c s₁ Bd hml hv
  obtain ⟨rfl, rfl, hW0⟩ := hv
  have hx := Bd.exec
  have hb := Bd.bytes
  have hr := Bd.returns
  have hts := atoms_spec (ws := (ws_ yX1_stock cX1_stock 5 (some .int))) Bd.pre
  have hts : ∀ w ∈ lw_all, w.before _ s = true := fun w h => hts w (List.mem_cons_of_mem _ h)
  have hown : s.vm.findClass RX1 = some m.cls := findClass_of_methodNamed Bd.named
  have hlocks := Bd.notSynchronized
  have hK := va_K.moved hW0.alike hE.K
  have hL : gx_L s0.heap.size ([] : List Loc) := gx_L0
  obtain ⟨Y, hR⟩ := hR
  have hl := lv_entry ([.ref s0.heap.size, .int (nI k), .int r]) (n := 5) (Nat.le_of_ble_eq_true rfl)
  rw [lg_entry_eq]
  generalize (lg_sl ([.ref s0.heap.size, .int (nI k), .int r]) ++ List.replicate (5 - (lg_sl ([.ref s0.heap.size, .int (nI k), .int r])).length) Slot.unset).toArray = ls at hl ⊢
  have hl : lv_has ls 5 [(0, .ref s0.heap.size), (1, .int (nI k)), (2, .int r)] := hl
  refine lv_aload_n hx hb dX1_stock_0 rfl (lv_at hl 0 rfl) ?_
  refine lv_iload_n hx hb dX1_stock_1 rfl (lv_at hl 1 rfl) ?_
  refine cc_v (va_runV (b := s0.heap.size) (As := [.int (nI k)]) (rest := []) ⟨hx, hb, hml, hown, hts⟩ (ct_X1_of hE hR hk) (cwV 1 hts (lw_V q536 q538 qs11 q47 q539) rfl rfl rfl (by decide +kernel) ⟨Nat.le_of_ble_eq_true rfl, Nat.le_of_ble_eq_true rfl⟩) (cc_pV hW0 (cc_re hK hR.np (show gcl[0]? = _ from rfl))) rfl rfl hl.1 rfl (lv_room (Nat.le_of_ble_eq_true rfl)) dX1_stock_2 ⟨Nat.le_of_ble_eq_true rfl, Nat.le_of_ble_eq_true rfl⟩) hL (fun H locs hP1 hL => ?_)
  subst hP1
  refine lv_astore_n (lv' := [(3, .ref (aI s0.heap.size k)), (0, .ref s0.heap.size), (1, .int (nI k)), (2, .int r)]) hx hb dX1_stock_5 rfl hl (by decide) rfl (fun ls hl => ?_)
  refine lv_iload_n hx hb dX1_stock_6 rfl (lv_at hl 3 rfl) ?_
  refine lv_iconst (v := 0) hx hb dX1_stock_7 (by decide) ?_
  refine lv_sipush (v := 10000) hx hb dX1_stock_8 (by decide) ?_
  refine cc_v (va_runS (As := [.int r, .int 0, .int 10000]) (rest := []) ⟨hx, hb, hml, hown, hts⟩ (ct_X1_isIn hE r 0 10000) (va_cwS 3 hts (lw_S q540 q541 q47 q542) rfl rfl rfl (by decide +kernel) ⟨Nat.le_of_ble_eq_true rfl, Nat.le_of_ble_eq_true rfl⟩) (cc_pS hW0) rfl rfl hl.1 rfl (lv_room (Nat.le_of_ble_eq_true rfl)) dX1_stock_11 ⟨Nat.le_of_ble_eq_true rfl, Nat.le_of_ble_eq_true rfl⟩) hL (fun H locs hP1 hL => ?_)
  subst hP1
  refine cc_0 (va_runS (As := [.int (bZ (inR r 0 10000))]) (rest := []) ⟨hx, hb, hml, hown, hts⟩ (ct_X1_argue hE (x := bZ (inR r 0 10000)) (by rw [h1]; decide)) (va_cwS 1 hts (lw_S q609 q610 q47 q611) rfl rfl rfl (by decide +kernel) ⟨Nat.le_of_ble_eq_true rfl, Nat.le_of_ble_eq_true rfl⟩) (cc_pS hW0) rfl rfl hl.1 rfl (lv_room (Nat.le_of_ble_eq_true rfl)) dX1_stock_14 ⟨Nat.le_of_ble_eq_true rfl, Nat.le_of_ble_eq_true rfl⟩) hL (fun H locs hP1 hL => ?_)
  subst hP1
  refine lv_aload_n hx hb dX1_stock_17 rfl (lv_at hl 0 rfl) ?_
  refine gx_getN (D := D) (cl := gcl) (ci := 8) (v := .int (kI C 8 k)) (C := RX9) (T := TX9) (N := 19) hx hb hts in_X9 hown hK (hR.itm k hk) rfl 8 (by decide) (hE.nF hW0 q203) (fun _ h9 => h9) rfl dX1_stock_18 ?_
  refine lv_istore (lv' := [(4, .int (kI C 8 k)), (3, .ref (aI s0.heap.size k)), (0, .ref s0.heap.size), (1, .int (nI k)), (2, .int r)]) hx hb dX1_stock_21 hl (by decide) rfl (fun ls hl => ?_)
  refine lv_aload_n hx hb dX1_stock_23 rfl (lv_at hl 1 rfl) ?_
  refine lv_iload_n hx hb dX1_stock_24 rfl (lv_at hl 4 rfl) ?_
  refine gx_putN (D := D) (cl := gcl) (ci := 8) (v := .int r) (ty := .int) (C := RX9) (T := TX9) (N := 19) hx hb hts in_X9 tyX9 tyX9_ok nmX9 hown hK (hR.itm k hk) rfl 8 (by decide) (hE.nF hW0 q203) (fun _ h9 => h9) rfl (by decide +kernel) (rfl) rfl (Nat.le_of_ble_eq_true rfl) hL (by (try simp only [aI, aA, aT, aB, aL, mad]); omega) dX1_stock_25 (fun H locs hU hA hL => ?_)
  have hR := GRb.pI (j := 8) (k := k) (by decide) (by decide) hk hR hU hA
  refine lv_aload_n hx hb dX1_stock_28 rfl (lv_at hl 2 rfl) ?_
  refine lv_aload_n hx hb dX1_stock_29 rfl (lv_at hl 1 rfl) ?_
  refine cc_0 (va_runV (b := s0.heap.size) (As := [.ref (aI s0.heap.size k)]) (rest := []) ⟨hx, hb, hml, hown, hts⟩ (ct_X1_tell hE ⟨_, hR⟩ hk) (cwV 1 hts (lw_V q627 q629 qs13 q47 q630) rfl rfl rfl (by decide +kernel) ⟨Nat.le_of_ble_eq_true rfl, Nat.le_of_ble_eq_true rfl⟩) (cc_pV hW0 (cc_re hK hR.np (show gcl[0]? = _ from rfl))) rfl rfl hl.1 rfl (lv_room (Nat.le_of_ble_eq_true rfl)) dX1_stock_30 ⟨Nat.le_of_ble_eq_true rfl, Nat.le_of_ble_eq_true rfl⟩) hL (fun H locs hP1 hL => ?_)
  obtain ⟨Y, hR⟩ := hP1
  refine lv_iload hx hb dX1_stock_33 (lv_at hl 0 rfl) ?_
  exact W.iret (v := (kI C 8 k)) hx hb hr (fun t ht hW => ⟨rfl, by rw [ht]; exact ⟨_, hR⟩⟩) hL dX1_stock_35
set_option maxHeartbeats 4000000 in
set_option maxRecDepth 100000 in
theorem ct_X1_stock_I {l : Launch} {s0 : State} {D : va_G} {DA : Nat → ClassId} {z0 : Nat} {C : CS} {M : MS} {o : Int64} {H : Heap} (hE : G0 l s0 D DA z0) (hR : RR s0 D DA z0 C M o H) (i r : Int32) (h : in12 i = false) : MetT l yX1_stock (ws_ yX1_stock cX1_stock 5 (some .int)) ({ frames := 8, cells := 1, slots := 6, locals := 123 }) (cP s0 [.ref s0.heap.size, .int i, .int r] H) (cQT s0 "java/lang/IndexOutOfBoundsException" (fun H1 => RR s0 D DA z0 C M o H1)) 1 6 (cF s0) := by
  refine MetT.ofW (cc := cX1_stock) (maxL := 5) (ret := (some .int)) (by decide) rfl ?_
  intro p e s m args below meth c s₁ Bd hml hv
  obtain ⟨rfl, rfl, hW0⟩ := hv
  have hx := Bd.exec
  have hb := Bd.bytes
  have hr := Bd.returns
  have hts := atoms_spec (ws := (ws_ yX1_stock cX1_stock 5 (some .int))) Bd.pre
  have hno := BodyLoose.noHandlers Bd (hts _ List.mem_cons_self)
  have hts : ∀ w ∈ lw_all, w.before _ s = true := fun w h => hts w (List.mem_cons_of_mem _ h)
  have hown : s.vm.findClass RX1 = some m.cls := findClass_of_methodNamed Bd.named
  have hlocks := Bd.notSynchronized
  have hK := va_K.moved hW0.alike hE.K
  have hL : gx_L s0.heap.size ([] : List Loc) := gx_L0
  obtain ⟨Y, hR⟩ := hR
  have hl := lv_entry ([.ref s0.heap.size, .int i, .int r]) (n := 5) (Nat.le_of_ble_eq_true rfl)
  rw [lg_entry_eq]
  generalize (lg_sl ([.ref s0.heap.size, .int i, .int r]) ++ List.replicate (5 - (lg_sl ([.ref s0.heap.size, .int i, .int r])).length) Slot.unset).toArray = ls at hl ⊢
  have hl : lv_has ls 5 [(0, .ref s0.heap.size), (1, .int i), (2, .int r)] := hl
  refine lv_aload_n hx hb dX1_stock_0 rfl (lv_at hl 0 rfl) ?_
  refine lv_iload_n hx hb dX1_stock_1 rfl (lv_at hl 1 rfl) ?_
  exact gt_leave (va_runTV (b := s0.heap.size) (As := [.int i]) (rest := []) ⟨hx, hb, hml, hown, hts⟩ (ct_X1_of_T hE ⟨_, hR⟩ (x := i) (h)) (cwV 1 hts (lw_V q536 q538 qs11 q47 q539) rfl rfl rfl (by decide +kernel) ⟨Nat.le_of_ble_eq_true rfl, Nat.le_of_ble_eq_true rfl⟩) (cc_pV hW0 (cc_re hK hR.np (show gcl[0]? = _ from rfl))) rfl rfl hl.1 rfl (lv_room (Nat.le_of_ble_eq_true rfl)) dX1_stock_2 ⟨Nat.le_of_ble_eq_true rfl, Nat.le_of_ble_eq_true rfl⟩) hno (fun st t u x hq h1 h2 h3 => ⟨by rw [h1]; exact hq.1, by rw [h1]; exact hq.2⟩) hL (fun q h => h) Bd.notSynchronized
set_option maxHeartbeats 4000000 in
set_option maxRecDepth 100000 in
theorem ct_X1_stock_A {l : Launch} {s0 : State} {D : va_G} {DA : Nat → ClassId} {z0 : Nat} {C : CS} {M : MS} {o : Int64} {H : Heap} (hE : G0 l s0 D DA z0) (hR : RR s0 D DA z0 C M o H) {k : Nat} (hk : k < 12) (r : Int32) (h : inR r 0 10000 = false) : MetT l yX1_stock (ws_ yX1_stock cX1_stock 5 (some .int)) ({ frames := 7, cells := 1, slots := 6, locals := 102 }) (cP s0 [.ref s0.heap.size, .int (nI k), .int r] H) (cQT s0 "java/lang/IllegalArgumentException" (fun H1 => RR s0 D DA z0 C M o H1)) 1 6 (cF s0) := by
  refine MetT.ofW (cc := cX1_stock) (maxL := 5) (ret := (some .int)) (by decide) rfl ?_
  intro p e s m args below meth c s₁ Bd hml hv
  obtain ⟨rfl, rfl, hW0⟩ := hv
  have hx := Bd.exec
  have hb := Bd.bytes
  have hr := Bd.returns
  have hts := atoms_spec (ws := (ws_ yX1_stock cX1_stock 5 (some .int))) Bd.pre
  have hno := BodyLoose.noHandlers Bd (hts _ List.mem_cons_self)
  have hts : ∀ w ∈ lw_all, w.before _ s = true := fun w h => hts w (List.mem_cons_of_mem _ h)
  have hown : s.vm.findClass RX1 = some m.cls := findClass_of_methodNamed Bd.named
  have hlocks := Bd.notSynchronized
  have hK := va_K.moved hW0.alike hE.K
  have hL : gx_L s0.heap.size ([] : List Loc) := gx_L0
  obtain ⟨Y, hR⟩ := hR
  have hl := lv_entry ([.ref s0.heap.size, .int (nI k), .int r]) (n := 5) (Nat.le_of_ble_eq_true rfl)
  rw [lg_entry_eq]
  generalize (lg_sl ([.ref s0.heap.size, .int (nI k), .int r]) ++ List.replicate (5 - (lg_sl ([.ref s0.heap.size, .int (nI k), .int r])).length) Slot.unset).toArray = ls at hl ⊢
  have hl : lv_has ls 5 [(0, .ref s0.heap.size), (1, .int (nI k)), (2, .int r)] := hl
  refine lv_aload_n hx hb dX1_stock_0 rfl (lv_at hl 0 rfl) ?_
  refine lv_iload_n hx hb dX1_stock_1 rfl (lv_at hl 1 rfl) ?_
  refine cc_v (va_runV (b := s0.heap.size) (As := [.int (nI k)]) (rest := []) ⟨hx, hb, hml, hown, hts⟩ (ct_X1_of hE hR hk) (cwV 1 hts (lw_V q536 q538 qs11 q47 q539) rfl rfl rfl (by decide +kernel) ⟨Nat.le_of_ble_eq_true rfl, Nat.le_of_ble_eq_true rfl⟩) (cc_pV hW0 (cc_re hK hR.np (show gcl[0]? = _ from rfl))) rfl rfl hl.1 rfl (lv_room (Nat.le_of_ble_eq_true rfl)) dX1_stock_2 ⟨Nat.le_of_ble_eq_true rfl, Nat.le_of_ble_eq_true rfl⟩) hL (fun H locs hP1 hL => ?_)
  subst hP1
  refine lv_astore_n (lv' := [(3, .ref (aI s0.heap.size k)), (0, .ref s0.heap.size), (1, .int (nI k)), (2, .int r)]) hx hb dX1_stock_5 rfl hl (by decide) rfl (fun ls hl => ?_)
  refine lv_iload_n hx hb dX1_stock_6 rfl (lv_at hl 3 rfl) ?_
  refine lv_iconst (v := 0) hx hb dX1_stock_7 (by decide) ?_
  refine lv_sipush (v := 10000) hx hb dX1_stock_8 (by decide) ?_
  refine cc_v (va_runS (As := [.int r, .int 0, .int 10000]) (rest := []) ⟨hx, hb, hml, hown, hts⟩ (ct_X1_isIn hE r 0 10000) (va_cwS 3 hts (lw_S q540 q541 q47 q542) rfl rfl rfl (by decide +kernel) ⟨Nat.le_of_ble_eq_true rfl, Nat.le_of_ble_eq_true rfl⟩) (cc_pS hW0) rfl rfl hl.1 rfl (lv_room (Nat.le_of_ble_eq_true rfl)) dX1_stock_11 ⟨Nat.le_of_ble_eq_true rfl, Nat.le_of_ble_eq_true rfl⟩) hL (fun H locs hP1 hL => ?_)
  subst hP1
  exact gt_leave (va_runTS (As := [.int (bZ (inR r 0 10000))]) (rest := []) ⟨hx, hb, hml, hown, hts⟩ (ct_X1_argue_T hE ⟨_, hR⟩ (x := bZ (inR r 0 10000)) (by rw [h]; rfl)) (va_cwS 1 hts (lw_S q609 q610 q47 q611) rfl rfl rfl (by decide +kernel) ⟨Nat.le_of_ble_eq_true rfl, Nat.le_of_ble_eq_true rfl⟩) (cc_pS hW0) rfl rfl hl.1 rfl (lv_room (Nat.le_of_ble_eq_true rfl)) dX1_stock_14 ⟨Nat.le_of_ble_eq_true rfl, Nat.le_of_ble_eq_true rfl⟩) hno (fun st t u x hq h1 h2 h3 => ⟨by rw [h1]; exact hq.1, by rw [h1]; exact hq.2⟩) hL (fun q h => h) Bd.notSynchronized
set_option maxHeartbeats 4000000 in
set_option maxRecDepth 100000 in
/-- level -/
theorem ct_X1_level {l : Launch} {s0 : State} {D : va_G} {DA : Nat → ClassId} {z0 : Nat} {Y : YS} {C : CS} {M : MS} {o : Int64} {H : Heap} (hE : G0 l s0 D DA z0) (hR : GRb s0.heap.size s0.heap D DA z0 Y C M o H) {k : Nat} (hk : k < 12) : Met l yX1_level (ws_ yX1_level cX1_level 2 (some .int)) ({ frames := 2, cells := 0, slots := 0, locals := 43 }) (cP s0 [.ref s0.heap.size, .int (nI k)] H) (cQv (.int (kI C 11 k)) (fun H1 => H1 = H)) 0 0 (cF s0) := by
  refine Met.ofW (cc := cX1_level) (maxL := 2) (ret := (some .int)) (by decide) rfl ?_
  intro p e s m args below meth c s₁ Bd hml hv
  obtain ⟨rfl, rfl, hW0⟩ := hv
  have hx := Bd.exec
  have hb := Bd.bytes
  have hr := Bd.returns
  have hts := atoms_spec (ws := (ws_ yX1_level cX1_level 2 (some .int))) Bd.pre
  have hts : ∀ w ∈ lw_all, w.before _ s = true := fun w h => hts w (List.mem_cons_of_mem _ h)
  have hown : s.vm.findClass RX1 = some m.cls := findClass_of_methodNamed Bd.named
  have hlocks := Bd.notSynchronized
  have hK := va_K.moved hW0.alike hE.K
  have hL : gx_L s0.heap.size ([] : List Loc) := gx_L0
  have hl := lv_entry ([.ref s0.heap.size, .int (nI k)]) (n := 2) (Nat.le_of_ble_eq_true rfl)
  rw [lg_entry_eq]
  generalize (lg_sl ([.ref s0.heap.size, .int (nI k)]) ++ List.replicate (2 - (lg_sl ([.ref s0.heap.size, .int (nI k)])).length) Slot.unset).toArray = ls at hl ⊢
  have hl : lv_has ls 2 [(0, .ref s0.heap.size), (1, .int (nI k))] := hl
  refine lv_aload_n hx hb dX1_level_0 rfl (lv_at hl 0 rfl) ?_
  refine lv_iload_n hx hb dX1_level_1 rfl (lv_at hl 1 rfl) ?_
  refine cc_v (va_runV (b := s0.heap.size) (As := [.int (nI k)]) (rest := []) ⟨hx, hb, hml, hown, hts⟩ (ct_X1_of hE hR hk) (cwV 1 hts (lw_V q536 q538 qs11 q47 q539) rfl rfl rfl (by decide +kernel) ⟨Nat.le_of_ble_eq_true rfl, Nat.le_of_ble_eq_true rfl⟩) (cc_pV hW0 (cc_re hK hR.np (show gcl[0]? = _ from rfl))) rfl rfl hl.1 rfl (lv_room (Nat.le_of_ble_eq_true rfl)) dX1_level_2 ⟨Nat.le_of_ble_eq_true rfl, Nat.le_of_ble_eq_true rfl⟩) hL (fun H locs hP1 hL => ?_)
  subst hP1
  refine gx_getN (D := D) (cl := gcl) (ci := 8) (v := .int (kI C 11 k)) (C := RX9) (T := TX9) (N := 19) hx hb hts in_X9 hown hK (hR.itm k hk) rfl 11 (by decide) (hE.nF hW0 q207) (fun _ h9 => h9) rfl dX1_level_5 ?_
  exact W.iret (v := (kI C 11 k)) hx hb hr (fun t ht hW => ⟨rfl, ht⟩) hL dX1_level_8
set_option maxHeartbeats 4000000 in
set_option maxRecDepth 100000 in
theorem ct_X1_level_I {l : Launch} {s0 : State} {D : va_G} {DA : Nat → ClassId} {z0 : Nat} {C : CS} {M : MS} {o : Int64} {H : Heap} (hE : G0 l s0 D DA z0) (hR : RR s0 D DA z0 C M o H) (i : Int32) (h : in12 i = false) : MetT l yX1_level (ws_ yX1_level cX1_level 2 (some .int)) ({ frames := 8, cells := 1, slots := 6, locals := 123 }) (cP s0 [.ref s0.heap.size, .int i] H) (cQT s0 "java/lang/IndexOutOfBoundsException" (fun H1 => RR s0 D DA z0 C M o H1)) 1 6 (cF s0) := by
  refine MetT.ofW (cc := cX1_level) (maxL := 2) (ret := (some .int)) (by decide) rfl ?_
  intro p e s m args below meth c s₁ Bd hml hv
  obtain ⟨rfl, rfl, hW0⟩ := hv
  have hx := Bd.exec
  have hb := Bd.bytes
  have hr := Bd.returns
  have hts := atoms_spec (ws := (ws_ yX1_level cX1_level 2 (some .int))) Bd.pre
  have hno := BodyLoose.noHandlers Bd (hts _ List.mem_cons_self)
  have hts : ∀ w ∈ lw_all, w.before _ s = true := fun w h => hts w (List.mem_cons_of_mem _ h)
  have hown : s.vm.findClass RX1 = some m.cls := findClass_of_methodNamed Bd.named
  have hlocks := Bd.notSynchronized
  have hK := va_K.moved hW0.alike hE.K
  have hL : gx_L s0.heap.size ([] : List Loc) := gx_L0
  obtain ⟨Y, hR⟩ := hR
  have hl := lv_entry ([.ref s0.heap.size, .int i]) (n := 2) (Nat.le_of_ble_eq_true rfl)
  rw [lg_entry_eq]
  generalize (lg_sl ([.ref s0.heap.size, .int i]) ++ List.replicate (2 - (lg_sl ([.ref s0.heap.size, .int i])).length) Slot.unset).toArray = ls at hl ⊢
  have hl : lv_has ls 2 [(0, .ref s0.heap.size), (1, .int i)] := hl
  refine lv_aload_n hx hb dX1_level_0 rfl (lv_at hl 0 rfl) ?_
  refine lv_iload_n hx hb dX1_level_1 rfl (lv_at hl 1 rfl) ?_
  exact gt_leave (va_runTV (b := s0.heap.size) (As := [.int i]) (rest := []) ⟨hx, hb, hml, hown, hts⟩ (ct_X1_of_T hE ⟨_, hR⟩ (x := i) (h)) (cwV 1 hts (lw_V q536 q538 qs11 q47 q539) rfl rfl rfl (by decide +kernel) ⟨Nat.le_of_ble_eq_true rfl, Nat.le_of_ble_eq_true rfl⟩) (cc_pV hW0 (cc_re hK hR.np (show gcl[0]? = _ from rfl))) rfl rfl hl.1 rfl (lv_room (Nat.le_of_ble_eq_true rfl)) dX1_level_2 ⟨Nat.le_of_ble_eq_true rfl, Nat.le_of_ble_eq_true rfl⟩) hno (fun st t u x hq h1 h2 h3 => ⟨by rw [h1]; exact hq.1, by rw [h1]; exact hq.2⟩) hL (fun q h => h) Bd.notSynchronized
set_option maxHeartbeats 4000000 in
set_option maxRecDepth 100000 in
/-- current -/
theorem ct_X1_current {l : Launch} {s0 : State} {D : va_G} {DA : Nat → ClassId} {z0 : Nat} {Y : YS} {C : CS} {M : MS} {o : Int64} {H : Heap} (hE : G0 l s0 D DA z0) (hR : GRb s0.heap.size s0.heap D DA z0 Y C M o H) {k : Nat} (hk : k < 12) (h0 : kT C = 0) : Met l yX1_current (ws_ yX1_current cX1_current 3 (some (.object "NettedPlans$Item"))) ({ frames := 2, cells := 0, slots := 0, locals := 43 }) (cP s0 [.ref s0.heap.size, .int (nI k)] H) (cQv (.ref (aI s0.heap.size k)) (fun H1 => H1 = H)) 0 0 (cF s0) := by
  refine Met.ofW (cc := cX1_current) (maxL := 3) (ret := (some (.object "NettedPlans$Item"))) (by decide) rfl ?_
  intro p e s m args below meth c s₁ Bd hml hv
  obtain ⟨rfl, rfl, hW0⟩ := hv
  have hx := Bd.exec
  have hb := Bd.bytes
  have hr := Bd.returns
  have hts := atoms_spec (ws := (ws_ yX1_current cX1_current 3 (some (.object "NettedPlans$Item")))) Bd.pre
  have hts : ∀ w ∈ lw_all, w.before _ s = true := fun w h => hts w (List.mem_cons_of_mem _ h)
  have hown : s.vm.findClass RX1 = some m.cls := findClass_of_methodNamed Bd.named
  have hlocks := Bd.notSynchronized
  have hK := va_K.moved hW0.alike hE.K
  have hL : gx_L s0.heap.size ([] : List Loc) := gx_L0
  have hl := lv_entry ([.ref s0.heap.size, .int (nI k)]) (n := 3) (Nat.le_of_ble_eq_true rfl)
  rw [lg_entry_eq]
  generalize (lg_sl ([.ref s0.heap.size, .int (nI k)]) ++ List.replicate (3 - (lg_sl ([.ref s0.heap.size, .int (nI k)])).length) Slot.unset).toArray = ls at hl ⊢
  have hl : lv_has ls 3 [(0, .ref s0.heap.size), (1, .int (nI k))] := hl
  refine lv_aload_n hx hb dX1_current_0 rfl (lv_at hl 0 rfl) ?_
  refine lv_iload_n hx hb dX1_current_1 rfl (lv_at hl 1 rfl) ?_
  refine cc_v (va_runV (b := s0.heap.size) (As := [.int (nI k)]) (rest := []) ⟨hx, hb, hml, hown, hts⟩ (ct_X1_of hE hR hk) (cwV 1 hts (lw_V q536 q538 qs11 q47 q539) rfl rfl rfl (by decide +kernel) ⟨Nat.le_of_ble_eq_true rfl, Nat.le_of_ble_eq_true rfl⟩) (cc_pV hW0 (cc_re hK hR.np (show gcl[0]? = _ from rfl))) rfl rfl hl.1 rfl (lv_room (Nat.le_of_ble_eq_true rfl)) dX1_current_2 ⟨Nat.le_of_ble_eq_true rfl, Nat.le_of_ble_eq_true rfl⟩) hL (fun H locs hP1 hL => ?_)
  subst hP1
  refine lv_astore_n (lv' := [(2, .ref (aI s0.heap.size k)), (0, .ref s0.heap.size), (1, .int (nI k))]) hx hb dX1_current_5 rfl hl (by decide) rfl (fun ls hl => ?_)
  refine lv_aload_n hx hb dX1_current_6 rfl (lv_at hl 1 rfl) ?_
  refine gx_get (D := D) (cl := gcl) (ci := 0) (v := .int (kT C)) (C := RX1) (T := TX1) (N := 10) hx hb hts in_X1 hown hK hR.np rfl 8 (by decide) (hts _ q280) (fun _ h9 => h9) rfl dX1_current_7 ?_
  refine lv_if_ne (tgt := 17) hx hb dX1_current_10 (by decide) (fun c10 => ?_) (fun c10 => ?_)
  · exact absurd h0 c10
  · refine lv_iconst (v := 1) hx hb dX1_current_13 (by decide) ?_
    refine lv_goto (tgt := 18) hx hb dX1_current_14 (by decide) ?_
    refine cc_0 (va_runS (As := [.int 1]) (rest := []) ⟨hx, hb, hml, hown, hts⟩ (ct_X1_allow hE (x := 1) (by decide)) (va_cwS 1 hts (lw_S q666 q667 q47 q668) rfl rfl rfl (by decide +kernel) ⟨Nat.le_of_ble_eq_true rfl, Nat.le_of_ble_eq_true rfl⟩) (cc_pS hW0) rfl rfl hl.1 rfl (lv_room (Nat.le_of_ble_eq_true rfl)) dX1_current_18 ⟨Nat.le_of_ble_eq_true rfl, Nat.le_of_ble_eq_true rfl⟩) hL (fun H locs hP1 hL => ?_)
    subst hP1
    refine lv_aload_n hx hb dX1_current_21 rfl (lv_at hl 0 rfl) ?_
    exact W.aret hx hb hr (Or.inl ⟨_, rfl⟩) (Or.inr ⟨_, rfl⟩) (fun t ht hW => ⟨rfl, ht⟩) hL dX1_current_22
set_option maxHeartbeats 4000000 in
set_option maxRecDepth 100000 in
theorem ct_X1_current_S {l : Launch} {s0 : State} {D : va_G} {DA : Nat → ClassId} {z0 : Nat} {C : CS} {M : MS} {o : Int64} {H : Heap} (hE : G0 l s0 D DA z0) (hR : RR s0 D DA z0 C M o H) {k : Nat} (hk : k < 12) (h0 : ¬ kT C = 0) : MetT l yX1_current (ws_ yX1_current cX1_current 3 (some (.object "NettedPlans$Item"))) ({ frames := 7, cells := 1, slots := 6, locals := 102 }) (cP s0 [.ref s0.heap.size, .int (nI k)] H) (cQT s0 "java/lang/IllegalStateException" (fun H1 => RR s0 D DA z0 C M o H1)) 1 6 (cF s0) := by
  refine MetT.ofW (cc := cX1_current) (maxL := 3) (ret := (some (.object "NettedPlans$Item"))) (by decide) rfl ?_
  intro p e s m args below meth c s₁ Bd hml hv
  obtain ⟨rfl, rfl, hW0⟩ := hv
  have hx := Bd.exec
  have hb := Bd.bytes
  have hr := Bd.returns
  have hts := atoms_spec (ws := (ws_ yX1_current cX1_current 3 (some (.object "NettedPlans$Item")))) Bd.pre
  have hno := BodyLoose.noHandlers Bd (hts _ List.mem_cons_self)
  have hts : ∀ w ∈ lw_all, w.before _ s = true := fun w h => hts w (List.mem_cons_of_mem _ h)
  have hown : s.vm.findClass RX1 = some m.cls := findClass_of_methodNamed Bd.named
  have hlocks := Bd.notSynchronized
  have hK := va_K.moved hW0.alike hE.K
  have hL : gx_L s0.heap.size ([] : List Loc) := gx_L0
  obtain ⟨Y, hR⟩ := hR
  have hl := lv_entry ([.ref s0.heap.size, .int (nI k)]) (n := 3) (Nat.le_of_ble_eq_true rfl)
  rw [lg_entry_eq]
  generalize (lg_sl ([.ref s0.heap.size, .int (nI k)]) ++ List.replicate (3 - (lg_sl ([.ref s0.heap.size, .int (nI k)])).length) Slot.unset).toArray = ls at hl ⊢
  have hl : lv_has ls 3 [(0, .ref s0.heap.size), (1, .int (nI k))] := hl
  refine lv_aload_n hx hb dX1_current_0 rfl (lv_at hl 0 rfl) ?_
  refine lv_iload_n hx hb dX1_current_1 rfl (lv_at hl 1 rfl) ?_
  refine cc_v (va_runV (b := s0.heap.size) (As := [.int (nI k)]) (rest := []) ⟨hx, hb, hml, hown, hts⟩ (ct_X1_of hE hR hk) (cwV 1 hts (lw_V q536 q538 qs11 q47 q539) rfl rfl rfl (by decide +kernel) ⟨Nat.le_of_ble_eq_true rfl, Nat.le_of_ble_eq_true rfl⟩) (cc_pV hW0 (cc_re hK hR.np (show gcl[0]? = _ from rfl))) rfl rfl hl.1 rfl (lv_room (Nat.le_of_ble_eq_true rfl)) dX1_current_2 ⟨Nat.le_of_ble_eq_true rfl, Nat.le_of_ble_eq_true rfl⟩) hL (fun H locs hP1 hL => ?_)
  subst hP1
  refine lv_astore_n (lv' := [(2, .ref (aI s0.heap.size k)), (0, .ref s0.heap.size), (1, .int (nI k))]) hx hb dX1_current_5 rfl hl (by decide) rfl (fun ls hl => ?_)
  refine lv_aload_n hx hb dX1_current_6 rfl (lv_at hl 1 rfl) ?_
  refine gx_get (D := D) (cl := gcl) (ci := 0) (v := .int (kT C)) (C := RX1) (T := TX1) (N := 10) hx hb hts in_X1 hown hK hR.np rfl 8 (by decide) (hts _ q280) (fun _ h9 => h9) rfl dX1_current_7 ?_
  refine lv_if_ne (tgt := 17) hx hb dX1_current_10 (by decide) (fun c10 => ?_) (fun c10 => ?_)
  · refine lv_iconst (v := 0) hx hb dX1_current_17 (by decide) ?_
    exact gt_leave (va_runTS (As := [.int 0]) (rest := []) ⟨hx, hb, hml, hown, hts⟩ (ct_X1_allow_T hE ⟨_, hR⟩ (x := 0) (rfl)) (va_cwS 1 hts (lw_S q666 q667 q47 q668) rfl rfl rfl (by decide +kernel) ⟨Nat.le_of_ble_eq_true rfl, Nat.le_of_ble_eq_true rfl⟩) (cc_pS hW0) rfl rfl hl.1 rfl (lv_room (Nat.le_of_ble_eq_true rfl)) dX1_current_18 ⟨Nat.le_of_ble_eq_true rfl, Nat.le_of_ble_eq_true rfl⟩) hno (fun st t u x hq h1 h2 h3 => ⟨by rw [h1]; exact hq.1, by rw [h1]; exact hq.2⟩) hL (fun q h => h) Bd.notSynchronized
  · exact absurd c10 h0
set_option maxHeartbeats 4000000 in
set_option maxRecDepth 100000 in
/-- gross -/
theorem ct_X1_gross {l : Launch} {s0 : State} {D : va_G} {DA : Nat → ClassId} {z0 : Nat} {Y : YS} {C : CS} {M : MS} {o : Int64} {H : Heap} (hE : G0 l s0 D DA z0) (hR : GRb s0.heap.size s0.heap D DA z0 Y C M o H) {k wk : Nat} (hk : k < 12) (hw : wk < 12) (h0 : kT C = 0) : Met l yX1_gross (ws_ yX1_gross cX1_gross 3 (some .long)) ({ frames := 3, cells := 0, slots := 0, locals := 65 }) (cP s0 [.ref s0.heap.size, .int (nI k), .int (nI wk)] H) (cQv (.long (kA C 0 k wk)) (fun H1 => H1 = H)) 0 0 (cF s0) := by
  refine Met.ofW (cc := cX1_gross) (maxL := 3) (ret := (some .long)) (by decide) rfl ?_
  intro p e s m args below meth c s₁ Bd hml hv
  obtain ⟨rfl, rfl, hW0⟩ := hv
  have hx := Bd.exec
  have hb := Bd.bytes
  have hr := Bd.returns
  have hts := atoms_spec (ws := (ws_ yX1_gross cX1_gross 3 (some .long))) Bd.pre
  have hts : ∀ w ∈ lw_all, w.before _ s = true := fun w h => hts w (List.mem_cons_of_mem _ h)
  have hown : s.vm.findClass RX1 = some m.cls := findClass_of_methodNamed Bd.named
  have hlocks := Bd.notSynchronized
  have hK := va_K.moved hW0.alike hE.K
  have hL : gx_L s0.heap.size ([] : List Loc) := gx_L0
  have hl := lv_entry ([.ref s0.heap.size, .int (nI k), .int (nI wk)]) (n := 3) (Nat.le_of_ble_eq_true rfl)
  rw [lg_entry_eq]
  generalize (lg_sl ([.ref s0.heap.size, .int (nI k), .int (nI wk)]) ++ List.replicate (3 - (lg_sl ([.ref s0.heap.size, .int (nI k), .int (nI wk)])).length) Slot.unset).toArray = ls at hl ⊢
  have hl : lv_has ls 3 [(0, .ref s0.heap.size), (1, .int (nI k)), (2, .int (nI wk))] := hl
  refine lv_aload_n hx hb dX1_gross_0 rfl (lv_at hl 0 rfl) ?_
  refine lv_iload_n hx hb dX1_gross_1 rfl (lv_at hl 1 rfl) ?_
  refine cc_v (va_runV (b := s0.heap.size) (As := [.int (nI k)]) (rest := []) ⟨hx, hb, hml, hown, hts⟩ (ct_X1_of hE hR hk) (cwV 1 hts (lw_V q536 q538 qs11 q47 q539) rfl rfl rfl (by decide +kernel) ⟨Nat.le_of_ble_eq_true rfl, Nat.le_of_ble_eq_true rfl⟩) (cc_pV hW0 (cc_re hK hR.np (show gcl[0]? = _ from rfl))) rfl rfl hl.1 rfl (lv_room (Nat.le_of_ble_eq_true rfl)) dX1_gross_2 ⟨Nat.le_of_ble_eq_true rfl, Nat.le_of_ble_eq_true rfl⟩) hL (fun H locs hP1 hL => ?_)
  subst hP1
  refine lv_pop hx hb dX1_gross_5 rfl ?_
  refine lv_iload_n hx hb dX1_gross_6 rfl (lv_at hl 2 rfl) ?_
  refine cc_0 (va_runS (As := [.int (nI wk)]) (rest := []) ⟨hx, hb, hml, hown, hts⟩ (ct_X1_week hE (x := nI wk) (in12_n hw)) (va_cwS 1 hts (lw_S q729 q730 q47 q731) rfl rfl rfl (by decide +kernel) ⟨Nat.le_of_ble_eq_true rfl, Nat.le_of_ble_eq_true rfl⟩) (cc_pS hW0) rfl rfl hl.1 rfl (lv_room (Nat.le_of_ble_eq_true rfl)) dX1_gross_7 ⟨Nat.le_of_ble_eq_true rfl, Nat.le_of_ble_eq_true rfl⟩) hL (fun H locs hP1 hL => ?_)
  subst hP1
  refine lv_aload_n hx hb dX1_gross_10 rfl (lv_at hl 0 rfl) ?_
  refine lv_iload_n hx hb dX1_gross_11 rfl (lv_at hl 1 rfl) ?_
  refine cc_v (va_runV (b := s0.heap.size) (As := [.int (nI k)]) (rest := []) ⟨hx, hb, hml, hown, hts⟩ (ct_X1_current hE hR hk h0) (cwV 1 hts (lw_V q794 q796 qs19 q47 q797) rfl rfl rfl (by decide +kernel) ⟨Nat.le_of_ble_eq_true rfl, Nat.le_of_ble_eq_true rfl⟩) (cc_pV hW0 (cc_re hK hR.np (show gcl[0]? = _ from rfl))) rfl rfl hl.1 rfl (lv_room (Nat.le_of_ble_eq_true rfl)) dX1_gross_12 ⟨Nat.le_of_ble_eq_true rfl, Nat.le_of_ble_eq_true rfl⟩) hL (fun H locs hP1 hL => ?_)
  subst hP1
  refine gx_getN (D := D) (cl := gcl) (ci := 8) (v := .ref (aA s0.heap.size 0 k)) (C := RX9) (T := TX9) (N := 19) hx hb hts in_X9 hown hK (hR.itm k hk) rfl 14 (by decide) (hE.nF hW0 q212) (fun _ h9 => h9) rfl dX1_gross_15 ?_
  refine lv_iload_n hx hb dX1_gross_18 rfl (lv_at hl 2 rfl) ?_
  refine gx_lald (n := 12) hx hb hK 0 (hR.arr 0 k (by decide) hk) rfl wk (rfl) (by omega) (by decide) dX1_gross_19 ?_
  exact W.lret (v := (kA C 0 k wk)) hx hb hr (fun t ht hW => ⟨rfl, ht⟩) hL dX1_gross_20
set_option maxHeartbeats 4000000 in
set_option maxRecDepth 100000 in
theorem ct_X1_gross_I {l : Launch} {s0 : State} {D : va_G} {DA : Nat → ClassId} {z0 : Nat} {C : CS} {M : MS} {o : Int64} {H : Heap} (hE : G0 l s0 D DA z0) (hR : RR s0 D DA z0 C M o H) (i w : Int32) (h : (in12 i && in12 w) = false) : MetT l yX1_gross (ws_ yX1_gross cX1_gross 3 (some .long)) ({ frames := 8, cells := 1, slots := 6, locals := 123 }) (cP s0 [.ref s0.heap.size, .int i, .int w] H) (cQT s0 "java/lang/IndexOutOfBoundsException" (fun H1 => RR s0 D DA z0 C M o H1)) 1 6 (cF s0) := by
  refine MetT.ofW (cc := cX1_gross) (maxL := 3) (ret := (some .long)) (by decide) rfl ?_
  intro p e s m args below meth c s₁ Bd hml hv
  obtain ⟨rfl, rfl, hW0⟩ := hv
  have hx := Bd.exec
  have hb := Bd.bytes
  have hr := Bd.returns
  have hts := atoms_spec (ws := (ws_ yX1_gross cX1_gross 3 (some .long))) Bd.pre
  have hno := BodyLoose.noHandlers Bd (hts _ List.mem_cons_self)
  have hts : ∀ w ∈ lw_all, w.before _ s = true := fun w h => hts w (List.mem_cons_of_mem _ h)
  have hown : s.vm.findClass RX1 = some m.cls := findClass_of_methodNamed Bd.named
  have hlocks := Bd.notSynchronized
  have hK := va_K.moved hW0.alike hE.K
  have hL : gx_L s0.heap.size ([] : List Loc) := gx_L0
  obtain ⟨Y, hR⟩ := hR
  have hl := lv_entry ([.ref s0.heap.size, .int i, .int w]) (n := 3) (Nat.le_of_ble_eq_true rfl)
  rw [lg_entry_eq]
  generalize (lg_sl ([.ref s0.heap.size, .int i, .int w]) ++ List.replicate (3 - (lg_sl ([.ref s0.heap.size, .int i, .int w])).length) Slot.unset).toArray = ls at hl ⊢
  have hl : lv_has ls 3 [(0, .ref s0.heap.size), (1, .int i), (2, .int w)] := hl
  cases hcs : in12 i with
  | false =>
    refine lv_aload_n hx hb dX1_gross_0 rfl (lv_at hl 0 rfl) ?_
    refine lv_iload_n hx hb dX1_gross_1 rfl (lv_at hl 1 rfl) ?_
    exact gt_leave (va_runTV (b := s0.heap.size) (As := [.int i]) (rest := []) ⟨hx, hb, hml, hown, hts⟩ (ct_X1_of_T hE ⟨_, hR⟩ (x := i) (hcs)) (cwV 1 hts (lw_V q536 q538 qs11 q47 q539) rfl rfl rfl (by decide +kernel) ⟨Nat.le_of_ble_eq_true rfl, Nat.le_of_ble_eq_true rfl⟩) (cc_pV hW0 (cc_re hK hR.np (show gcl[0]? = _ from rfl))) rfl rfl hl.1 rfl (lv_room (Nat.le_of_ble_eq_true rfl)) dX1_gross_2 ⟨Nat.le_of_ble_eq_true rfl, Nat.le_of_ble_eq_true rfl⟩) hno (fun st t u x hq h1 h2 h3 => ⟨by rw [h1]; exact hq.1, by rw [h1]; exact hq.2⟩) hL (fun q h => h) Bd.notSynchronized
  | true =>
    obtain ⟨k, hk, rfl⟩ := in12_t hcs
    rw [hcs, Bool.true_and] at h
    refine lv_aload_n hx hb dX1_gross_0 rfl (lv_at hl 0 rfl) ?_
    refine lv_iload_n hx hb dX1_gross_1 rfl (lv_at hl 1 rfl) ?_
    refine cc_v (va_runV (b := s0.heap.size) (As := [.int (nI k)]) (rest := []) ⟨hx, hb, hml, hown, hts⟩ (ct_X1_of hE hR hk) (cwV 1 hts (lw_V q536 q538 qs11 q47 q539) rfl rfl rfl (by decide +kernel) ⟨Nat.le_of_ble_eq_true rfl, Nat.le_of_ble_eq_true rfl⟩) (cc_pV hW0 (cc_re hK hR.np (show gcl[0]? = _ from rfl))) rfl rfl hl.1 rfl (lv_room (Nat.le_of_ble_eq_true rfl)) dX1_gross_2 ⟨Nat.le_of_ble_eq_true rfl, Nat.le_of_ble_eq_true rfl⟩) hL (fun H locs hP1 hL => ?_)
    subst hP1
    refine lv_pop hx hb dX1_gross_5 rfl ?_
    refine lv_iload_n hx hb dX1_gross_6 rfl (lv_at hl 2 rfl) ?_
    exact gt_leave (va_runTS (As := [.int w]) (rest := []) ⟨hx, hb, hml, hown, hts⟩ (ct_X1_week_T hE ⟨_, hR⟩ (x := w) (h)) (va_cwS 1 hts (lw_S q729 q730 q47 q731) rfl rfl rfl (by decide +kernel) ⟨Nat.le_of_ble_eq_true rfl, Nat.le_of_ble_eq_true rfl⟩) (cc_pS hW0) rfl rfl hl.1 rfl (lv_room (Nat.le_of_ble_eq_true rfl)) dX1_gross_7 ⟨Nat.le_of_ble_eq_true rfl, Nat.le_of_ble_eq_true rfl⟩) hno (fun st t u x hq h1 h2 h3 => ⟨by rw [h1]; exact hq.1, by rw [h1]; exact hq.2⟩) hL (fun q h => h) Bd.notSynchronized
set_option maxHeartbeats 4000000 in
set_option maxRecDepth 100000 in
theorem ct_X1_gross_S {l : Launch} {s0 : State} {D : va_G} {DA : Nat → ClassId} {z0 : Nat} {C : CS} {M : MS} {o : Int64} {H : Heap} (hE : G0 l s0 D DA z0) (hR : RR s0 D DA z0 C M o H) {k wk : Nat} (hk : k < 12) (hw : wk < 12) (h0 : ¬ kT C = 0) : MetT l yX1_gross (ws_ yX1_gross cX1_gross 3 (some .long)) ({ frames := 8, cells := 1, slots := 6, locals := 124 }) (cP s0 [.ref s0.heap.size, .int (nI k), .int (nI wk)] H) (cQT s0 "java/lang/IllegalStateException" (fun H1 => RR s0 D DA z0 C M o H1)) 1 6 (cF s0) := by
  refine MetT.ofW (cc := cX1_gross) (maxL := 3) (ret := (some .long)) (by decide) rfl ?_
  intro p e s m args below meth c s₁ Bd hml hv
  obtain ⟨rfl, rfl, hW0⟩ := hv
  have hx := Bd.exec
  have hb := Bd.bytes
  have hr := Bd.returns
  have hts := atoms_spec (ws := (ws_ yX1_gross cX1_gross 3 (some .long))) Bd.pre
  have hno := BodyLoose.noHandlers Bd (hts _ List.mem_cons_self)
  have hts : ∀ w ∈ lw_all, w.before _ s = true := fun w h => hts w (List.mem_cons_of_mem _ h)
  have hown : s.vm.findClass RX1 = some m.cls := findClass_of_methodNamed Bd.named
  have hlocks := Bd.notSynchronized
  have hK := va_K.moved hW0.alike hE.K
  have hL : gx_L s0.heap.size ([] : List Loc) := gx_L0
  obtain ⟨Y, hR⟩ := hR
  have hl := lv_entry ([.ref s0.heap.size, .int (nI k), .int (nI wk)]) (n := 3) (Nat.le_of_ble_eq_true rfl)
  rw [lg_entry_eq]
  generalize (lg_sl ([.ref s0.heap.size, .int (nI k), .int (nI wk)]) ++ List.replicate (3 - (lg_sl ([.ref s0.heap.size, .int (nI k), .int (nI wk)])).length) Slot.unset).toArray = ls at hl ⊢
  have hl : lv_has ls 3 [(0, .ref s0.heap.size), (1, .int (nI k)), (2, .int (nI wk))] := hl
  refine lv_aload_n hx hb dX1_gross_0 rfl (lv_at hl 0 rfl) ?_
  refine lv_iload_n hx hb dX1_gross_1 rfl (lv_at hl 1 rfl) ?_
  refine cc_v (va_runV (b := s0.heap.size) (As := [.int (nI k)]) (rest := []) ⟨hx, hb, hml, hown, hts⟩ (ct_X1_of hE hR hk) (cwV 1 hts (lw_V q536 q538 qs11 q47 q539) rfl rfl rfl (by decide +kernel) ⟨Nat.le_of_ble_eq_true rfl, Nat.le_of_ble_eq_true rfl⟩) (cc_pV hW0 (cc_re hK hR.np (show gcl[0]? = _ from rfl))) rfl rfl hl.1 rfl (lv_room (Nat.le_of_ble_eq_true rfl)) dX1_gross_2 ⟨Nat.le_of_ble_eq_true rfl, Nat.le_of_ble_eq_true rfl⟩) hL (fun H locs hP1 hL => ?_)
  subst hP1
  refine lv_pop hx hb dX1_gross_5 rfl ?_
  refine lv_iload_n hx hb dX1_gross_6 rfl (lv_at hl 2 rfl) ?_
  refine cc_0 (va_runS (As := [.int (nI wk)]) (rest := []) ⟨hx, hb, hml, hown, hts⟩ (ct_X1_week hE (x := nI wk) (in12_n hw)) (va_cwS 1 hts (lw_S q729 q730 q47 q731) rfl rfl rfl (by decide +kernel) ⟨Nat.le_of_ble_eq_true rfl, Nat.le_of_ble_eq_true rfl⟩) (cc_pS hW0) rfl rfl hl.1 rfl (lv_room (Nat.le_of_ble_eq_true rfl)) dX1_gross_7 ⟨Nat.le_of_ble_eq_true rfl, Nat.le_of_ble_eq_true rfl⟩) hL (fun H locs hP1 hL => ?_)
  subst hP1
  refine lv_aload_n hx hb dX1_gross_10 rfl (lv_at hl 0 rfl) ?_
  refine lv_iload_n hx hb dX1_gross_11 rfl (lv_at hl 1 rfl) ?_
  exact gt_leave (va_runTV (b := s0.heap.size) (As := [.int (nI k)]) (rest := []) ⟨hx, hb, hml, hown, hts⟩ (ct_X1_current_S hE ⟨_, hR⟩ hk h0) (cwV 1 hts (lw_V q794 q796 qs19 q47 q797) rfl rfl rfl (by decide +kernel) ⟨Nat.le_of_ble_eq_true rfl, Nat.le_of_ble_eq_true rfl⟩) (cc_pV hW0 (cc_re hK hR.np (show gcl[0]? = _ from rfl))) rfl rfl hl.1 rfl (lv_room (Nat.le_of_ble_eq_true rfl)) dX1_gross_12 ⟨Nat.le_of_ble_eq_true rfl, Nat.le_of_ble_eq_true rfl⟩) hno (fun st t u x hq h1 h2 h3 => ⟨by rw [h1]; exact hq.1, by rw [h1]; exact hq.2⟩) hL (fun q h => h) Bd.notSynchronized
set_option maxHeartbeats 4000000 in
set_option maxRecDepth 100000 in
/-- planned -/
theorem ct_X1_planned {l : Launch} {s0 : State} {D : va_G} {DA : Nat → ClassId} {z0 : Nat} {Y : YS} {C : CS} {M : MS} {o : Int64} {H : Heap} (hE : G0 l s0 D DA z0) (hR : GRb s0.heap.size s0.heap D DA z0 Y C M o H) {k wk : Nat} (hk : k < 12) (hw : wk < 12) (h0 : kT C = 0) : Met l yX1_planned (ws_ yX1_planned cX1_planned 3 (some .long)) ({ frames := 3, cells := 0, slots := 0, locals := 65 }) (cP s0 [.ref s0.heap.size, .int (nI k), .int (nI wk)] H) (cQv (.long (kA C 3 k wk)) (fun H1 => H1 = H)) 0 0 (cF s0) := by
  refine Met.ofW (cc := cX1_planned) (maxL := 3) (ret := (some .long)) (by decide) rfl ?_
  intro p e s m args below meth c s₁ Bd hml hv
  obtain ⟨rfl, rfl, hW0⟩ := hv
  have hx := Bd.exec
  have hb := Bd.bytes
  have hr := Bd.returns
  have hts := atoms_spec (ws := (ws_ yX1_planned cX1_planned 3 (some .long))) Bd.pre
  have hts : ∀ w ∈ lw_all, w.before _ s = true := fun w h => hts w (List.mem_cons_of_mem _ h)
  have hown : s.vm.findClass RX1 = some m.cls := findClass_of_methodNamed Bd.named
  have hlocks := Bd.notSynchronized
  have hK := va_K.moved hW0.alike hE.K
  have hL : gx_L s0.heap.size ([] : List Loc) := gx_L0
  have hl := lv_entry ([.ref s0.heap.size, .int (nI k), .int (nI wk)]) (n := 3) (Nat.le_of_ble_eq_true rfl)
  rw [lg_entry_eq]
  generalize (lg_sl ([.ref s0.heap.size, .int (nI k), .int (nI wk)]) ++ List.replicate (3 - (lg_sl ([.ref s0.heap.size, .int (nI k), .int (nI wk)])).length) Slot.unset).toArray = ls at hl ⊢
  have hl : lv_has ls 3 [(0, .ref s0.heap.size), (1, .int (nI k)), (2, .int (nI wk))] := hl
  refine lv_aload_n hx hb dX1_planned_0 rfl (lv_at hl 0 rfl) ?_
  refine lv_iload_n hx hb dX1_planned_1 rfl (lv_at hl 1 rfl) ?_
  refine cc_v (va_runV (b := s0.heap.size) (As := [.int (nI k)]) (rest := []) ⟨hx, hb, hml, hown, hts⟩ (ct_X1_of hE hR hk) (cwV 1 hts (lw_V q536 q538 qs11 q47 q539) rfl rfl rfl (by decide +kernel) ⟨Nat.le_of_ble_eq_true rfl, Nat.le_of_ble_eq_true rfl⟩) (cc_pV hW0 (cc_re hK hR.np (show gcl[0]? = _ from rfl))) rfl rfl hl.1 rfl (lv_room (Nat.le_of_ble_eq_true rfl)) dX1_planned_2 ⟨Nat.le_of_ble_eq_true rfl, Nat.le_of_ble_eq_true rfl⟩) hL (fun H locs hP1 hL => ?_)
  subst hP1
  refine lv_pop hx hb dX1_planned_5 rfl ?_
  refine lv_iload_n hx hb dX1_planned_6 rfl (lv_at hl 2 rfl) ?_
  refine cc_0 (va_runS (As := [.int (nI wk)]) (rest := []) ⟨hx, hb, hml, hown, hts⟩ (ct_X1_week hE (x := nI wk) (in12_n hw)) (va_cwS 1 hts (lw_S q729 q730 q47 q731) rfl rfl rfl (by decide +kernel) ⟨Nat.le_of_ble_eq_true rfl, Nat.le_of_ble_eq_true rfl⟩) (cc_pS hW0) rfl rfl hl.1 rfl (lv_room (Nat.le_of_ble_eq_true rfl)) dX1_planned_7 ⟨Nat.le_of_ble_eq_true rfl, Nat.le_of_ble_eq_true rfl⟩) hL (fun H locs hP1 hL => ?_)
  subst hP1
  refine lv_aload_n hx hb dX1_planned_10 rfl (lv_at hl 0 rfl) ?_
  refine lv_iload_n hx hb dX1_planned_11 rfl (lv_at hl 1 rfl) ?_
  refine cc_v (va_runV (b := s0.heap.size) (As := [.int (nI k)]) (rest := []) ⟨hx, hb, hml, hown, hts⟩ (ct_X1_current hE hR hk h0) (cwV 1 hts (lw_V q794 q796 qs19 q47 q797) rfl rfl rfl (by decide +kernel) ⟨Nat.le_of_ble_eq_true rfl, Nat.le_of_ble_eq_true rfl⟩) (cc_pV hW0 (cc_re hK hR.np (show gcl[0]? = _ from rfl))) rfl rfl hl.1 rfl (lv_room (Nat.le_of_ble_eq_true rfl)) dX1_planned_12 ⟨Nat.le_of_ble_eq_true rfl, Nat.le_of_ble_eq_true rfl⟩) hL (fun H locs hP1 hL => ?_)
  subst hP1
  refine gx_getN (D := D) (cl := gcl) (ci := 8) (v := .ref (aA s0.heap.size 3 k)) (C := RX9) (T := TX9) (N := 19) hx hb hts in_X9 hown hK (hR.itm k hk) rfl 17 (by decide) (hE.nF hW0 q218) (fun _ h9 => h9) rfl dX1_planned_15 ?_
  refine lv_iload_n hx hb dX1_planned_18 rfl (lv_at hl 2 rfl) ?_
  refine gx_lald (n := 12) hx hb hK 0 (hR.arr 3 k (by decide) hk) rfl wk (rfl) (by omega) (by decide) dX1_planned_19 ?_
  exact W.lret (v := (kA C 3 k wk)) hx hb hr (fun t ht hW => ⟨rfl, ht⟩) hL dX1_planned_20
set_option maxHeartbeats 4000000 in
set_option maxRecDepth 100000 in
theorem ct_X1_planned_I {l : Launch} {s0 : State} {D : va_G} {DA : Nat → ClassId} {z0 : Nat} {C : CS} {M : MS} {o : Int64} {H : Heap} (hE : G0 l s0 D DA z0) (hR : RR s0 D DA z0 C M o H) (i w : Int32) (h : (in12 i && in12 w) = false) : MetT l yX1_planned (ws_ yX1_planned cX1_planned 3 (some .long)) ({ frames := 8, cells := 1, slots := 6, locals := 123 }) (cP s0 [.ref s0.heap.size, .int i, .int w] H) (cQT s0 "java/lang/IndexOutOfBoundsException" (fun H1 => RR s0 D DA z0 C M o H1)) 1 6 (cF s0) := by
  refine MetT.ofW (cc := cX1_planned) (maxL := 3) (ret := (some .long)) (by decide) rfl ?_
  intro p e s m args below meth c s₁ Bd hml hv
  obtain ⟨rfl, rfl, hW0⟩ := hv
  have hx := Bd.exec
  have hb := Bd.bytes
  have hr := Bd.returns
  have hts := atoms_spec (ws := (ws_ yX1_planned cX1_planned 3 (some .long))) Bd.pre
  have hno := BodyLoose.noHandlers Bd (hts _ List.mem_cons_self)
  have hts : ∀ w ∈ lw_all, w.before _ s = true := fun w h => hts w (List.mem_cons_of_mem _ h)
  have hown : s.vm.findClass RX1 = some m.cls := findClass_of_methodNamed Bd.named
  have hlocks := Bd.notSynchronized
  have hK := va_K.moved hW0.alike hE.K
  have hL : gx_L s0.heap.size ([] : List Loc) := gx_L0
  obtain ⟨Y, hR⟩ := hR
  have hl := lv_entry ([.ref s0.heap.size, .int i, .int w]) (n := 3) (Nat.le_of_ble_eq_true rfl)
  rw [lg_entry_eq]
  generalize (lg_sl ([.ref s0.heap.size, .int i, .int w]) ++ List.replicate (3 - (lg_sl ([.ref s0.heap.size, .int i, .int w])).length) Slot.unset).toArray = ls at hl ⊢
  have hl : lv_has ls 3 [(0, .ref s0.heap.size), (1, .int i), (2, .int w)] := hl
  cases hcs : in12 i with
  | false =>
    refine lv_aload_n hx hb dX1_planned_0 rfl (lv_at hl 0 rfl) ?_
    refine lv_iload_n hx hb dX1_planned_1 rfl (lv_at hl 1 rfl) ?_
    exact gt_leave (va_runTV (b := s0.heap.size) (As := [.int i]) (rest := []) ⟨hx, hb, hml, hown, hts⟩ (ct_X1_of_T hE ⟨_, hR⟩ (x := i) (hcs)) (cwV 1 hts (lw_V q536 q538 qs11 q47 q539) rfl rfl rfl (by decide +kernel) ⟨Nat.le_of_ble_eq_true rfl, Nat.le_of_ble_eq_true rfl⟩) (cc_pV hW0 (cc_re hK hR.np (show gcl[0]? = _ from rfl))) rfl rfl hl.1 rfl (lv_room (Nat.le_of_ble_eq_true rfl)) dX1_planned_2 ⟨Nat.le_of_ble_eq_true rfl, Nat.le_of_ble_eq_true rfl⟩) hno (fun st t u x hq h1 h2 h3 => ⟨by rw [h1]; exact hq.1, by rw [h1]; exact hq.2⟩) hL (fun q h => h) Bd.notSynchronized
  | true =>
    obtain ⟨k, hk, rfl⟩ := in12_t hcs
    rw [hcs, Bool.true_and] at h
    refine lv_aload_n hx hb dX1_planned_0 rfl (lv_at hl 0 rfl) ?_
    refine lv_iload_n hx hb dX1_planned_1 rfl (lv_at hl 1 rfl) ?_
    refine cc_v (va_runV (b := s0.heap.size) (As := [.int (nI k)]) (rest := []) ⟨hx, hb, hml, hown, hts⟩ (ct_X1_of hE hR hk) (cwV 1 hts (lw_V q536 q538 qs11 q47 q539) rfl rfl rfl (by decide +kernel) ⟨Nat.le_of_ble_eq_true rfl, Nat.le_of_ble_eq_true rfl⟩) (cc_pV hW0 (cc_re hK hR.np (show gcl[0]? = _ from rfl))) rfl rfl hl.1 rfl (lv_room (Nat.le_of_ble_eq_true rfl)) dX1_planned_2 ⟨Nat.le_of_ble_eq_true rfl, Nat.le_of_ble_eq_true rfl⟩) hL (fun H locs hP1 hL => ?_)
    subst hP1
    refine lv_pop hx hb dX1_planned_5 rfl ?_
    refine lv_iload_n hx hb dX1_planned_6 rfl (lv_at hl 2 rfl) ?_
    exact gt_leave (va_runTS (As := [.int w]) (rest := []) ⟨hx, hb, hml, hown, hts⟩ (ct_X1_week_T hE ⟨_, hR⟩ (x := w) (h)) (va_cwS 1 hts (lw_S q729 q730 q47 q731) rfl rfl rfl (by decide +kernel) ⟨Nat.le_of_ble_eq_true rfl, Nat.le_of_ble_eq_true rfl⟩) (cc_pS hW0) rfl rfl hl.1 rfl (lv_room (Nat.le_of_ble_eq_true rfl)) dX1_planned_7 ⟨Nat.le_of_ble_eq_true rfl, Nat.le_of_ble_eq_true rfl⟩) hno (fun st t u x hq h1 h2 h3 => ⟨by rw [h1]; exact hq.1, by rw [h1]; exact hq.2⟩) hL (fun q h => h) Bd.notSynchronized
set_option maxHeartbeats 4000000 in
set_option maxRecDepth 100000 in
theorem ct_X1_planned_S {l : Launch} {s0 : State} {D : va_G} {DA : Nat → ClassId} {z0 : Nat} {C : CS} {M : MS} {o : Int64} {H : Heap} (hE : G0 l s0 D DA z0) (hR : RR s0 D DA z0 C M o H) {k wk : Nat} (hk : k < 12) (hw : wk < 12) (h0 : ¬ kT C = 0) : MetT l yX1_planned (ws_ yX1_planned cX1_planned 3 (some .long)) ({ frames := 8, cells := 1, slots := 6, locals := 124 }) (cP s0 [.ref s0.heap.size, .int (nI k), .int (nI wk)] H) (cQT s0 "java/lang/IllegalStateException" (fun H1 => RR s0 D DA z0 C M o H1)) 1 6 (cF s0) := by
  refine MetT.ofW (cc := cX1_planned) (maxL := 3) (ret := (some .long)) (by decide) rfl ?_
  intro p e s m args below meth c s₁ Bd hml hv
  obtain ⟨rfl, rfl, hW0⟩ := hv
  have hx := Bd.exec
  have hb := Bd.bytes
  have hr := Bd.returns
  have hts := atoms_spec (ws := (ws_ yX1_planned cX1_planned 3 (some .long))) Bd.pre
  have hno := BodyLoose.noHandlers Bd (hts _ List.mem_cons_self)
  have hts : ∀ w ∈ lw_all, w.before _ s = true := fun w h => hts w (List.mem_cons_of_mem _ h)
  have hown : s.vm.findClass RX1 = some m.cls := findClass_of_methodNamed Bd.named
  have hlocks := Bd.notSynchronized
  have hK := va_K.moved hW0.alike hE.K
  have hL : gx_L s0.heap.size ([] : List Loc) := gx_L0
  obtain ⟨Y, hR⟩ := hR
  have hl := lv_entry ([.ref s0.heap.size, .int (nI k), .int (nI wk)]) (n := 3) (Nat.le_of_ble_eq_true rfl)
  rw [lg_entry_eq]
  generalize (lg_sl ([.ref s0.heap.size, .int (nI k), .int (nI wk)]) ++ List.replicate (3 - (lg_sl ([.ref s0.heap.size, .int (nI k), .int (nI wk)])).length) Slot.unset).toArray = ls at hl ⊢
  have hl : lv_has ls 3 [(0, .ref s0.heap.size), (1, .int (nI k)), (2, .int (nI wk))] := hl
  refine lv_aload_n hx hb dX1_planned_0 rfl (lv_at hl 0 rfl) ?_
  refine lv_iload_n hx hb dX1_planned_1 rfl (lv_at hl 1 rfl) ?_
  refine cc_v (va_runV (b := s0.heap.size) (As := [.int (nI k)]) (rest := []) ⟨hx, hb, hml, hown, hts⟩ (ct_X1_of hE hR hk) (cwV 1 hts (lw_V q536 q538 qs11 q47 q539) rfl rfl rfl (by decide +kernel) ⟨Nat.le_of_ble_eq_true rfl, Nat.le_of_ble_eq_true rfl⟩) (cc_pV hW0 (cc_re hK hR.np (show gcl[0]? = _ from rfl))) rfl rfl hl.1 rfl (lv_room (Nat.le_of_ble_eq_true rfl)) dX1_planned_2 ⟨Nat.le_of_ble_eq_true rfl, Nat.le_of_ble_eq_true rfl⟩) hL (fun H locs hP1 hL => ?_)
  subst hP1
  refine lv_pop hx hb dX1_planned_5 rfl ?_
  refine lv_iload_n hx hb dX1_planned_6 rfl (lv_at hl 2 rfl) ?_
  refine cc_0 (va_runS (As := [.int (nI wk)]) (rest := []) ⟨hx, hb, hml, hown, hts⟩ (ct_X1_week hE (x := nI wk) (in12_n hw)) (va_cwS 1 hts (lw_S q729 q730 q47 q731) rfl rfl rfl (by decide +kernel) ⟨Nat.le_of_ble_eq_true rfl, Nat.le_of_ble_eq_true rfl⟩) (cc_pS hW0) rfl rfl hl.1 rfl (lv_room (Nat.le_of_ble_eq_true rfl)) dX1_planned_7 ⟨Nat.le_of_ble_eq_true rfl, Nat.le_of_ble_eq_true rfl⟩) hL (fun H locs hP1 hL => ?_)
  subst hP1
  refine lv_aload_n hx hb dX1_planned_10 rfl (lv_at hl 0 rfl) ?_
  refine lv_iload_n hx hb dX1_planned_11 rfl (lv_at hl 1 rfl) ?_
  exact gt_leave (va_runTV (b := s0.heap.size) (As := [.int (nI k)]) (rest := []) ⟨hx, hb, hml, hown, hts⟩ (ct_X1_current_S hE ⟨_, hR⟩ hk h0) (cwV 1 hts (lw_V q794 q796 qs19 q47 q797) rfl rfl rfl (by decide +kernel) ⟨Nat.le_of_ble_eq_true rfl, Nat.le_of_ble_eq_true rfl⟩) (cc_pV hW0 (cc_re hK hR.np (show gcl[0]? = _ from rfl))) rfl rfl hl.1 rfl (lv_room (Nat.le_of_ble_eq_true rfl)) dX1_planned_12 ⟨Nat.le_of_ble_eq_true rfl, Nat.le_of_ble_eq_true rfl⟩) hno (fun st t u x hq h1 h2 h3 => ⟨by rw [h1]; exact hq.1, by rw [h1]; exact hq.2⟩) hL (fun q h => h) Bd.notSynchronized
set_option maxHeartbeats 4000000 in
set_option maxRecDepth 100000 in
/-- balance -/
theorem ct_X1_balance {l : Launch} {s0 : State} {D : va_G} {DA : Nat → ClassId} {z0 : Nat} {Y : YS} {C : CS} {M : MS} {o : Int64} {H : Heap} (hE : G0 l s0 D DA z0) (hR : GRb s0.heap.size s0.heap D DA z0 Y C M o H) {k wk : Nat} (hk : k < 12) (hw : wk < 12) (h0 : kT C = 0) : Met l yX1_balance (ws_ yX1_balance cX1_balance 3 (some .long)) ({ frames := 3, cells := 0, slots := 0, locals := 65 }) (cP s0 [.ref s0.heap.size, .int (nI k), .int (nI wk)] H) (cQv (.long (kA C 4 k wk)) (fun H1 => H1 = H)) 0 0 (cF s0) := by
  refine Met.ofW (cc := cX1_balance) (maxL := 3) (ret := (some .long)) (by decide) rfl ?_
  intro p e s m args below meth c s₁ Bd hml hv
  obtain ⟨rfl, rfl, hW0⟩ := hv
  have hx := Bd.exec
  have hb := Bd.bytes
  have hr := Bd.returns
  have hts := atoms_spec (ws := (ws_ yX1_balance cX1_balance 3 (some .long))) Bd.pre
  have hts : ∀ w ∈ lw_all, w.before _ s = true := fun w h => hts w (List.mem_cons_of_mem _ h)
  have hown : s.vm.findClass RX1 = some m.cls := findClass_of_methodNamed Bd.named
  have hlocks := Bd.notSynchronized
  have hK := va_K.moved hW0.alike hE.K
  have hL : gx_L s0.heap.size ([] : List Loc) := gx_L0
  have hl := lv_entry ([.ref s0.heap.size, .int (nI k), .int (nI wk)]) (n := 3) (Nat.le_of_ble_eq_true rfl)
  rw [lg_entry_eq]
  generalize (lg_sl ([.ref s0.heap.size, .int (nI k), .int (nI wk)]) ++ List.replicate (3 - (lg_sl ([.ref s0.heap.size, .int (nI k), .int (nI wk)])).length) Slot.unset).toArray = ls at hl ⊢
  have hl : lv_has ls 3 [(0, .ref s0.heap.size), (1, .int (nI k)), (2, .int (nI wk))] := hl
  refine lv_aload_n hx hb dX1_balance_0 rfl (lv_at hl 0 rfl) ?_
  refine lv_iload_n hx hb dX1_balance_1 rfl (lv_at hl 1 rfl) ?_
  refine cc_v (va_runV (b := s0.heap.size) (As := [.int (nI k)]) (rest := []) ⟨hx, hb, hml, hown, hts⟩ (ct_X1_of hE hR hk) (cwV 1 hts (lw_V q536 q538 qs11 q47 q539) rfl rfl rfl (by decide +kernel) ⟨Nat.le_of_ble_eq_true rfl, Nat.le_of_ble_eq_true rfl⟩) (cc_pV hW0 (cc_re hK hR.np (show gcl[0]? = _ from rfl))) rfl rfl hl.1 rfl (lv_room (Nat.le_of_ble_eq_true rfl)) dX1_balance_2 ⟨Nat.le_of_ble_eq_true rfl, Nat.le_of_ble_eq_true rfl⟩) hL (fun H locs hP1 hL => ?_)
  subst hP1
  refine lv_pop hx hb dX1_balance_5 rfl ?_
  refine lv_iload_n hx hb dX1_balance_6 rfl (lv_at hl 2 rfl) ?_
  refine cc_0 (va_runS (As := [.int (nI wk)]) (rest := []) ⟨hx, hb, hml, hown, hts⟩ (ct_X1_week hE (x := nI wk) (in12_n hw)) (va_cwS 1 hts (lw_S q729 q730 q47 q731) rfl rfl rfl (by decide +kernel) ⟨Nat.le_of_ble_eq_true rfl, Nat.le_of_ble_eq_true rfl⟩) (cc_pS hW0) rfl rfl hl.1 rfl (lv_room (Nat.le_of_ble_eq_true rfl)) dX1_balance_7 ⟨Nat.le_of_ble_eq_true rfl, Nat.le_of_ble_eq_true rfl⟩) hL (fun H locs hP1 hL => ?_)
  subst hP1
  refine lv_aload_n hx hb dX1_balance_10 rfl (lv_at hl 0 rfl) ?_
  refine lv_iload_n hx hb dX1_balance_11 rfl (lv_at hl 1 rfl) ?_
  refine cc_v (va_runV (b := s0.heap.size) (As := [.int (nI k)]) (rest := []) ⟨hx, hb, hml, hown, hts⟩ (ct_X1_current hE hR hk h0) (cwV 1 hts (lw_V q794 q796 qs19 q47 q797) rfl rfl rfl (by decide +kernel) ⟨Nat.le_of_ble_eq_true rfl, Nat.le_of_ble_eq_true rfl⟩) (cc_pV hW0 (cc_re hK hR.np (show gcl[0]? = _ from rfl))) rfl rfl hl.1 rfl (lv_room (Nat.le_of_ble_eq_true rfl)) dX1_balance_12 ⟨Nat.le_of_ble_eq_true rfl, Nat.le_of_ble_eq_true rfl⟩) hL (fun H locs hP1 hL => ?_)
  subst hP1
  refine gx_getN (D := D) (cl := gcl) (ci := 8) (v := .ref (aA s0.heap.size 4 k)) (C := RX9) (T := TX9) (N := 19) hx hb hts in_X9 hown hK (hR.itm k hk) rfl 18 (by decide) (hE.nF hW0 q220) (fun _ h9 => h9) rfl dX1_balance_15 ?_
  refine lv_iload_n hx hb dX1_balance_18 rfl (lv_at hl 2 rfl) ?_
  refine gx_lald (n := 12) hx hb hK 0 (hR.arr 4 k (by decide) hk) rfl wk (rfl) (by omega) (by decide) dX1_balance_19 ?_
  exact W.lret (v := (kA C 4 k wk)) hx hb hr (fun t ht hW => ⟨rfl, ht⟩) hL dX1_balance_20
set_option maxHeartbeats 4000000 in
set_option maxRecDepth 100000 in
theorem ct_X1_balance_I {l : Launch} {s0 : State} {D : va_G} {DA : Nat → ClassId} {z0 : Nat} {C : CS} {M : MS} {o : Int64} {H : Heap} (hE : G0 l s0 D DA z0) (hR : RR s0 D DA z0 C M o H) (i w : Int32) (h : (in12 i && in12 w) = false) : MetT l yX1_balance (ws_ yX1_balance cX1_balance 3 (some .long)) ({ frames := 8, cells := 1, slots := 6, locals := 123 }) (cP s0 [.ref s0.heap.size, .int i, .int w] H) (cQT s0 "java/lang/IndexOutOfBoundsException" (fun H1 => RR s0 D DA z0 C M o H1)) 1 6 (cF s0) := by
  refine MetT.ofW (cc := cX1_balance) (maxL := 3) (ret := (some .long)) (by decide) rfl ?_
  intro p e s m args below meth c s₁ Bd hml hv
  obtain ⟨rfl, rfl, hW0⟩ := hv
  have hx := Bd.exec
  have hb := Bd.bytes
  have hr := Bd.returns
  have hts := atoms_spec (ws := (ws_ yX1_balance cX1_balance 3 (some .long))) Bd.pre
  have hno := BodyLoose.noHandlers Bd (hts _ List.mem_cons_self)
  have hts : ∀ w ∈ lw_all, w.before _ s = true := fun w h => hts w (List.mem_cons_of_mem _ h)
  have hown : s.vm.findClass RX1 = some m.cls := findClass_of_methodNamed Bd.named
  have hlocks := Bd.notSynchronized
  have hK := va_K.moved hW0.alike hE.K
  have hL : gx_L s0.heap.size ([] : List Loc) := gx_L0
  obtain ⟨Y, hR⟩ := hR
  have hl := lv_entry ([.ref s0.heap.size, .int i, .int w]) (n := 3) (Nat.le_of_ble_eq_true rfl)
  rw [lg_entry_eq]
  generalize (lg_sl ([.ref s0.heap.size, .int i, .int w]) ++ List.replicate (3 - (lg_sl ([.ref s0.heap.size, .int i, .int w])).length) Slot.unset).toArray = ls at hl ⊢
  have hl : lv_has ls 3 [(0, .ref s0.heap.size), (1, .int i), (2, .int w)] := hl
  cases hcs : in12 i with
  | false =>
    refine lv_aload_n hx hb dX1_balance_0 rfl (lv_at hl 0 rfl) ?_
    refine lv_iload_n hx hb dX1_balance_1 rfl (lv_at hl 1 rfl) ?_
    exact gt_leave (va_runTV (b := s0.heap.size) (As := [.int i]) (rest := []) ⟨hx, hb, hml, hown, hts⟩ (ct_X1_of_T hE ⟨_, hR⟩ (x := i) (hcs)) (cwV 1 hts (lw_V q536 q538 qs11 q47 q539) rfl rfl rfl (by decide +kernel) ⟨Nat.le_of_ble_eq_true rfl, Nat.le_of_ble_eq_true rfl⟩) (cc_pV hW0 (cc_re hK hR.np (show gcl[0]? = _ from rfl))) rfl rfl hl.1 rfl (lv_room (Nat.le_of_ble_eq_true rfl)) dX1_balance_2 ⟨Nat.le_of_ble_eq_true rfl, Nat.le_of_ble_eq_true rfl⟩) hno (fun st t u x hq h1 h2 h3 => ⟨by rw [h1]; exact hq.1, by rw [h1]; exact hq.2⟩) hL (fun q h => h) Bd.notSynchronized
  | true =>
    obtain ⟨k, hk, rfl⟩ := in12_t hcs
    rw [hcs, Bool.true_and] at h
    refine lv_aload_n hx hb dX1_balance_0 rfl (lv_at hl 0 rfl) ?_
    refine lv_iload_n hx hb dX1_balance_1 rfl (lv_at hl 1 rfl) ?_
    refine cc_v (va_runV (b := s0.heap.size) (As := [.int (nI k)]) (rest := []) ⟨hx, hb, hml, hown, hts⟩ (ct_X1_of hE hR hk) (cwV 1 hts (lw_V q536 q538 qs11 q47 q539) rfl rfl rfl (by decide +kernel) ⟨Nat.le_of_ble_eq_true rfl, Nat.le_of_ble_eq_true rfl⟩) (cc_pV hW0 (cc_re hK hR.np (show gcl[0]? = _ from rfl))) rfl rfl hl.1 rfl (lv_room (Nat.le_of_ble_eq_true rfl)) dX1_balance_2 ⟨Nat.le_of_ble_eq_true rfl, Nat.le_of_ble_eq_true rfl⟩) hL (fun H locs hP1 hL => ?_)
    subst hP1
    refine lv_pop hx hb dX1_balance_5 rfl ?_
    refine lv_iload_n hx hb dX1_balance_6 rfl (lv_at hl 2 rfl) ?_
    exact gt_leave (va_runTS (As := [.int w]) (rest := []) ⟨hx, hb, hml, hown, hts⟩ (ct_X1_week_T hE ⟨_, hR⟩ (x := w) (h)) (va_cwS 1 hts (lw_S q729 q730 q47 q731) rfl rfl rfl (by decide +kernel) ⟨Nat.le_of_ble_eq_true rfl, Nat.le_of_ble_eq_true rfl⟩) (cc_pS hW0) rfl rfl hl.1 rfl (lv_room (Nat.le_of_ble_eq_true rfl)) dX1_balance_7 ⟨Nat.le_of_ble_eq_true rfl, Nat.le_of_ble_eq_true rfl⟩) hno (fun st t u x hq h1 h2 h3 => ⟨by rw [h1]; exact hq.1, by rw [h1]; exact hq.2⟩) hL (fun q h => h) Bd.notSynchronized
set_option maxHeartbeats 4000000 in
set_option maxRecDepth 100000 in
theorem ct_X1_balance_S {l : Launch} {s0 : State} {D : va_G} {DA : Nat → ClassId} {z0 : Nat} {C : CS} {M : MS} {o : Int64} {H : Heap} (hE : G0 l s0 D DA z0) (hR : RR s0 D DA z0 C M o H) {k wk : Nat} (hk : k < 12) (hw : wk < 12) (h0 : ¬ kT C = 0) : MetT l yX1_balance (ws_ yX1_balance cX1_balance 3 (some .long)) ({ frames := 8, cells := 1, slots := 6, locals := 124 }) (cP s0 [.ref s0.heap.size, .int (nI k), .int (nI wk)] H) (cQT s0 "java/lang/IllegalStateException" (fun H1 => RR s0 D DA z0 C M o H1)) 1 6 (cF s0) := by
  refine MetT.ofW (cc := cX1_balance) (maxL := 3) (ret := (some .long)) (by decide) rfl ?_
  intro p e s m args below meth c s₁ Bd hml hv
  obtain ⟨rfl, rfl, hW0⟩ := hv
  have hx := Bd.exec
  have hb := Bd.bytes
  have hr := Bd.returns
  have hts := atoms_spec (ws := (ws_ yX1_balance cX1_balance 3 (some .long))) Bd.pre
  have hno := BodyLoose.noHandlers Bd (hts _ List.mem_cons_self)
  have hts : ∀ w ∈ lw_all, w.before _ s = true := fun w h => hts w (List.mem_cons_of_mem _ h)
  have hown : s.vm.findClass RX1 = some m.cls := findClass_of_methodNamed Bd.named
  have hlocks := Bd.notSynchronized
  have hK := va_K.moved hW0.alike hE.K
  have hL : gx_L s0.heap.size ([] : List Loc) := gx_L0
  obtain ⟨Y, hR⟩ := hR
  have hl := lv_entry ([.ref s0.heap.size, .int (nI k), .int (nI wk)]) (n := 3) (Nat.le_of_ble_eq_true rfl)
  rw [lg_entry_eq]
  generalize (lg_sl ([.ref s0.heap.size, .int (nI k), .int (nI wk)]) ++ List.replicate (3 - (lg_sl ([.ref s0.heap.size, .int (nI k), .int (nI wk)])).length) Slot.unset).toArray = ls at hl ⊢
  have hl : lv_has ls 3 [(0, .ref s0.heap.size), (1, .int (nI k)), (2, .int (nI wk))] := hl
  refine lv_aload_n hx hb dX1_balance_0 rfl (lv_at hl 0 rfl) ?_
  refine lv_iload_n hx hb dX1_balance_1 rfl (lv_at hl 1 rfl) ?_
  refine cc_v (va_runV (b := s0.heap.size) (As := [.int (nI k)]) (rest := []) ⟨hx, hb, hml, hown, hts⟩ (ct_X1_of hE hR hk) (cwV 1 hts (lw_V q536 q538 qs11 q47 q539) rfl rfl rfl (by decide +kernel) ⟨Nat.le_of_ble_eq_true rfl, Nat.le_of_ble_eq_true rfl⟩) (cc_pV hW0 (cc_re hK hR.np (show gcl[0]? = _ from rfl))) rfl rfl hl.1 rfl (lv_room (Nat.le_of_ble_eq_true rfl)) dX1_balance_2 ⟨Nat.le_of_ble_eq_true rfl, Nat.le_of_ble_eq_true rfl⟩) hL (fun H locs hP1 hL => ?_)
  subst hP1
  refine lv_pop hx hb dX1_balance_5 rfl ?_
  refine lv_iload_n hx hb dX1_balance_6 rfl (lv_at hl 2 rfl) ?_
  refine cc_0 (va_runS (As := [.int (nI wk)]) (rest := []) ⟨hx, hb, hml, hown, hts⟩ (ct_X1_week hE (x := nI wk) (in12_n hw)) (va_cwS 1 hts (lw_S q729 q730 q47 q731) rfl rfl rfl (by decide +kernel) ⟨Nat.le_of_ble_eq_true rfl, Nat.le_of_ble_eq_true rfl⟩) (cc_pS hW0) rfl rfl hl.1 rfl (lv_room (Nat.le_of_ble_eq_true rfl)) dX1_balance_7 ⟨Nat.le_of_ble_eq_true rfl, Nat.le_of_ble_eq_true rfl⟩) hL (fun H locs hP1 hL => ?_)
  subst hP1
  refine lv_aload_n hx hb dX1_balance_10 rfl (lv_at hl 0 rfl) ?_
  refine lv_iload_n hx hb dX1_balance_11 rfl (lv_at hl 1 rfl) ?_
  exact gt_leave (va_runTV (b := s0.heap.size) (As := [.int (nI k)]) (rest := []) ⟨hx, hb, hml, hown, hts⟩ (ct_X1_current_S hE ⟨_, hR⟩ hk h0) (cwV 1 hts (lw_V q794 q796 qs19 q47 q797) rfl rfl rfl (by decide +kernel) ⟨Nat.le_of_ble_eq_true rfl, Nat.le_of_ble_eq_true rfl⟩) (cc_pV hW0 (cc_re hK hR.np (show gcl[0]? = _ from rfl))) rfl rfl hl.1 rfl (lv_room (Nat.le_of_ble_eq_true rfl)) dX1_balance_12 ⟨Nat.le_of_ble_eq_true rfl, Nat.le_of_ble_eq_true rfl⟩) hno (fun st t u x hq h1 h2 h3 => ⟨by rw [h1]; exact hq.1, by rw [h1]; exact hq.2⟩) hL (fun q h => h) Bd.notSynchronized
