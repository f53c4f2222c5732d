theorem hold_N {h0 H H1 : Heap} (hN : gx_N H H1) (h : ∀ q, q < h0.size → H[q]? = h0[q]?) (hle : h0.size ≤ H.size) : ∀ q, q < h0.size → H1[q]? = h0[q]? := fun q hq => (hN.2 q (by omega)).trans (h q hq)
theorem hle_N {h0 H H1 : Heap} (hN : gx_N H H1) (hle : h0.size ≤ H.size) : h0.size ≤ H1.size := by rw [hN.1]; omega
theorem hold_U {h0 H H1 : Heap} {a : Nat} (hU : gx_U a H H1) (h : ∀ q, q < h0.size → H[q]? = h0[q]?) (ha : h0.size ≤ a) : ∀ q, q < h0.size → H1[q]? = h0[q]? := fun q hq => (hU.2 q (by omega)).trans (h q hq)
theorem hle_U {h0 H H1 : Heap} {a : Nat} (hU : gx_U a H H1) (hle : h0.size ≤ H.size) : h0.size ≤ H1.size := by rw [hU.1]; exact hle
theorem hold_G {h0 H H1 : Heap} {k a : Nat} (hG : gG k a H H1) (h : ∀ q, q < h0.size → H[q]? = h0[q]?) (hle : h0.size ≤ H.size) (ha : h0.size ≤ a) : ∀ q, q < h0.size → H1[q]? = h0[q]? := fun q hq => (hG.2 q (by omega) (by omega)).trans (h q hq)
theorem hle_G {h0 H H1 : Heap} {k a : Nat} (hG : gG k a H H1) (hle : h0.size ≤ H.size) : h0.size ≤ H1.size := by rw [hG.1]; omega
set_option maxHeartbeats 4000000 in
set_option maxRecDepth 100000 in
/-- X3 constructor -/
theorem ct_X3_init {l : Launch} {s0 : State} {D : va_G} {DA : Nat → ClassId} {z0 : Nat} {H : Heap} (hE : G0 l s0 D DA z0) {a : Nat} : Met l yX3_init (ws_ yX3_init cX3_init 1 none) ({ frames := 1, cells := 0, slots := 0, locals := 12 }) (cP s0 [.ref a] H) (cQ0 (fun H1 => H1 = H)) 0 0 (cF s0) := by
  refine Met.ofW (cc := cX3_init) (maxL := 1) (ret := none) (by decide) rfl ?_
  intro p e s m args below meth c s₁ Bd hml hv
  obtain ⟨rfl, rfl, hW0⟩ := hv
  have hx := Bd.exec
  have hb := Bd.bytes
  have hr := Bd.returns
  have hts := atoms_spec (ws := (ws_ yX3_init cX3_init 1 none)) Bd.pre
  have hts : ∀ w ∈ lw_all, w.before _ s = true := fun w h => hts w (List.mem_cons_of_mem _ h)
  have hown : s.vm.findClass RX3 = some m.cls := findClass_of_methodNamed Bd.named
  have hlocks := Bd.notSynchronized
  have hin : meth.name = "<init>" := (name_of_methodNamed Bd.named Bd.method).1
  have hK := va_K.moved hW0.alike hE.K
  have hL : gx_L s0.heap.size ([] : List Loc) := gx_L0
  have hl := lv_entry ([.ref a]) (n := 1) (Nat.le_of_ble_eq_true rfl)
  rw [lg_entry_eq]
  generalize (lg_sl ([.ref a]) ++ List.replicate (1 - (lg_sl ([.ref a])).length) Slot.unset).toArray = ls at hl ⊢
  have hl : lv_has ls 1 [(0, .ref a)] := hl
  refine lv_aload_n hx hb dX3_init_0 rfl (lv_at hl 0 rfl) ?_
  refine W.objInit hx hb hown (hts _ q135) (hts _ q82) (hts _ q83) rfl (by rw [hml]; exact hl.1) rfl dX3_init_1 (Nat.le_of_ble_eq_true rfl) (Nat.le_of_ble_eq_true rfl) ?_
  refine W.eq (g2 := F0 m 4 ls []) rfl ?_
  exact W.vret hx hb hr (fun t ht hW => ⟨rfl, ht⟩) hL dX3_init_4
set_option maxHeartbeats 4000000 in
set_option maxRecDepth 100000 in
/-- X4 constructor -/
theorem ct_X4_init {l : Launch} {s0 : State} {D : va_G} {DA : Nat → ClassId} {z0 : Nat} {H : Heap} (hE : G0 l s0 D DA z0) {a : Nat} : Met l yX4_init (ws_ yX4_init cX4_init 1 none) ({ frames := 2, cells := 0, slots := 0, locals := 32 }) (cP s0 [.ref a] H) (cQ0 (fun H1 => H1 = H)) 0 0 (cF s0) := by
  refine Met.ofW (cc := cX4_init) (maxL := 1) (ret := none) (by decide) rfl ?_
  intro p e s m args below meth c s₁ Bd hml hv
  obtain ⟨rfl, rfl, hW0⟩ := hv
  have hx := Bd.exec
  have hb := Bd.bytes
  have hr := Bd.returns
  have hts := atoms_spec (ws := (ws_ yX4_init cX4_init 1 none)) Bd.pre
  have hts : ∀ w ∈ lw_all, w.before _ s = true := fun w h => hts w (List.mem_cons_of_mem _ h)
  have hown : s.vm.findClass RX4 = some m.cls := findClass_of_methodNamed Bd.named
  have hlocks := Bd.notSynchronized
  have hin : meth.name = "<init>" := (name_of_methodNamed Bd.named Bd.method).1
  have hK := va_K.moved hW0.alike hE.K
  have hL : gx_L s0.heap.size ([] : List Loc) := gx_L0
  have hl := lv_entry ([.ref a]) (n := 1) (Nat.le_of_ble_eq_true rfl)
  rw [lg_entry_eq]
  generalize (lg_sl ([.ref a]) ++ List.replicate (1 - (lg_sl ([.ref a])).length) Slot.unset).toArray = ls at hl ⊢
  have hl : lv_has ls 1 [(0, .ref a)] := hl
  refine lv_aload_n hx hb dX4_init_0 rfl (lv_at hl 0 rfl) ?_
  refine cc_0 (va_runIN (b := a) (As := []) (rest := []) ⟨hx, hb, hml, hown, hts⟩ (ct_X3_init (a := a) hE) (⟨va_cnB 0 hts (lw_meth q134) rfl rfl rfl (hE.nM hW0 q132) (hts _ q52) (by decide +kernel) ⟨Nat.le_of_ble_eq_true rfl, Nat.le_of_ble_eq_true rfl⟩, rfl, hts _ q133⟩) (cc_pS hW0) rfl rfl hl.1 rfl (lv_room (Nat.le_of_ble_eq_true rfl)) dX4_init_1 ⟨Nat.le_of_ble_eq_true rfl, Nat.le_of_ble_eq_true rfl⟩) hL (fun H locs hP1 hL => ?_)
  subst hP1
  exact W.vret hx hb hr (fun t ht hW => ⟨rfl, ht⟩) hL dX4_init_4
set_option maxHeartbeats 4000000 in
set_option maxRecDepth 100000 in
/-- X5 constructor -/
theorem ct_X5_init {l : Launch} {s0 : State} {D : va_G} {DA : Nat → ClassId} {z0 : Nat} {H : Heap} (hE : G0 l s0 D DA z0) {a : Nat} : Met l yX5_init (ws_ yX5_init cX5_init 1 none) ({ frames := 2, cells := 0, slots := 0, locals := 32 }) (cP s0 [.ref a] H) (cQ0 (fun H1 => H1 = H)) 0 0 (cF s0) := by
  refine Met.ofW (cc := cX5_init) (maxL := 1) (ret := none) (by decide) rfl ?_
  intro p e s m args below meth c s₁ Bd hml hv
  obtain ⟨rfl, rfl, hW0⟩ := hv
  have hx := Bd.exec
  have hb := Bd.bytes
  have hr := Bd.returns
  have hts := atoms_spec (ws := (ws_ yX5_init cX5_init 1 none)) Bd.pre
  have hts : ∀ w ∈ lw_all, w.before _ s = true := fun w h => hts w (List.mem_cons_of_mem _ h)
  have hown : s.vm.findClass RX5 = some m.cls := findClass_of_methodNamed Bd.named
  have hlocks := Bd.notSynchronized
  have hin : meth.name = "<init>" := (name_of_methodNamed Bd.named Bd.method).1
  have hK := va_K.moved hW0.alike hE.K
  have hL : gx_L s0.heap.size ([] : List Loc) := gx_L0
  have hl := lv_entry ([.ref a]) (n := 1) (Nat.le_of_ble_eq_true rfl)
  rw [lg_entry_eq]
  generalize (lg_sl ([.ref a]) ++ List.replicate (1 - (lg_sl ([.ref a])).length) Slot.unset).toArray = ls at hl ⊢
  have hl : lv_has ls 1 [(0, .ref a)] := hl
  refine lv_aload_n hx hb dX5_init_0 rfl (lv_at hl 0 rfl) ?_
  refine cc_0 (va_runIN (b := a) (As := []) (rest := []) ⟨hx, hb, hml, hown, hts⟩ (ct_X3_init (a := a) hE) (⟨va_cnB 0 hts (lw_meth q134) rfl rfl rfl (hE.nM hW0 q142) (hts _ q52) (by decide +kernel) ⟨Nat.le_of_ble_eq_true rfl, Nat.le_of_ble_eq_true rfl⟩, rfl, hts _ q133⟩) (cc_pS hW0) rfl rfl hl.1 rfl (lv_room (Nat.le_of_ble_eq_true rfl)) dX5_init_1 ⟨Nat.le_of_ble_eq_true rfl, Nat.le_of_ble_eq_true rfl⟩) hL (fun H locs hP1 hL => ?_)
  subst hP1
  exact W.vret hx hb hr (fun t ht hW => ⟨rfl, ht⟩) hL dX5_init_4
set_option maxHeartbeats 4000000 in
set_option maxRecDepth 100000 in
/-- X6 constructor -/
theorem ct_X6_init {l : Launch} {s0 : State} {D : va_G} {DA : Nat → ClassId} {z0 : Nat} {H : Heap} (hE : G0 l s0 D DA z0) {a : Nat} : Met l yX6_init (ws_ yX6_init cX6_init 1 none) ({ frames := 2, cells := 0, slots := 0, locals := 32 }) (cP s0 [.ref a] H) (cQ0 (fun H1 => H1 = H)) 0 0 (cF s0) := by
  refine Met.ofW (cc := cX6_init) (maxL := 1) (ret := none) (by decide) rfl ?_
  intro p e s m args below meth c s₁ Bd hml hv
  obtain ⟨rfl, rfl, hW0⟩ := hv
  have hx := Bd.exec
  have hb := Bd.bytes
  have hr := Bd.returns
  have hts := atoms_spec (ws := (ws_ yX6_init cX6_init 1 none)) Bd.pre
  have hts : ∀ w ∈ lw_all, w.before _ s = true := fun w h => hts w (List.mem_cons_of_mem _ h)
  have hown : s.vm.findClass RX6 = some m.cls := findClass_of_methodNamed Bd.named
  have hlocks := Bd.notSynchronized
  have hin : meth.name = "<init>" := (name_of_methodNamed Bd.named Bd.method).1
  have hK := va_K.moved hW0.alike hE.K
  have hL : gx_L s0.heap.size ([] : List Loc) := gx_L0
  have hl := lv_entry ([.ref a]) (n := 1) (Nat.le_of_ble_eq_true rfl)
  rw [lg_entry_eq]
  generalize (lg_sl ([.ref a]) ++ List.replicate (1 - (lg_sl ([.ref a])).length) Slot.unset).toArray = ls at hl ⊢
  have hl : lv_has ls 1 [(0, .ref a)] := hl
  refine lv_aload_n hx hb dX6_init_0 rfl (lv_at hl 0 rfl) ?_
  refine cc_0 (va_runIN (b := a) (As := []) (rest := []) ⟨hx, hb, hml, hown, hts⟩ (ct_X3_init (a := a) hE) (⟨va_cnB 0 hts (lw_meth q134) rfl rfl rfl (hE.nM hW0 q149) (hts _ q52) (by decide +kernel) ⟨Nat.le_of_ble_eq_true rfl, Nat.le_of_ble_eq_true rfl⟩, rfl, hts _ q133⟩) (cc_pS hW0) rfl rfl hl.1 rfl (lv_room (Nat.le_of_ble_eq_true rfl)) dX6_init_1 ⟨Nat.le_of_ble_eq_true rfl, Nat.le_of_ble_eq_true rfl⟩) hL (fun H locs hP1 hL => ?_)
  subst hP1
  exact W.vret hx hb hr (fun t ht hW => ⟨rfl, ht⟩) hL dX6_init_4
set_option maxHeartbeats 4000000 in
set_option maxRecDepth 100000 in
/-- X2_init -/
theorem ct_X2_init {l : Launch} {s0 : State} {D : va_G} {DA : Nat → ClassId} {z0 : Nat} {H : Heap} (hE : G0 l s0 D DA z0) {a b : Nat} (ha : s0.heap.size ≤ a) (hab : a < b) (hsz : H.size = b) (hold : ∀ q, q < s0.heap.size → H[q]? = s0.heap[q]?) (f : va_at D gcl (a, .inr (2, [.null])) H) : Met l yX2_init (ws_ yX2_init cX2_init 1 none) ({ frames := 4, cells := 1, slots := 3, locals := 72 }) (cP s0 [.ref a] H) (cQ0 (fun H1 => gG 1 a H H1 ∧ va_at D gcl (a, .inr (2, [.ref b])) H1 ∧ va_at D gcl (b, oL 0 z0 0) H1)) 1 3 (cF s0) := by
  refine Met.ofW (cc := cX2_init) (maxL := 1) (ret := none) (by decide) rfl ?_
  intro p e s m args below meth c s₁ Bd hml hv
  obtain ⟨rfl, rfl, hW0⟩ := hv
  have hx := Bd.exec
  have hb := Bd.bytes
  have hr := Bd.returns
  have hts := atoms_spec (ws := (ws_ yX2_init cX2_init 1 none)) Bd.pre
  have hts : ∀ w ∈ lw_all, w.before _ s = true := fun w h => hts w (List.mem_cons_of_mem _ h)
  have hown : s.vm.findClass RX2 = some m.cls := findClass_of_methodNamed Bd.named
  have hlocks := Bd.notSynchronized
  have hin : meth.name = "<init>" := (name_of_methodNamed Bd.named Bd.method).1
  have hK := va_K.moved hW0.alike hE.K
  have hL : gx_L s0.heap.size ([] : List Loc) := gx_L0
  have hl := lv_entry ([.ref a]) (n := 1) (Nat.le_of_ble_eq_true rfl)
  rw [lg_entry_eq]
  generalize (lg_sl ([.ref a]) ++ List.replicate (1 - (lg_sl ([.ref a])).length) Slot.unset).toArray = ls at hl ⊢
  have hl : lv_has ls 1 [(0, .ref a)] := hl
  have hsz0 := hsz
  have hgg : gG 0 a s.heap s.heap := gG.rf
  have hle : s0.heap.size ≤ s.heap.size := by omega
  refine lv_aload_n hx hb dX2_init_0 rfl (lv_at hl 0 rfl) ?_
  refine W.objInit hx hb hown (hts _ q117) (hts _ q82) (hts _ q83) rfl (by rw [hml]; exact hl.1) rfl dX2_init_1 (Nat.le_of_ble_eq_true rfl) (Nat.le_of_ble_eq_true rfl) ?_
  refine W.eq (g2 := F0 m 4 ls []) rfl ?_
  refine lv_aload_n hx hb dX2_init_4 rfl (lv_at hl 0 rfl) ?_
  refine gx_newW (ci := 1) (C := RJ2) (T := TJ2) (N := 3) (fs := [.int 0, .null, .int 0]) hx hb hts in_J2 tyJ2 tyJ2_ok hown (hts _ q118) (hts _ q87) (hts _ q50) hK rfl (by decide) (Nat.le_of_ble_eq_true rfl) (Nat.le_of_ble_eq_true rfl) dX2_init_5 (v := b) hsz (fun H hN f0 => ?_)
  replace f : va_at D gcl (a, .inr (2, [.null])) H := hN.at f
  replace hsz : H.size = b + 1 := by rw [hN.1, hsz]
  replace hold := hold_N hN hold hle
  replace hle := hle_N hN hle
  replace hgg := hgg.N hN
  clear hN
  replace f0 : va_at D gcl (b, .inr (1, [.int 0, .null, .int 0])) H := f0
  refine lv_dup hx hb dX2_init_8 rfl ?_
  refine cc_0 (va_runI (b := b) (As := []) (rest := [.ref b, .ref a]) ⟨hx, hb, hml, hown, hts⟩ (ct_J2_init hE f0 (by omega) hold) (cwI 0 hts (lw_meth q90) rfl rfl rfl (hts _ q50) (hts _ q119) (hts _ q89) rfl (by decide +kernel) ⟨Nat.le_of_ble_eq_true rfl, Nat.le_of_ble_eq_true rfl⟩) (cc_pS hW0) rfl rfl hl.1 rfl (lv_room (Nat.le_of_ble_eq_true rfl)) dX2_init_9 ⟨Nat.le_of_ble_eq_true rfl, Nat.le_of_ble_eq_true rfl⟩) hL (fun H locs hP1 hL => ?_)
  obtain ⟨hU, f0⟩ := hP1
  replace f : va_at D gcl (a, .inr (2, [.null])) H := hU.at (by omega) f
  replace hsz : H.size = b + 1 := by rw [hU.1, hsz]
  replace hold := hold_U hU hold (by omega)
  replace hle := hle_U hU hle
  replace hgg := hgg.U hU (by omega)
  clear hU
  refine gx_putF (D := D) (cl := gcl) (ci := 2) (v := .ref b) (ty := (.object "java/util/ArrayList")) (C := RX2) (T := TX2) (N := 1) hx hb hts in_X2 tyX2 tyX2_ok nmX2 hown hK f rfl 0 (by decide) (hts _ q120) (fun _ h9 => h9) rfl hin rfl (by decide +kernel) (rfl) rfl (Nat.le_of_ble_eq_true rfl) hL (by (try simp only [aI, aA, aT, aB, aL, mad]); omega) dX2_init_12 (fun H locs hU hA hL => ?_)
  have f : va_at D gcl (a, .inr (2, [.ref b])) H := hA
  replace f0 : va_at D gcl (b, .inr (1, [.int 0, .ref z0, .int (nI 0)])) H := hU.at (by omega) f0
  replace hsz : H.size = b + 1 := by rw [hU.1, hsz]
  replace hold := hold_U hU hold (by omega)
  replace hle := hle_U hU hle
  replace hgg := hgg.U hU (by omega)
  clear hU
  exact W.vret hx hb hr (fun t ht hW => ⟨rfl, by rw [ht]; exact ⟨hgg, f, f0⟩⟩) hL dX2_init_15
set_option maxHeartbeats 4000000 in
set_option maxRecDepth 100000 in
/-- X8_init -/
theorem ct_X8_init {l : Launch} {s0 : State} {D : va_G} {DA : Nat → ClassId} {z0 : Nat} {H : Heap} (hE : G0 l s0 D DA z0) {a b : Nat} (ha : s0.heap.size ≤ a) (hab : a < b) (hsz : H.size = b) (hold : ∀ q, q < s0.heap.size → H[q]? = s0.heap[q]?) (f : va_at D gcl (a, .inr (7, [.null])) H) : Met l yX8_init (ws_ yX8_init cX8_init 1 none) ({ frames := 4, cells := 1, slots := 3, locals := 72 }) (cP s0 [.ref a] H) (cQ0 (fun H1 => gG 1 a H H1 ∧ va_at D gcl (a, .inr (7, [.ref b])) H1 ∧ va_at D gcl (b, oL 0 z0 0) H1)) 1 3 (cF s0) := by
  refine Met.ofW (cc := cX8_init) (maxL := 1) (ret := none) (by decide) rfl ?_
  intro p e s m args below meth c s₁ Bd hml hv
  obtain ⟨rfl, rfl, hW0⟩ := hv
  have hx := Bd.exec
  have hb := Bd.bytes
  have hr := Bd.returns
  have hts := atoms_spec (ws := (ws_ yX8_init cX8_init 1 none)) Bd.pre
  have hts : ∀ w ∈ lw_all, w.before _ s = true := fun w h => hts w (List.mem_cons_of_mem _ h)
  have hown : s.vm.findClass RX8 = some m.cls := findClass_of_methodNamed Bd.named
  have hlocks := Bd.notSynchronized
  have hin : meth.name = "<init>" := (name_of_methodNamed Bd.named Bd.method).1
  have hK := va_K.moved hW0.alike hE.K
  have hL : gx_L s0.heap.size ([] : List Loc) := gx_L0
  have hl := lv_entry ([.ref a]) (n := 1) (Nat.le_of_ble_eq_true rfl)
  rw [lg_entry_eq]
  generalize (lg_sl ([.ref a]) ++ List.replicate (1 - (lg_sl ([.ref a])).length) Slot.unset).toArray = ls at hl ⊢
  have hl : lv_has ls 1 [(0, .ref a)] := hl
  have hsz0 := hsz
  have hgg : gG 0 a s.heap s.heap := gG.rf
  have hle : s0.heap.size ≤ s.heap.size := by omega
  refine lv_aload_n hx hb dX8_init_0 rfl (lv_at hl 0 rfl) ?_
  refine W.objInit hx hb hown (hts _ q171) (hts _ q82) (hts _ q83) rfl (by rw [hml]; exact hl.1) rfl dX8_init_1 (Nat.le_of_ble_eq_true rfl) (Nat.le_of_ble_eq_true rfl) ?_
  refine W.eq (g2 := F0 m 4 ls []) rfl ?_
  refine lv_aload_n hx hb dX8_init_4 rfl (lv_at hl 0 rfl) ?_
  refine gx_newW (ci := 1) (C := RJ2) (T := TJ2) (N := 3) (fs := [.int 0, .null, .int 0]) hx hb hts in_J2 tyJ2 tyJ2_ok hown (hts _ q172) (hts _ q87) (hts _ q50) hK rfl (by decide) (Nat.le_of_ble_eq_true rfl) (Nat.le_of_ble_eq_true rfl) dX8_init_5 (v := b) hsz (fun H hN f0 => ?_)
  replace f : va_at D gcl (a, .inr (7, [.null])) H := hN.at f
  replace hsz : H.size = b + 1 := by rw [hN.1, hsz]
  replace hold := hold_N hN hold hle
  replace hle := hle_N hN hle
  replace hgg := hgg.N hN
  clear hN
  replace f0 : va_at D gcl (b, .inr (1, [.int 0, .null, .int 0])) H := f0
  refine lv_dup hx hb dX8_init_8 rfl ?_
  refine cc_0 (va_runI (b := b) (As := []) (rest := [.ref b, .ref a]) ⟨hx, hb, hml, hown, hts⟩ (ct_J2_init hE f0 (by omega) hold) (cwI 0 hts (lw_meth q90) rfl rfl rfl (hts _ q50) (hts _ q173) (hts _ q89) rfl (by decide +kernel) ⟨Nat.le_of_ble_eq_true rfl, Nat.le_of_ble_eq_true rfl⟩) (cc_pS hW0) rfl rfl hl.1 rfl (lv_room (Nat.le_of_ble_eq_true rfl)) dX8_init_9 ⟨Nat.le_of_ble_eq_true rfl, Nat.le_of_ble_eq_true rfl⟩) hL (fun H locs hP1 hL => ?_)
  obtain ⟨hU, f0⟩ := hP1
  replace f : va_at D gcl (a, .inr (7, [.null])) H := hU.at (by omega) f
  replace hsz : H.size = b + 1 := by rw [hU.1, hsz]
  replace hold := hold_U hU hold (by omega)
  replace hle := hle_U hU hle
  replace hgg := hgg.U hU (by omega)
  clear hU
  refine gx_putF (D := D) (cl := gcl) (ci := 7) (v := .ref b) (ty := (.object "java/util/ArrayList")) (C := RX8) (T := TX8) (N := 1) hx hb hts in_X8 tyX8 tyX8_ok nmX8 hown hK f rfl 0 (by decide) (hts _ q174) (fun _ h9 => h9) rfl hin rfl (by decide +kernel) (rfl) rfl (Nat.le_of_ble_eq_true rfl) hL (by (try simp only [aI, aA, aT, aB, aL, mad]); omega) dX8_init_12 (fun H locs hU hA hL => ?_)
  have f : va_at D gcl (a, .inr (7, [.ref b])) H := hA
  replace f0 : va_at D gcl (b, .inr (1, [.int 0, .ref z0, .int (nI 0)])) H := hU.at (by omega) f0
  replace hsz : H.size = b + 1 := by rw [hU.1, hsz]
  replace hold := hold_U hU hold (by omega)
  replace hle := hle_U hU hle
  replace hgg := hgg.U hU (by omega)
  clear hU
  exact W.vret hx hb hr (fun t ht hW => ⟨rfl, by rw [ht]; exact ⟨hgg, f, f0⟩⟩) hL dX8_init_15
set_option maxHeartbeats 4000000 in
set_option maxRecDepth 100000 in
/-- LeastCost constructor -/
theorem ct_X7_init {l : Launch} {s0 : State} {D : va_G} {DA : Nat → ClassId} {z0 : Nat} {H : Heap} (hE : G0 l s0 D DA z0) {a b : Nat} (ha : s0.heap.size ≤ a) (hab : a < b) (hsz : H.size = b) (hold : ∀ q, q < s0.heap.size → H[q]? = s0.heap[q]?) (f : va_at D gcl (a, .inr (6, [.null, .null])) H) : Met l yX7_init (ws_ yX7_init cX7_init 1 none) ({ frames := 2, cells := 2, slots := 25, locals := 32 }) (cP s0 [.ref a] H) (cQ0 (fun H1 => gG 2 a H H1 ∧ va_at D gcl (a, .inr (6, [.ref b, .ref (b + 1)])) H1 ∧ va_at D gcl (b, .inl (DA 0, 13, .inr (.inl (fun _ => 0)))) H1 ∧ va_at D gcl (b + 1, .inl (DA 1, 12, .inl (fun _ => 0))) H1)) 2 25 (cF s0) := by
  refine Met.ofW (cc := cX7_init) (maxL := 1) (ret := none) (by decide) rfl ?_
  intro p e s m args below meth c s₁ Bd hml hv
  obtain ⟨rfl, rfl, hW0⟩ := hv
  have hx := Bd.exec
  have hb := Bd.bytes
  have hr := Bd.returns
  have hts := atoms_spec (ws := (ws_ yX7_init cX7_init 1 none)) Bd.pre
  have hts : ∀ w ∈ lw_all, w.before _ s = true := fun w h => hts w (List.mem_cons_of_mem _ h)
  have hown : s.vm.findClass RX7 = some m.cls := findClass_of_methodNamed Bd.named
  have hlocks := Bd.notSynchronized
  have hin : meth.name = "<init>" := (name_of_methodNamed Bd.named Bd.method).1
  have hK := va_K.moved hW0.alike hE.K
  have hL : gx_L s0.heap.size ([] : List Loc) := gx_L0
  have hl := lv_entry ([.ref a]) (n := 1) (Nat.le_of_ble_eq_true rfl)
  rw [lg_entry_eq]
  generalize (lg_sl ([.ref a]) ++ List.replicate (1 - (lg_sl ([.ref a])).length) Slot.unset).toArray = ls at hl ⊢
  have hl : lv_has ls 1 [(0, .ref a)] := hl
  have hsz0 := hsz
  have hgg : gG 0 a s.heap s.heap := gG.rf
  have hle : s0.heap.size ≤ s.heap.size := by omega
  refine lv_aload_n hx hb dX7_init_0 rfl (lv_at hl 0 rfl) ?_
  refine cc_0 (va_runIN (b := a) (As := []) (rest := []) ⟨hx, hb, hml, hown, hts⟩ (ct_X3_init (a := a) hE) (⟨va_cnB 0 hts (lw_meth q134) rfl rfl rfl (hE.nM hW0 q156) (hts _ q52) (by decide +kernel) ⟨Nat.le_of_ble_eq_true rfl, Nat.le_of_ble_eq_true rfl⟩, rfl, hts _ q133⟩) (cc_pS hW0) rfl rfl hl.1 rfl (lv_room (Nat.le_of_ble_eq_true rfl)) dX7_init_1 ⟨Nat.le_of_ble_eq_true rfl, Nat.le_of_ble_eq_true rfl⟩) hL (fun H locs hP1 hL => ?_)
  subst hP1
  refine lv_aload_n hx hb dX7_init_4 rfl (lv_at hl 0 rfl) ?_
  refine lv_bipush (v := 13) hx hb dX7_init_5 (by decide) ?_
  refine gx_newaV (atype := .long) (ty := .long) (a0 := (13, .inr (.inl (fun _ => 0)))) hx hb (hts _ q164) rfl hK 0 rfl (fun C h => by cases h) (fun cA => rfl) (by decide) (N' := 13) (by decide) (by decide) (Nat.le_of_ble_eq_true rfl) (Nat.le_of_ble_eq_true rfl) dX7_init_7 (v := b) hsz (fun H hN f0 => ?_)
  replace f : va_at D gcl (a, .inr (6, [.null, .null])) H := hN.at f
  replace hsz : H.size = b + 1 := by rw [hN.1, hsz]
  replace hold := hold_N hN hold hle
  replace hle := hle_N hN hle
  replace hgg := hgg.N hN
  clear hN
  replace f0 : va_at D gcl (b, .inl (DA 0, 13, .inr (.inl (fun _ => 0)))) H := f0
  refine gx_putF (D := D) (cl := gcl) (ci := 6) (v := .ref b) (ty := (.array .long)) (C := RX7) (T := TX7) (N := 2) hx hb hts in_X7 tyX7 tyX7_ok nmX7 hown hK f rfl 0 (by decide) (hts _ q157) (fun _ h9 => h9) rfl hin rfl (by decide +kernel) (rfl) rfl (Nat.le_of_ble_eq_true rfl) hL (by (try simp only [aI, aA, aT, aB, aL, mad]); omega) dX7_init_9 (fun H locs hU hA hL => ?_)
  have f : va_at D gcl (a, .inr (6, [.ref b, .null])) H := hA
  replace f0 : va_at D gcl (b, .inl (DA 0, 13, .inr (.inl (fun _ => 0)))) H := hU.at (by omega) f0
  replace hsz : H.size = b + 1 := by rw [hU.1, hsz]
  replace hold := hold_U hU hold (by omega)
  replace hle := hle_U hU hle
  replace hgg := hgg.U hU (by omega)
  clear hU
  refine lv_aload_n hx hb dX7_init_12 rfl (lv_at hl 0 rfl) ?_
  refine lv_bipush (v := 12) hx hb dX7_init_13 (by decide) ?_
  refine gx_newaV (atype := .int) (ty := .int) (a0 := (12, .inl (fun _ => 0))) hx hb (hts _ q165) rfl hK 1 rfl (fun C h => by cases h) (fun cA => rfl) (by decide) (N' := 12) (by decide) (by decide) (Nat.le_of_ble_eq_true rfl) (Nat.le_of_ble_eq_true rfl) dX7_init_15 (v := b + 1) hsz (fun H hN f1 => ?_)
  replace f : va_at D gcl (a, .inr (6, [.ref b, .null])) H := hN.at f
  replace f0 : va_at D gcl (b, .inl (DA 0, 13, .inr (.inl (fun _ => 0)))) H := hN.at f0
  replace hsz : H.size = b + 2 := by rw [hN.1, hsz]
  replace hold := hold_N hN hold hle
  replace hle := hle_N hN hle
  replace hgg := hgg.N hN
  clear hN
  replace f1 : va_at D gcl (b + 1, .inl (DA 1, 12, .inl (fun _ => 0))) H := f1
  refine gx_putF (D := D) (cl := gcl) (ci := 6) (v := .ref (b + 1)) (ty := (.array .int)) (C := RX7) (T := TX7) (N := 2) hx hb hts in_X7 tyX7 tyX7_ok nmX7 hown hK f rfl 1 (by decide) (hts _ q158) (fun _ h9 => h9) rfl hin rfl (by decide +kernel) (rfl) rfl (Nat.le_of_ble_eq_true rfl) hL (by (try simp only [aI, aA, aT, aB, aL, mad]); omega) dX7_init_17 (fun H locs hU hA hL => ?_)
  have f : va_at D gcl (a, .inr (6, [.ref b, .ref (b + 1)])) H := hA
  replace f0 : va_at D gcl (b, .inl (DA 0, 13, .inr (.inl (fun _ => 0)))) H := hU.at (by omega) f0
  replace f1 : va_at D gcl (b + 1, .inl (DA 1, 12, .inl (fun _ => 0))) H := hU.at (by omega) f1
  replace hsz : H.size = b + 2 := by rw [hU.1, hsz]
  replace hold := hold_U hU hold (by omega)
  replace hle := hle_U hU hle
  replace hgg := hgg.U hU (by omega)
  clear hU
  exact W.vret hx hb hr (fun t ht hW => ⟨rfl, by rw [ht]; exact ⟨hgg, f, f0, f1⟩⟩) hL dX7_init_20
set_option maxHeartbeats 4000000 in
set_option maxRecDepth 100000 in
/-- Item constructor -/
theorem ct_X9_init {l : Launch} {s0 : State} {D : va_G} {DA : Nat → ClassId} {z0 : Nat} {H : Heap} (hE : G0 l s0 D DA z0) {a b : Nat} (ha : s0.heap.size ≤ a) (hab : a < b) (hsz : H.size = b) (hold : ∀ q, q < s0.heap.size → H[q]? = s0.heap[q]?) (x : Int32) (f : va_at D gcl (a, .inr (8, [.int 0, .int 0, .int 0, .int 0, .int 0, .int 0, .int 0, .int 0, .int 0, .int 0, .int 0, .int 0, .int 0, .int 0, .null, .null, .null, .null, .null])) H) : Met l yX9_init (ws_ yX9_init cX9_init 2 none) ({ frames := 1, cells := 5, slots := 61, locals := 12 }) (cP s0 [.ref a, .int x] H) (cQ0 (fun H1 => gG 5 a H H1 ∧ va_at D gcl (a, .inr (8, [.int x, .int 0, .int 1, .int 0, .int 0, .int 0, .int 0, .int 0, .int 0, .int 0, .int 0, .int 0, .int 1, .int 0, .ref b, .ref (b + 1), .ref (b + 2), .ref (b + 3), .ref (b + 4)])) H1 ∧ va_at D gcl (b, .inl (DA 0, 12, .inr (.inl (fun _ => 0)))) H1 ∧ va_at D gcl (b + 1, .inl (DA 0, 12, .inr (.inl (fun _ => 0)))) H1 ∧ va_at D gcl (b + 2, .inl (DA 0, 13, .inr (.inl (fun _ => 0)))) H1 ∧ va_at D gcl (b + 3, .inl (DA 0, 12, .inr (.inl (fun _ => 0)))) H1 ∧ va_at D gcl (b + 4, .inl (DA 0, 12, .inr (.inl (fun _ => 0)))) H1)) 5 61 (cF s0) := by
  refine Met.ofW (cc := cX9_init) (maxL := 2) (ret := none) (by decide) rfl ?_
  intro p e s m args below meth c s₁ Bd hml hv
  obtain ⟨rfl, rfl, hW0⟩ := hv
  have hx := Bd.exec
  have hb := Bd.bytes
  have hr := Bd.returns
  have hts := atoms_spec (ws := (ws_ yX9_init cX9_init 2 none)) Bd.pre
  have hts : ∀ w ∈ lw_all, w.before _ s = true := fun w h => hts w (List.mem_cons_of_mem _ h)
  have hown : s.vm.findClass RX9 = some m.cls := findClass_of_methodNamed Bd.named
  have hlocks := Bd.notSynchronized
  have hin : meth.name = "<init>" := (name_of_methodNamed Bd.named Bd.method).1
  have hK := va_K.moved hW0.alike hE.K
  have hL : gx_L s0.heap.size ([] : List Loc) := gx_L0
  have hl := lv_entry ([.ref a, .int x]) (n := 2) (Nat.le_of_ble_eq_true rfl)
  rw [lg_entry_eq]
  generalize (lg_sl ([.ref a, .int x]) ++ List.replicate (2 - (lg_sl ([.ref a, .int x])).length) Slot.unset).toArray = ls at hl ⊢
  have hl : lv_has ls 2 [(0, .ref a), (1, .int x)] := hl
  have hsz0 := hsz
  have hgg : gG 0 a s.heap s.heap := gG.rf
  have hle : s0.heap.size ≤ s.heap.size := by omega
  refine lv_aload_n hx hb dX9_init_0 rfl (lv_at hl 0 rfl) ?_
  refine W.objInit hx hb hown (hts _ q184) (hts _ q82) (hts _ q83) rfl (by rw [hml]; exact hl.1) rfl dX9_init_1 (Nat.le_of_ble_eq_true rfl) (Nat.le_of_ble_eq_true rfl) ?_
  refine W.eq (g2 := F0 m 4 ls []) rfl ?_
  refine lv_aload_n hx hb dX9_init_4 rfl (lv_at hl 0 rfl) ?_
  refine lv_iconst (v := 1) hx hb dX9_init_5 (by decide) ?_
  refine gx_put (D := D) (cl := gcl) (ci := 8) (v := .int 1) (ty := .int) (C := RX9) (T := TX9) (N := 19) hx hb hts in_X9 tyX9 tyX9_ok nmX9 hown hK f rfl 2 (by decide) (hts _ q189) (fun _ h9 => h9) rfl (by decide +kernel) (rfl) rfl (Nat.le_of_ble_eq_true rfl) hL (by (try simp only [aI, aA, aT, aB, aL, mad]); omega) dX9_init_6 (fun H locs hU hA hL => ?_)
  have f : va_at D gcl (a, .inr (8, [.int 0, .int 0, .int 1, .int 0, .int 0, .int 0, .int 0, .int 0, .int 0, .int 0, .int 0, .int 0, .int 0, .int 0, .null, .null, .null, .null, .null])) H := hA
  replace hsz : H.size = b := by rw [hU.1, hsz]
  replace hold := hold_U hU hold (by omega)
  replace hle := hle_U hU hle
  replace hgg := hgg.U hU (by omega)
  clear hU
  refine lv_aload_n hx hb dX9_init_9 rfl (lv_at hl 0 rfl) ?_
  refine lv_iconst (v := 1) hx hb dX9_init_10 (by decide) ?_
  refine gx_put (D := D) (cl := gcl) (ci := 8) (v := .int 1) (ty := .boolean) (C := RX9) (T := TX9) (N := 19) hx hb hts in_X9 tyX9 tyX9_ok nmX9 hown hK f rfl 12 (by decide) (hts _ q208) (fun _ h9 => h9) rfl (by decide +kernel) (rfl) rfl (Nat.le_of_ble_eq_true rfl) hL (by (try simp only [aI, aA, aT, aB, aL, mad]); omega) dX9_init_11 (fun H locs hU hA hL => ?_)
  have f : va_at D gcl (a, .inr (8, [.int 0, .int 0, .int 1, .int 0, .int 0, .int 0, .int 0, .int 0, .int 0, .int 0, .int 0, .int 0, .int 1, .int 0, .null, .null, .null, .null, .null])) H := hA
  replace hsz : H.size = b := by rw [hU.1, hsz]
  replace hold := hold_U hU hold (by omega)
  replace hle := hle_U hU hle
  replace hgg := hgg.U hU (by omega)
  clear hU
  refine lv_aload_n hx hb dX9_init_14 rfl (lv_at hl 0 rfl) ?_
  refine lv_bipush (v := 12) hx hb dX9_init_15 (by decide) ?_
  refine gx_newaV (atype := .long) (ty := .long) (a0 := (12, .inr (.inl (fun _ => 0)))) hx hb (hts _ q164) rfl hK 0 rfl (fun C h => by cases h) (fun cA => rfl) (by decide) (N' := 12) (by decide) (by decide) (Nat.le_of_ble_eq_true rfl) (Nat.le_of_ble_eq_true rfl) dX9_init_17 (v := b) hsz (fun H hN f0 => ?_)
  replace f : va_at D gcl (a, .inr (8, [.int 0, .int 0, .int 1, .int 0, .int 0, .int 0, .int 0, .int 0, .int 0, .int 0, .int 0, .int 0, .int 1, .int 0, .null, .null, .null, .null, .null])) H := hN.at f
  replace hsz : H.size = b + 1 := by rw [hN.1, hsz]
  replace hold := hold_N hN hold hle
  replace hle := hle_N hN hle
  replace hgg := hgg.N hN
  clear hN
  replace f0 : va_at D gcl (b, .inl (DA 0, 12, .inr (.inl (fun _ => 0)))) H := f0
  refine gx_putF (D := D) (cl := gcl) (ci := 8) (v := .ref b) (ty := (.array .long)) (C := RX9) (T := TX9) (N := 19) hx hb hts in_X9 tyX9 tyX9_ok nmX9 hown hK f rfl 14 (by decide) (hts _ q211) (fun _ h9 => h9) rfl hin rfl (by decide +kernel) (rfl) rfl (Nat.le_of_ble_eq_true rfl) hL (by (try simp only [aI, aA, aT, aB, aL, mad]); omega) dX9_init_19 (fun H locs hU hA hL => ?_)
  have f : va_at D gcl (a, .inr (8, [.int 0, .int 0, .int 1, .int 0, .int 0, .int 0, .int 0, .int 0, .int 0, .int 0, .int 0, .int 0, .int 1, .int 0, .ref b, .null, .null, .null, .null])) H := hA
  replace f0 : va_at D gcl (b, .inl (DA 0, 12, .inr (.inl (fun _ => 0)))) H := hU.at (by omega) f0
  replace hsz : H.size = b + 1 := by rw [hU.1, hsz]
  replace hold := hold_U hU hold (by omega)
  replace hle := hle_U hU hle
  replace hgg := hgg.U hU (by omega)
  clear hU
  refine lv_aload_n hx hb dX9_init_22 rfl (lv_at hl 0 rfl) ?_
  refine lv_bipush (v := 12) hx hb dX9_init_23 (by decide) ?_
  refine gx_newaV (atype := .long) (ty := .long) (a0 := (12, .inr (.inl (fun _ => 0)))) hx hb (hts _ q164) rfl hK 0 rfl (fun C h => by cases h) (fun cA => rfl) (by decide) (N' := 12) (by decide) (by decide) (Nat.le_of_ble_eq_true rfl) (Nat.le_of_ble_eq_true rfl) dX9_init_25 (v := b + 1) hsz (fun H hN f1 => ?_)
  replace f : va_at D gcl (a, .inr (8, [.int 0, .int 0, .int 1, .int 0, .int 0, .int 0, .int 0, .int 0, .int 0, .int 0, .int 0, .int 0, .int 1, .int 0, .ref b, .null, .null, .null, .null])) H := hN.at f
  replace f0 : va_at D gcl (b, .inl (DA 0, 12, .inr (.inl (fun _ => 0)))) H := hN.at f0
  replace hsz : H.size = b + 2 := by rw [hN.1, hsz]
  replace hold := hold_N hN hold hle
  replace hle := hle_N hN hle
  replace hgg := hgg.N hN
  clear hN
  replace f1 : va_at D gcl (b + 1, .inl (DA 0, 12, .inr (.inl (fun _ => 0)))) H := f1
  refine gx_putF (D := D) (cl := gcl) (ci := 8) (v := .ref (b + 1)) (ty := (.array .long)) (C := RX9) (T := TX9) (N := 19) hx hb hts in_X9 tyX9 tyX9_ok nmX9 hown hK f rfl 15 (by decide) (hts _ q213) (fun _ h9 => h9) rfl hin rfl (by decide +kernel) (rfl) rfl (Nat.le_of_ble_eq_true rfl) hL (by (try simp only [aI, aA, aT, aB, aL, mad]); omega) dX9_init_27 (fun H locs hU hA hL => ?_)
  have f : va_at D gcl (a, .inr (8, [.int 0, .int 0, .int 1, .int 0, .int 0, .int 0, .int 0, .int 0, .int 0, .int 0, .int 0, .int 0, .int 1, .int 0, .ref b, .ref (b + 1), .null, .null, .null])) H := hA
  replace f0 : va_at D gcl (b, .inl (DA 0, 12, .inr (.inl (fun _ => 0)))) H := hU.at (by omega) f0
  replace f1 : va_at D gcl (b + 1, .inl (DA 0, 12, .inr (.inl (fun _ => 0)))) H := hU.at (by omega) f1
  replace hsz : H.size = b + 2 := by rw [hU.1, hsz]
  replace hold := hold_U hU hold (by omega)
  replace hle := hle_U hU hle
  replace hgg := hgg.U hU (by omega)
  clear hU
  refine lv_aload_n hx hb dX9_init_30 rfl (lv_at hl 0 rfl) ?_
  refine lv_bipush (v := 13) hx hb dX9_init_31 (by decide) ?_
  refine gx_newaV (atype := .long) (ty := .long) (a0 := (13, .inr (.inl (fun _ => 0)))) hx hb (hts _ q164) rfl hK 0 rfl (fun C h => by cases h) (fun cA => rfl) (by decide) (N' := 13) (by decide) (by decide) (Nat.le_of_ble_eq_true rfl) (Nat.le_of_ble_eq_true rfl) dX9_init_33 (v := b + 2) hsz (fun H hN f2 => ?_)
  replace f : va_at D gcl (a, .inr (8, [.int 0, .int 0, .int 1, .int 0, .int 0, .int 0, .int 0, .int 0, .int 0, .int 0, .int 0, .int 0, .int 1, .int 0, .ref b, .ref (b + 1), .null, .null, .null])) H := hN.at f
  replace f0 : va_at D gcl (b, .inl (DA 0, 12, .inr (.inl (fun _ => 0)))) H := hN.at f0
  replace f1 : va_at D gcl (b + 1, .inl (DA 0, 12, .inr (.inl (fun _ => 0)))) H := hN.at f1
  replace hsz : H.size = b + 3 := by rw [hN.1, hsz]
  replace hold := hold_N hN hold hle
  replace hle := hle_N hN hle
  replace hgg := hgg.N hN
  clear hN
  replace f2 : va_at D gcl (b + 2, .inl (DA 0, 13, .inr (.inl (fun _ => 0)))) H := f2
  refine gx_putF (D := D) (cl := gcl) (ci := 8) (v := .ref (b + 2)) (ty := (.array .long)) (C := RX9) (T := TX9) (N := 19) hx hb hts in_X9 tyX9 tyX9_ok nmX9 hown hK f rfl 16 (by decide) (hts _ q214) (fun _ h9 => h9) rfl hin rfl (by decide +kernel) (rfl) rfl (Nat.le_of_ble_eq_true rfl) hL (by (try simp only [aI, aA, aT, aB, aL, mad]); omega) dX9_init_35 (fun H locs hU hA hL => ?_)
  have f : va_at D gcl (a, .inr (8, [.int 0, .int 0, .int 1, .int 0, .int 0, .int 0, .int 0, .int 0, .int 0, .int 0, .int 0, .int 0, .int 1, .int 0, .ref b, .ref (b + 1), .ref (b + 2), .null, .null])) H := hA
  replace f0 : va_at D gcl (b, .inl (DA 0, 12, .inr (.inl (fun _ => 0)))) H := hU.at (by omega) f0
  replace f1 : va_at D gcl (b + 1, .inl (DA 0, 12, .inr (.inl (fun _ => 0)))) H := hU.at (by omega) f1
  replace f2 : va_at D gcl (b + 2, .inl (DA 0, 13, .inr (.inl (fun _ => 0)))) H := hU.at (by omega) f2
  replace hsz : H.size = b + 3 := by rw [hU.1, hsz]
  replace hold := hold_U hU hold (by omega)
  replace hle := hle_U hU hle
  replace hgg := hgg.U hU (by omega)
  clear hU
  refine lv_aload_n hx hb dX9_init_38 rfl (lv_at hl 0 rfl) ?_
  refine lv_bipush (v := 12) hx hb dX9_init_39 (by decide) ?_
  refine gx_newaV (atype := .long) (ty := .long) (a0 := (12, .inr (.inl (fun _ => 0)))) hx hb (hts _ q164) rfl hK 0 rfl (fun C h => by cases h) (fun cA => rfl) (by decide) (N' := 12) (by decide) (by decide) (Nat.le_of_ble_eq_true rfl) (Nat.le_of_ble_eq_true rfl) dX9_init_41 (v := b + 3) hsz (fun H hN f3 => ?_)
  replace f : va_at D gcl (a, .inr (8, [.int 0, .int 0, .int 1, .int 0, .int 0, .int 0, .int 0, .int 0, .int 0, .int 0, .int 0, .int 0, .int 1, .int 0, .ref b, .ref (b + 1), .ref (b + 2), .null, .null])) H := hN.at f
  replace f0 : va_at D gcl (b, .inl (DA 0, 12, .inr (.inl (fun _ => 0)))) H := hN.at f0
  replace f1 : va_at D gcl (b + 1, .inl (DA 0, 12, .inr (.inl (fun _ => 0)))) H := hN.at f1
  replace f2 : va_at D gcl (b + 2, .inl (DA 0, 13, .inr (.inl (fun _ => 0)))) H := hN.at f2
  replace hsz : H.size = b + 4 := by rw [hN.1, hsz]
  replace hold := hold_N hN hold hle
  replace hle := hle_N hN hle
  replace hgg := hgg.N hN
  clear hN
  replace f3 : va_at D gcl (b + 3, .inl (DA 0, 12, .inr (.inl (fun _ => 0)))) H := f3
  refine gx_putF (D := D) (cl := gcl) (ci := 8) (v := .ref (b + 3)) (ty := (.array .long)) (C := RX9) (T := TX9) (N := 19) hx hb hts in_X9 tyX9 tyX9_ok nmX9 hown hK f rfl 17 (by decide) (hts _ q216) (fun _ h9 => h9) rfl hin rfl (by decide +kernel) (rfl) rfl (Nat.le_of_ble_eq_true rfl) hL (by (try simp only [aI, aA, aT, aB, aL, mad]); omega) dX9_init_43 (fun H locs hU hA hL => ?_)
  have f : va_at D gcl (a, .inr (8, [.int 0, .int 0, .int 1, .int 0, .int 0, .int 0, .int 0, .int 0, .int 0, .int 0, .int 0, .int 0, .int 1, .int 0, .ref b, .ref (b + 1), .ref (b + 2), .ref (b + 3), .null])) H := hA
  replace f0 : va_at D gcl (b, .inl (DA 0, 12, .inr (.inl (fun _ => 0)))) H := hU.at (by omega) f0
  replace f1 : va_at D gcl (b + 1, .inl (DA 0, 12, .inr (.inl (fun _ => 0)))) H := hU.at (by omega) f1
  replace f2 : va_at D gcl (b + 2, .inl (DA 0, 13, .inr (.inl (fun _ => 0)))) H := hU.at (by omega) f2
  replace f3 : va_at D gcl (b + 3, .inl (DA 0, 12, .inr (.inl (fun _ => 0)))) H := hU.at (by omega) f3
  replace hsz : H.size = b + 4 := by rw [hU.1, hsz]
  replace hold := hold_U hU hold (by omega)
  replace hle := hle_U hU hle
  replace hgg := hgg.U hU (by omega)
  clear hU
  refine lv_aload_n hx hb dX9_init_46 rfl (lv_at hl 0 rfl) ?_
  refine lv_bipush (v := 12) hx hb dX9_init_47 (by decide) ?_
  refine gx_newaV (atype := .long) (ty := .long) (a0 := (12, .inr (.inl (fun _ => 0)))) hx hb (hts _ q164) rfl hK 0 rfl (fun C h => by cases h) (fun cA => rfl) (by decide) (N' := 12) (by decide) (by decide) (Nat.le_of_ble_eq_true rfl) (Nat.le_of_ble_eq_true rfl) dX9_init_49 (v := b + 4) hsz (fun H hN f4 => ?_)
  replace f : va_at D gcl (a, .inr (8, [.int 0, .int 0, .int 1, .int 0, .int 0, .int 0, .int 0, .int 0, .int 0, .int 0, .int 0, .int 0, .int 1, .int 0, .ref b, .ref (b + 1), .ref (b + 2), .ref (b + 3), .null])) H := hN.at f
  replace f0 : va_at D gcl (b, .inl (DA 0, 12, .inr (.inl (fun _ => 0)))) H := hN.at f0
  replace f1 : va_at D gcl (b + 1, .inl (DA 0, 12, .inr (.inl (fun _ => 0)))) H := hN.at f1
  replace f2 : va_at D gcl (b + 2, .inl (DA 0, 13, .inr (.inl (fun _ => 0)))) H := hN.at f2
  replace f3 : va_at D gcl (b + 3, .inl (DA 0, 12, .inr (.inl (fun _ => 0)))) H := hN.at f3
  replace hsz : H.size = b + 5 := by rw [hN.1, hsz]
  replace hold := hold_N hN hold hle
  replace hle := hle_N hN hle
  replace hgg := hgg.N hN
  clear hN
  replace f4 : va_at D gcl (b + 4, .inl (DA 0, 12, .inr (.inl (fun _ => 0)))) H := f4
  refine gx_putF (D := D) (cl := gcl) (ci := 8) (v := .ref (b + 4)) (ty := (.array .long)) (C := RX9) (T := TX9) (N := 19) hx hb hts in_X9 tyX9 tyX9_ok nmX9 hown hK f rfl 18 (by decide) (hts _ q219) (fun _ h9 => h9) rfl hin rfl (by decide +kernel) (rfl) rfl (Nat.le_of_ble_eq_true rfl) hL (by (try simp only [aI, aA, aT, aB, aL, mad]); omega) dX9_init_51 (fun H locs hU hA hL => ?_)
  have f : va_at D gcl (a, .inr (8, [.int 0, .int 0, .int 1, .int 0, .int 0, .int 0, .int 0, .int 0, .int 0, .int 0, .int 0, .int 0, .int 1, .int 0, .ref b, .ref (b + 1), .ref (b + 2), .ref (b + 3), .ref (b + 4)])) H := hA
  replace f0 : va_at D gcl (b, .inl (DA 0, 12, .inr (.inl (fun _ => 0)))) H := hU.at (by omega) f0
  replace f1 : va_at D gcl (b + 1, .inl (DA 0, 12, .inr (.inl (fun _ => 0)))) H := hU.at (by omega) f1
  replace f2 : va_at D gcl (b + 2, .inl (DA 0, 13, .inr (.inl (fun _ => 0)))) H := hU.at (by omega) f2
  replace f3 : va_at D gcl (b + 3, .inl (DA 0, 12, .inr (.inl (fun _ => 0)))) H := hU.at (by omega) f3
  replace f4 : va_at D gcl (b + 4, .inl (DA 0, 12, .inr (.inl (fun _ => 0)))) H := hU.at (by omega) f4
  replace hsz : H.size = b + 5 := by rw [hU.1, hsz]
  replace hold := hold_U hU hold (by omega)
  replace hle := hle_U hU hle
  replace hgg := hgg.U hU (by omega)
  clear hU
  refine lv_aload_n hx hb dX9_init_54 rfl (lv_at hl 0 rfl) ?_
  refine lv_iload_n hx hb dX9_init_55 rfl (lv_at hl 1 rfl) ?_
  refine gx_putF (D := D) (cl := gcl) (ci := 8) (v := .int x) (ty := .int) (C := RX9) (T := TX9) (N := 19) hx hb hts in_X9 tyX9 tyX9_ok nmX9 hown hK f rfl 0 (by decide) (hts _ q185) (fun _ h9 => h9) rfl hin rfl (by decide +kernel) (rfl) rfl (Nat.le_of_ble_eq_true rfl) hL (by (try simp only [aI, aA, aT, aB, aL, mad]); omega) dX9_init_56 (fun H locs hU hA hL => ?_)
  have f : va_at D gcl (a, .inr (8, [.int x, .int 0, .int 1, .int 0, .int 0, .int 0, .int 0, .int 0, .int 0, .int 0, .int 0, .int 0, .int 1, .int 0, .ref b, .ref (b + 1), .ref (b + 2), .ref (b + 3), .ref (b + 4)])) H := hA
  replace f0 : va_at D gcl (b, .inl (DA 0, 12, .inr (.inl (fun _ => 0)))) H := hU.at (by omega) f0
  replace f1 : va_at D gcl (b + 1, .inl (DA 0, 12, .inr (.inl (fun _ => 0)))) H := hU.at (by omega) f1
  replace f2 : va_at D gcl (b + 2, .inl (DA 0, 13, .inr (.inl (fun _ => 0)))) H := hU.at (by omega) f2
  replace f3 : va_at D gcl (b + 3, .inl (DA 0, 12, .inr (.inl (fun _ => 0)))) H := hU.at (by omega) f3
  replace f4 : va_at D gcl (b + 4, .inl (DA 0, 12, .inr (.inl (fun _ => 0)))) H := hU.at (by omega) f4
  replace hsz : H.size = b + 5 := by rw [hU.1, hsz]
  replace hold := hold_U hU hold (by omega)
  replace hle := hle_U hU hle
  replace hgg := hgg.U hU (by omega)
  clear hU
  exact W.vret hx hb hr (fun t ht hW => ⟨rfl, by rw [ht]; exact ⟨hgg, f, f0, f1, f2, f3, f4⟩⟩) hL dX9_init_59
