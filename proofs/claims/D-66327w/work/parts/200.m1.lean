set_option maxHeartbeats 4000000 in
set_option maxRecDepth 100000 in
/-- isIn: whether a number is within bounds -/
theorem ct_X11_isIn {l : Launch} {s0 : State} {D : va_G} {DA : Nat → ClassId} {z0 : Nat} {H : Heap} (hE : G0 l s0 D DA z0) (x a b : Int32) : Met l yX11_isIn (ws_ yX11_isIn cX11_isIn 3 (some .boolean)) ({ frames := 0, cells := 0, slots := 0, locals := 0 }) (cP s0 [.int x, .int a, .int b] H) (cQv (.int (bZ (inR x a b))) (fun H1 => H1 = H)) 0 0 (cF s0) := by
  refine Met.ofW (cc := cX11_isIn) (maxL := 3) (ret := (some .boolean)) (by decide) rfl ?_
  intro p e s m args below meth c s₁ Bd hml hv
  obtain ⟨rfl, rfl, hW0⟩ := hv
  have hx := Bd.exec
  have hb := Bd.bytes
  have hr := Bd.returns
  have hts := atoms_spec (ws := (ws_ yX11_isIn cX11_isIn 3 (some .boolean))) Bd.pre
  have hts : ∀ w ∈ lw_all, w.before _ s = true := fun w h => hts w (List.mem_cons_of_mem _ h)
  have hown : s.vm.findClass RX11 = some m.cls := findClass_of_methodNamed Bd.named
  have hlocks := Bd.notSynchronized
  have hK := va_K.moved hW0.alike hE.K
  have hL : gx_L s0.heap.size ([] : List Loc) := gx_L0
  have hl := lv_entry ([.int x, .int a, .int b]) (n := 3) (Nat.le_of_ble_eq_true rfl)
  rw [lg_entry_eq]
  generalize (lg_sl ([.int x, .int a, .int b]) ++ List.replicate (3 - (lg_sl ([.int x, .int a, .int b])).length) Slot.unset).toArray = ls at hl ⊢
  have hl : lv_has ls 3 [(0, .int x), (1, .int a), (2, .int b)] := hl
  refine lv_iload_n hx hb dX11_isIn_0 rfl (lv_at hl 0 rfl) ?_
  refine lv_iload_n hx hb dX11_isIn_1 rfl (lv_at hl 1 rfl) ?_
  refine lv_icmp_lt (tgt := 14) hx hb dX11_isIn_2 (by decide) (fun c2 => ?_) (fun c2 => ?_)
  · refine lv_iconst (v := 0) hx hb dX11_isIn_14 (by decide) ?_
    exact W.zret (v := 0) hx hb hr (rfl) (fun t ht hW => ⟨ovI (bZ_f (by simp [inR, Int32.not_le.mpr c2])).symm, ht⟩) hL dX11_isIn_15
  · refine lv_iload_n hx hb dX11_isIn_5 rfl (lv_at hl 0 rfl) ?_
    refine lv_iload_n hx hb dX11_isIn_6 rfl (lv_at hl 2 rfl) ?_
    refine lv_icmp_gt (tgt := 14) hx hb dX11_isIn_7 (by decide) (fun c7 => ?_) (fun c7 => ?_)
    · refine lv_iconst (v := 0) hx hb dX11_isIn_14 (by decide) ?_
      exact W.zret (v := 0) hx hb hr (rfl) (fun t ht hW => ⟨ovI (bZ_f (by simp [inR, Int32.not_le.mpr c7])).symm, ht⟩) hL dX11_isIn_15
    · refine lv_iconst (v := 1) hx hb dX11_isIn_10 (by decide) ?_
      refine lv_goto (tgt := 15) hx hb dX11_isIn_11 (by decide) ?_
      exact W.zret (v := 1) hx hb hr (rfl) (fun t ht hW => ⟨ovI (bZ_t (by simp [inR, i_nlt c2, i_nlt c7])).symm, ht⟩) hL dX11_isIn_15
set_option maxHeartbeats 4000000 in
set_option maxRecDepth 100000 in
/-- isIn: whether a number is within bounds -/
theorem ct_X1_isIn {l : Launch} {s0 : State} {D : va_G} {DA : Nat → ClassId} {z0 : Nat} {H : Heap} (hE : G0 l s0 D DA z0) (x a b : Int32) : Met l yX1_isIn (ws_ yX1_isIn cX1_isIn 3 (some .boolean)) ({ frames := 0, cells := 0, slots := 0, locals := 0 }) (cP s0 [.int x, .int a, .int b] H) (cQv (.int (bZ (inR x a b))) (fun H1 => H1 = H)) 0 0 (cF s0) := by
  refine Met.ofW (cc := cX1_isIn) (maxL := 3) (ret := (some .boolean)) (by decide) rfl ?_
  intro p e s m args below meth c s₁ Bd hml hv
  obtain ⟨rfl, rfl, hW0⟩ := hv
  have hx := Bd.exec
  have hb := Bd.bytes
  have hr := Bd.returns
  have hts := atoms_spec (ws := (ws_ yX1_isIn cX1_isIn 3 (some .boolean))) Bd.pre
  have hts : ∀ w ∈ lw_all, w.before _ s = true := fun w h => hts w (List.mem_cons_of_mem _ h)
  have hown : s.vm.findClass RX1 = some m.cls := findClass_of_methodNamed Bd.named
  have hlocks := Bd.notSynchronized
  have hK := va_K.moved hW0.alike hE.K
  have hL : gx_L s0.heap.size ([] : List Loc) := gx_L0
  have hl := lv_entry ([.int x, .int a, .int b]) (n := 3) (Nat.le_of_ble_eq_true rfl)
  rw [lg_entry_eq]
  generalize (lg_sl ([.int x, .int a, .int b]) ++ List.replicate (3 - (lg_sl ([.int x, .int a, .int b])).length) Slot.unset).toArray = ls at hl ⊢
  have hl : lv_has ls 3 [(0, .int x), (1, .int a), (2, .int b)] := hl
  refine lv_iload_n hx hb dX1_isIn_0 rfl (lv_at hl 0 rfl) ?_
  refine lv_iload_n hx hb dX1_isIn_1 rfl (lv_at hl 1 rfl) ?_
  refine lv_icmp_lt (tgt := 14) hx hb dX1_isIn_2 (by decide) (fun c2 => ?_) (fun c2 => ?_)
  · refine lv_iconst (v := 0) hx hb dX1_isIn_14 (by decide) ?_
    exact W.zret (v := 0) hx hb hr (rfl) (fun t ht hW => ⟨ovI (bZ_f (by simp [inR, Int32.not_le.mpr c2])).symm, ht⟩) hL dX1_isIn_15
  · refine lv_iload_n hx hb dX1_isIn_5 rfl (lv_at hl 0 rfl) ?_
    refine lv_iload_n hx hb dX1_isIn_6 rfl (lv_at hl 2 rfl) ?_
    refine lv_icmp_gt (tgt := 14) hx hb dX1_isIn_7 (by decide) (fun c7 => ?_) (fun c7 => ?_)
    · refine lv_iconst (v := 0) hx hb dX1_isIn_14 (by decide) ?_
      exact W.zret (v := 0) hx hb hr (rfl) (fun t ht hW => ⟨ovI (bZ_f (by simp [inR, Int32.not_le.mpr c7])).symm, ht⟩) hL dX1_isIn_15
    · refine lv_iconst (v := 1) hx hb dX1_isIn_10 (by decide) ?_
      refine lv_goto (tgt := 15) hx hb dX1_isIn_11 (by decide) ?_
      exact W.zret (v := 1) hx hb hr (rfl) (fun t ht hW => ⟨ovI (bZ_t (by simp [inR, i_nlt c2, i_nlt c7])).symm, ht⟩) hL dX1_isIn_15
set_option maxHeartbeats 4000000 in
set_option maxRecDepth 100000 in
/-- isTwelve -/
theorem ct_X11_isTwelve {l : Launch} {s0 : State} {D : va_G} {DA : Nat → ClassId} {z0 : Nat} {H : Heap} (hE : G0 l s0 D DA z0) (x : Int32) : Met l yX11_isTwelve (ws_ yX11_isTwelve cX11_isTwelve 1 (some .boolean)) ({ frames := 1, cells := 0, slots := 0, locals := 22 }) (cP s0 [.int x] H) (cQv (.int (bZ (in12 x))) (fun H1 => H1 = H)) 0 0 (cF s0) := by
  refine Met.ofW (cc := cX11_isTwelve) (maxL := 1) (ret := (some .boolean)) (by decide) rfl ?_
  intro p e s m args below meth c s₁ Bd hml hv
  obtain ⟨rfl, rfl, hW0⟩ := hv
  have hx := Bd.exec
  have hb := Bd.bytes
  have hr := Bd.returns
  have hts := atoms_spec (ws := (ws_ yX11_isTwelve cX11_isTwelve 1 (some .boolean))) Bd.pre
  have hts : ∀ w ∈ lw_all, w.before _ s = true := fun w h => hts w (List.mem_cons_of_mem _ h)
  have hown : s.vm.findClass RX11 = some m.cls := findClass_of_methodNamed Bd.named
  have hlocks := Bd.notSynchronized
  have hK := va_K.moved hW0.alike hE.K
  have hL : gx_L s0.heap.size ([] : List Loc) := gx_L0
  have hl := lv_entry ([.int x]) (n := 1) (Nat.le_of_ble_eq_true rfl)
  rw [lg_entry_eq]
  generalize (lg_sl ([.int x]) ++ List.replicate (1 - (lg_sl ([.int x])).length) Slot.unset).toArray = ls at hl ⊢
  have hl : lv_has ls 1 [(0, .int x)] := hl
  refine lv_iload_n hx hb dX11_isTwelve_0 rfl (lv_at hl 0 rfl) ?_
  refine lv_iconst (v := 0) hx hb dX11_isTwelve_1 (by decide) ?_
  refine lv_bipush (v := 11) hx hb dX11_isTwelve_2 (by decide) ?_
  refine cc_v (va_runS (As := [.int x, .int 0, .int 11]) (rest := []) ⟨hx, hb, hml, hown, hts⟩ (ct_X11_isIn hE x 0 11) (va_cwS 3 hts (lw_S q977 q978 q61 q979) rfl rfl rfl (by decide +kernel) ⟨Nat.le_of_ble_eq_true rfl, Nat.le_of_ble_eq_true rfl⟩) (cc_pS hW0) rfl rfl hl.1 rfl (lv_room (Nat.le_of_ble_eq_true rfl)) dX11_isTwelve_4 ⟨Nat.le_of_ble_eq_true rfl, Nat.le_of_ble_eq_true rfl⟩) hL (fun H locs hP1 hL => ?_)
  subst hP1
  exact W.zret (v := (bZ (inR x 0 11))) hx hb hr (bZ_n _) (fun t ht hW => ⟨rfl, ht⟩) hL dX11_isTwelve_7
set_option maxHeartbeats 4000000 in
set_option maxRecDepth 100000 in
/-- thrown: the latest fault -/
theorem ct_X11_thrown {l : Launch} {s0 : State} {D : va_G} {DA : Nat → ClassId} {z0 : Nat} {C : CS} {M : MS} {o : Int64} {H : Heap} (hE : G0 l s0 D DA z0) (hR : RR s0 D DA z0 C M o H)  : Met l yX11_thrown (ws_ yX11_thrown cX11_thrown 1 (some .int)) ({ frames := 0, cells := 0, slots := 0, locals := 0 }) (cP s0 [.ref (s0.heap.size + 104)] H) (cQv (.int (mS M 0)) (fun H1 => H1 = H)) 0 0 (cF s0) := by
  refine Met.ofW (cc := cX11_thrown) (maxL := 1) (ret := (some .int)) (by decide) rfl ?_
  intro p e s m args below meth c s₁ Bd hml hv
  obtain ⟨rfl, rfl, hW0⟩ := hv
  have hx := Bd.exec
  have hb := Bd.bytes
  have hr := Bd.returns
  have hts := atoms_spec (ws := (ws_ yX11_thrown cX11_thrown 1 (some .int))) Bd.pre
  have hts : ∀ w ∈ lw_all, w.before _ s = true := fun w h => hts w (List.mem_cons_of_mem _ h)
  have hown : s.vm.findClass RX11 = some m.cls := findClass_of_methodNamed Bd.named
  have hlocks := Bd.notSynchronized
  have hK := va_K.moved hW0.alike hE.K
  have hL : gx_L s0.heap.size ([] : List Loc) := gx_L0
  obtain ⟨Y, hR⟩ := hR
  have hl := lv_entry ([.ref (s0.heap.size + 104)]) (n := 1) (Nat.le_of_ble_eq_true rfl)
  rw [lg_entry_eq]
  generalize (lg_sl ([.ref (s0.heap.size + 104)]) ++ List.replicate (1 - (lg_sl ([.ref (s0.heap.size + 104)])).length) Slot.unset).toArray = ls at hl ⊢
  have hl : lv_has ls 1 [(0, .ref (s0.heap.size + 104))] := hl
  refine lv_aload_n hx hb dX11_thrown_0 rfl (lv_at hl 0 rfl) ?_
  refine gx_get (D := D) (cl := gcl) (ci := 10) (v := .int (mS M 0)) (C := RX11) (T := TX11) (N := 27) hx hb hts in_X11 hown hK hR.mo rfl 0 (by decide) (hts _ q886) (fun _ h9 => h9) rfl dX11_thrown_1 ?_
  exact W.iret (v := (mS M 0)) hx hb hr (fun t ht hW => ⟨rfl, ht⟩) hL dX11_thrown_4
set_option maxHeartbeats 4000000 in
set_option maxRecDepth 100000 in
/-- refused: lays the fault; whether there is one -/
theorem ct_X11_refused {l : Launch} {s0 : State} {D : va_G} {DA : Nat → ClassId} {z0 : Nat} {C : CS} {M : MS} {o : Int64} {H : Heap} (hE : G0 l s0 D DA z0) (hR : RR s0 D DA z0 C M o H) (x : Int32) : Met l yX11_refused (ws_ yX11_refused cX11_refused 2 (some .boolean)) ({ frames := 0, cells := 0, slots := 0, locals := 0 }) (cP s0 [.ref (s0.heap.size + 104), .int x] H) (cQv (.int (bZ (decide (0 < x)))) (fun H1 => RR s0 D DA z0 C (mz M 0 x) o H1)) 0 0 (cF s0) := by
  refine Met.ofW (cc := cX11_refused) (maxL := 2) (ret := (some .boolean)) (by decide) rfl ?_
  intro p e s m args below meth c s₁ Bd hml hv
  obtain ⟨rfl, rfl, hW0⟩ := hv
  have hx := Bd.exec
  have hb := Bd.bytes
  have hr := Bd.returns
  have hts := atoms_spec (ws := (ws_ yX11_refused cX11_refused 2 (some .boolean))) Bd.pre
  have hts : ∀ w ∈ lw_all, w.before _ s = true := fun w h => hts w (List.mem_cons_of_mem _ h)
  have hown : s.vm.findClass RX11 = some m.cls := findClass_of_methodNamed Bd.named
  have hlocks := Bd.notSynchronized
  have hK := va_K.moved hW0.alike hE.K
  have hL : gx_L s0.heap.size ([] : List Loc) := gx_L0
  obtain ⟨Y, hR⟩ := hR
  have hl := lv_entry ([.ref (s0.heap.size + 104), .int x]) (n := 2) (Nat.le_of_ble_eq_true rfl)
  rw [lg_entry_eq]
  generalize (lg_sl ([.ref (s0.heap.size + 104), .int x]) ++ List.replicate (2 - (lg_sl ([.ref (s0.heap.size + 104), .int x])).length) Slot.unset).toArray = ls at hl ⊢
  have hl : lv_has ls 2 [(0, .ref (s0.heap.size + 104)), (1, .int x)] := hl
  refine lv_aload_n hx hb dX11_refused_0 rfl (lv_at hl 0 rfl) ?_
  refine lv_iload_n hx hb dX11_refused_1 rfl (lv_at hl 1 rfl) ?_
  refine gx_put (D := D) (cl := gcl) (ci := 10) (v := .int x) (ty := .int) (C := RX11) (T := TX11) (N := 27) hx hb hts in_X11 tyX11 tyX11_ok nmX11 hown hK hR.mo rfl 0 (by decide) (hts _ q886) (fun _ h9 => h9) rfl (by decide +kernel) (rfl) rfl (Nat.le_of_ble_eq_true rfl) hL (by (try simp only [aI, aA, aT, aB, aL, mad]); omega) dX11_refused_2 (fun H locs hU hA hL => ?_)
  have hR := GRb.pMS (j := 0) (by decide) hR hU hA
  refine lv_iload_n hx hb dX11_refused_5 rfl (lv_at hl 1 rfl) ?_
  refine lv_if_le (tgt := 13) hx hb dX11_refused_6 (by decide) (fun c6 => ?_) (fun c6 => ?_)
  · refine lv_iconst (v := 0) hx hb dX11_refused_13 (by decide) ?_
    exact W.zret (v := 0) hx hb hr (rfl) (fun t ht hW => ⟨ovI (bZ_f (by simp [Int32.not_lt.mpr c6])).symm, by rw [ht]; exact ⟨Y, hR⟩⟩) hL dX11_refused_14
  · refine lv_iconst (v := 1) hx hb dX11_refused_9 (by decide) ?_
    refine lv_goto (tgt := 14) hx hb dX11_refused_10 (by decide) ?_
    exact W.zret (v := 1) hx hb hr (rfl) (fun t ht hW => ⟨ovI (bZ_t (by simp [i_nle c6])).symm, by rw [ht]; exact ⟨Y, hR⟩⟩) hL dX11_refused_14
set_option maxHeartbeats 4000000 in
set_option maxRecDepth 100000 in
/-- tell -/
theorem ct_X11_tell {l : Launch} {s0 : State} {D : va_G} {DA : Nat → ClassId} {z0 : Nat} {C : CS} {M : MS} {o : Int64} {H : Heap} (hE : G0 l s0 D DA z0) (hR : RR s0 D DA z0 C M o H) (i : Nat) (hi : i < 12) : Met l yX11_tell (ws_ yX11_tell cX11_tell 2 none) ({ frames := 0, cells := 0, slots := 0, locals := 0 }) (cP s0 [.ref (s0.heap.size + 104), .int (nI i)] H) (cQ0 (fun H1 => RR s0 D DA z0 C (m_tell M i) o H1)) 0 0 (cF s0) := by
  refine Met.ofW (cc := cX11_tell) (maxL := 2) (ret := none) (by decide) rfl ?_
  intro p e s m args below meth c s₁ Bd hml hv
  obtain ⟨rfl, rfl, hW0⟩ := hv
  have hx := Bd.exec
  have hb := Bd.bytes
  have hr := Bd.returns
  have hts := atoms_spec (ws := (ws_ yX11_tell cX11_tell 2 none)) Bd.pre
  have hts : ∀ w ∈ lw_all, w.before _ s = true := fun w h => hts w (List.mem_cons_of_mem _ h)
  have hown : s.vm.findClass RX11 = some m.cls := findClass_of_methodNamed Bd.named
  have hlocks := Bd.notSynchronized
  have hK := va_K.moved hW0.alike hE.K
  have hL : gx_L s0.heap.size ([] : List Loc) := gx_L0
  obtain ⟨Y, hR⟩ := hR
  have hl := lv_entry ([.ref (s0.heap.size + 104), .int (nI i)]) (n := 2) (Nat.le_of_ble_eq_true rfl)
  rw [lg_entry_eq]
  generalize (lg_sl ([.ref (s0.heap.size + 104), .int (nI i)]) ++ List.replicate (2 - (lg_sl ([.ref (s0.heap.size + 104), .int (nI i)])).length) Slot.unset).toArray = ls at hl ⊢
  have hl : lv_has ls 2 [(0, .ref (s0.heap.size + 104)), (1, .int (nI i))] := hl
  refine lv_aload_n hx hb dX11_tell_0 rfl (lv_at hl 0 rfl) ?_
  refine gx_get (D := D) (cl := gcl) (ci := 10) (v := .ref (mad s0.heap.size 17)) (C := RX11) (T := TX11) (N := 27) hx hb hts in_X11 hown hK hR.mo rfl 21 (by decide) (hts _ q907) (fun _ h9 => h9) rfl dX11_tell_1 ?_
  refine lv_iload_n hx hb dX11_tell_4 rfl (lv_at hl 1 rfl) ?_
  refine lv_iconst (v := 1) hx hb dX11_tell_5 (by decide) ?_
  refine gx_zast (n := 12) hx hb hK 2 hR.mza rfl (rfl) i (rfl) (by omega) (by decide) hL (by (try simp only [aI, aA, aT, aB, aL, mad]); omega) dX11_tell_6 (fun H locs hU hA hL => ?_)
  have hR := GRb.pMZ hR hU hA
  refine lv_aload_n hx hb dX11_tell_7 rfl (lv_at hl 0 rfl) ?_
  refine lv_iconst (v := 1) hx hb dX11_tell_8 (by decide) ?_
  refine gx_put (D := D) (cl := gcl) (ci := 10) (v := .int 1) (ty := .boolean) (C := RX11) (T := TX11) (N := 27) hx hb hts in_X11 tyX11 tyX11_ok nmX11 hown hK hR.mo rfl 20 (by decide) (hts _ q906) (fun _ h9 => h9) rfl (by decide +kernel) (rfl) rfl (Nat.le_of_ble_eq_true rfl) hL (by (try simp only [aI, aA, aT, aB, aL, mad]); omega) dX11_tell_9 (fun H locs hU hA hL => ?_)
  have hR := GRb.pMS (j := 20) (by decide) hR hU hA
  exact W.vret hx hb hr (fun t ht hW => ⟨rfl, by rw [ht]; exact ⟨Y, hR⟩⟩) hL dX11_tell_12
