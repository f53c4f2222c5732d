set_option maxHeartbeats 4000000 in
set_option maxRecDepth 100000 in
/-- fastRemove -/
theorem ct_J2_fastRemove {l : Launch} {s0 : State} {D : va_G} {DA : Nat → ClassId} {z0 : Nat} {H : Heap} (hE : G0 l s0 D DA z0) {a d n : Nat} {mcn : Int32} (hO : va_at D gcl (a, oL mcn d n) H) {cap : Nat} {g : Nat → Option Nat} (hB : va_at D gcl (d, oA (DA 6) cap g) H) (ha : s0.heap.size ≤ a) (hd : s0.heap.size ≤ d) (hnc : n ≤ cap) (hc36 : cap ≤ 36) (hda : d ≠ a) (hel : ∀ i, i < n → ∀ y, g i = some y → elOk D a H y) {i : Nat} (hi : i < n) : Met l yJ2_fastRemove (ws_ yJ2_fastRemove cJ2_fastRemove 4 none) ({ frames := 1, cells := 0, slots := 0, locals := 40 }) (cP s0 [.ref a, .ref d, .int (nI i)] H) (cQ0 (fun H1 => lRem D (DA 6) a d cap n i g (mcn + 1) H H1)) 0 0 (cF s0) := by
  refine Met.ofW (cc := cJ2_fastRemove) (maxL := 4) (ret := none) (by decide) rfl ?_
  intro p e s m args below meth c s₁ Bd hml hv
  obtain ⟨rfl, rfl, hW0⟩ := hv
  have hx := Bd.exec
  have hb := Bd.bytes
  have hr := Bd.returns
  have hts := atoms_spec (ws := (ws_ yJ2_fastRemove cJ2_fastRemove 4 none)) Bd.pre
  have hts : ∀ w ∈ lw_all, w.before _ s = true := fun w h => hts w (List.mem_cons_of_mem _ h)
  have hown : s.vm.findClass RJ2 = some m.cls := findClass_of_methodNamed Bd.named
  have hlocks := Bd.notSynchronized
  have hK := va_K.moved hW0.alike hE.K
  have hL : gx_L s0.heap.size ([] : List Loc) := gx_L0
  have hl := lv_entry ([.ref a, .ref d, .int (nI i)]) (n := 4) (Nat.le_of_ble_eq_true rfl)
  rw [lg_entry_eq]
  generalize (lg_sl ([.ref a, .ref d, .int (nI i)]) ++ List.replicate (4 - (lg_sl ([.ref a, .ref d, .int (nI i)])).length) Slot.unset).toArray = ls at hl ⊢
  have hl : lv_has ls 4 [(0, .ref a), (1, .ref d), (2, .int (nI i))] := hl
  refine lv_aload_n hx hb dJ2_fastRemove_0 rfl (lv_at hl 0 rfl) ?_
  refine lv_dup hx hb dJ2_fastRemove_1 rfl ?_
  refine gx_get (D := D) (cl := gcl) (ci := 1) (v := .int mcn) (C := RJ2) (T := TJ2) (N := 3) hx hb hts in_J2 hown hK hO rfl 0 (by decide) (hts _ q103) (u_same (hts _ q104)) rfl dJ2_fastRemove_2 ?_
  refine lv_iconst (v := 1) hx hb dJ2_fastRemove_5 (by decide) ?_
  refine lv_iadd hx hb dJ2_fastRemove_6 ?_
  refine gx_put (D := D) (cl := gcl) (ci := 1) (v := .int (mcn + 1)) (ty := .int) (C := RJ2) (T := TJ2) (N := 3) hx hb hts in_J2 tyJ2 tyJ2_ok nmJ2 hown hK hO rfl 0 (by decide) (hts _ q103) (u_same (hts _ q104)) rfl (by decide +kernel) (rfl) rfl (Nat.le_of_ble_eq_true rfl) hL (by (try simp only [aI, aA, aT, aB, aL, mad]); omega) dJ2_fastRemove_7 (fun H locs hU hA hL => ?_)
  have hO : va_at D gcl (a, oL (mcn + 1) d n) H := hA
  have hU1 := hU
  have hB : va_at D gcl (d, oA (DA 6) cap g) H := hU.at hda hB
  have hF := (gF.rf (P := fun q => q = a ∨ q = d)).U hU1 (fun _ => Or.inl rfl)
  have hz2 : H.size = s.heap.size := hU1.1
  refine lv_aload_n hx hb dJ2_fastRemove_10 rfl (lv_at hl 0 rfl) ?_
  refine gx_get (D := D) (cl := gcl) (ci := 1) (v := .int (nI n)) (C := RJ2) (T := TJ2) (N := 3) hx hb hts in_J2 hown hK hO rfl 2 (by decide) (hts _ q101) (fun _ h9 => h9) rfl dJ2_fastRemove_11 ?_
  refine lv_iconst (v := 1) hx hb dJ2_fastRemove_14 (by decide) ?_
  refine lv_isub hx hb dJ2_fastRemove_15 ?_
  refine gx_ti (nI (n - 1)) (pk_sub (b := 1) (by omega)) ?_
  refine lv_dup hx hb dJ2_fastRemove_16 rfl ?_
  refine lv_istore_n (lv' := [(3, .int (nI (n - 1))), (0, .ref a), (1, .ref d), (2, .int (nI i))]) hx hb dJ2_fastRemove_17 rfl hl (by decide) rfl (fun ls hl => ?_)
  refine lv_iload_n hx hb dJ2_fastRemove_18 rfl (lv_at hl 3 rfl) ?_
  refine lv_icmp_le (tgt := 34) hx hb dJ2_fastRemove_19 (by decide) (fun c19 => ?_) (fun c19 => ?_)
  · have hle : n - 1 ≤ i := n_ge c19 (by omega) (by omega)
    refine lv_aload_n hx hb dJ2_fastRemove_34 rfl (lv_at hl 2 rfl) ?_
    refine lv_aload_n hx hb dJ2_fastRemove_35 rfl (lv_at hl 1 rfl) ?_
    refine lv_iload_n hx hb dJ2_fastRemove_36 rfl (lv_at hl 0 rfl) ?_
    refine lv_dup_x1 hx hb dJ2_fastRemove_37 rfl rfl ?_
    refine gx_put (D := D) (cl := gcl) (ci := 1) (v := .int (nI (n - 1))) (ty := .int) (C := RJ2) (T := TJ2) (N := 3) hx hb hts in_J2 tyJ2 tyJ2_ok nmJ2 hown hK hO rfl 2 (by decide) (hts _ q101) (fun _ h9 => h9) rfl (by decide +kernel) (rfl) rfl (Nat.le_of_ble_eq_true rfl) hL (by (try simp only [aI, aA, aT, aB, aL, mad]); omega) dJ2_fastRemove_38 (fun H locs hU hA hL => ?_)
    have hO : va_at D gcl (a, oL (mcn + 1) d (n - 1)) H := hA
    have hB : va_at D gcl (d, oA (DA 6) cap g) H := hU.at hda hB
    have hz2 : H.size = s.heap.size := by rw [hU.1]; exact hz2
    have hF := hF.U hU (fun _ => Or.inl rfl)
    refine lv_null hx hb dJ2_fastRemove_41 ?_
    refine gx_aastN hx hb hK 6 hB rfl (n - 1) rfl (by omega) (by omega) hL hd dJ2_fastRemove_42 (fun H locs hU3 hB hL => ?_)
    have hO : va_at D gcl (a, oL (mcn + 1) d (n - 1)) H := hU3.at hda.symm hO
    have hF := hF.U hU3 (fun _ => Or.inr rfl)
    exact W.vret hx hb hr (fun t ht hW => ⟨rfl, by rw [ht]; exact ⟨_, hF, by rw [hU3.1]; exact hz2, hO, hB, fun k hk => lRem_n hk hle⟩⟩) hL dJ2_fastRemove_43
  · have hle : i < n - 1 := n_lt c19 (by omega) (by omega)
    refine lv_aload_n hx hb dJ2_fastRemove_22 rfl (lv_at hl 2 rfl) ?_
    refine lv_iload_n hx hb dJ2_fastRemove_23 rfl (lv_at hl 3 rfl) ?_
    refine lv_iconst (v := 1) hx hb dJ2_fastRemove_24 (by decide) ?_
    refine lv_iadd hx hb dJ2_fastRemove_25 ?_
    refine gx_ti (nI (i + 1)) (nI_add i 1) ?_
    refine lv_aload_n hx hb dJ2_fastRemove_26 rfl (lv_at hl 2 rfl) ?_
    refine lv_iload_n hx hb dJ2_fastRemove_27 rfl (lv_at hl 3 rfl) ?_
    refine lv_iload_n hx hb dJ2_fastRemove_28 rfl (lv_at hl 0 rfl) ?_
    refine lv_iload_n hx hb dJ2_fastRemove_29 rfl (lv_at hl 3 rfl) ?_
    refine lv_isub hx hb dJ2_fastRemove_30 ?_
    refine gx_ti (nI (n - 1 - i)) (pk_sub (by omega)) ?_
    refine gx_copyq hx hb (by rw [hml]; exact hl.1.symm) hown (hts _ q435) (hts _ q375) (hts _ q374) (hts _ q70) hK 6 6 hB hB rfl rfl (i + 1) i (n - 1 - i) rfl rfl rfl (by omega) (by omega) (by omega) (by omega) (fun j hj y hy => ((hel (i + 1 + j) (by omega) y hy).U hU1).any hE hW0) (Nat.le_of_ble_eq_true rfl) (Nat.le_of_ble_eq_true rfl) hL hd dJ2_fastRemove_31 (fun H locs hU2 hB hL => ?_)
    have hz2 : H.size = s.heap.size := by rw [hU2.1]; exact hz2
    have hF := hF.U hU2 (fun _ => Or.inr rfl)
    have hO : va_at D gcl (a, oL (mcn + 1) d n) H := hU2.at hda.symm hO
    refine lv_aload_n hx hb dJ2_fastRemove_34 rfl (lv_at hl 2 rfl) ?_
    refine lv_aload_n hx hb dJ2_fastRemove_35 rfl (lv_at hl 1 rfl) ?_
    refine lv_iload_n hx hb dJ2_fastRemove_36 rfl (lv_at hl 0 rfl) ?_
    refine lv_dup_x1 hx hb dJ2_fastRemove_37 rfl rfl ?_
    refine gx_put (D := D) (cl := gcl) (ci := 1) (v := .int (nI (n - 1))) (ty := .int) (C := RJ2) (T := TJ2) (N := 3) hx hb hts in_J2 tyJ2 tyJ2_ok nmJ2 hown hK hO rfl 2 (by decide) (hts _ q101) (fun _ h9 => h9) rfl (by decide +kernel) (rfl) rfl (Nat.le_of_ble_eq_true rfl) hL (by (try simp only [aI, aA, aT, aB, aL, mad]); omega) dJ2_fastRemove_38 (fun H locs hU hA hL => ?_)
    have hO : va_at D gcl (a, oL (mcn + 1) d (n - 1)) H := hA
    have hB : va_at D gcl (d, oA (DA 6) cap (va_cpy g g (i + 1) i (n - 1 - i))) H := hU.at hda hB
    have hz2 : H.size = s.heap.size := by rw [hU.1]; exact hz2
    have hF := hF.U hU (fun _ => Or.inl rfl)
    refine lv_null hx hb dJ2_fastRemove_41 ?_
    refine gx_aastN hx hb hK 6 hB rfl (n - 1) rfl (by omega) (by omega) hL hd dJ2_fastRemove_42 (fun H locs hU3 hB hL => ?_)
    have hO : va_at D gcl (a, oL (mcn + 1) d (n - 1)) H := hU3.at hda.symm hO
    have hF := hF.U hU3 (fun _ => Or.inr rfl)
    exact W.vret hx hb hr (fun t ht hW => ⟨rfl, by rw [ht]; exact ⟨_, hF, by rw [hU3.1]; exact hz2, hO, hB, fun k hk => lRem_c hk hle⟩⟩) hL dJ2_fastRemove_43
set_option maxHeartbeats 4000000 in
set_option maxRecDepth 100000 in
/-- remove -/
theorem ct_J2_remove {l : Launch} {s0 : State} {D : va_G} {DA : Nat → ClassId} {z0 : Nat} {H : Heap} (hE : G0 l s0 D DA z0) {a d n : Nat} {mcn : Int32} (hO : va_at D gcl (a, oL mcn d n) H) {cap : Nat} {g : Nat → Option Nat} (hB : va_at D gcl (d, oA (DA 6) cap g) H) (ha : s0.heap.size ≤ a) (hd : s0.heap.size ≤ d) (hnc : n ≤ cap) (hc36 : cap ≤ 36) (hda : d ≠ a) (hel : ∀ i, i < n → ∀ y, g i = some y → elOk D a H y) {i : Nat} (hi : i < n) {x : Nat} (hgx : g i = some x) : Met l yJ2_remove (ws_ yJ2_remove cJ2_remove 4 (some (.object "java/lang/Object"))) ({ frames := 2, cells := 0, slots := 0, locals := 63 }) (cP s0 [.ref a, .int (nI i)] H) (cQv (.ref x) (fun H1 => lRem D (DA 6) a d cap n i g (mcn + 1) H H1)) 0 0 (cF s0) := by
  refine Met.ofW (cc := cJ2_remove) (maxL := 4) (ret := (some (.object "java/lang/Object"))) (by decide) rfl ?_
  intro p e s m args below meth c s₁ Bd hml hv
  obtain ⟨rfl, rfl, hW0⟩ := hv
  have hx := Bd.exec
  have hb := Bd.bytes
  have hr := Bd.returns
  have hts := atoms_spec (ws := (ws_ yJ2_remove cJ2_remove 4 (some (.object "java/lang/Object")))) Bd.pre
  have hts : ∀ w ∈ lw_all, w.before _ s = true := fun w h => hts w (List.mem_cons_of_mem _ h)
  have hown : s.vm.findClass RJ2 = some m.cls := findClass_of_methodNamed Bd.named
  have hlocks := Bd.notSynchronized
  have hK := va_K.moved hW0.alike hE.K
  have hL : gx_L s0.heap.size ([] : List Loc) := gx_L0
  have hl := lv_entry ([.ref a, .int (nI i)]) (n := 4) (Nat.le_of_ble_eq_true rfl)
  rw [lg_entry_eq]
  generalize (lg_sl ([.ref a, .int (nI i)]) ++ List.replicate (4 - (lg_sl ([.ref a, .int (nI i)])).length) Slot.unset).toArray = ls at hl ⊢
  have hl : lv_has ls 4 [(0, .ref a), (1, .int (nI i))] := hl
  refine lv_iload_n hx hb dJ2_remove_0 rfl (lv_at hl 1 rfl) ?_
  refine lv_aload_n hx hb dJ2_remove_1 rfl (lv_at hl 0 rfl) ?_
  refine gx_get (D := D) (cl := gcl) (ci := 1) (v := .int (nI n)) (C := RJ2) (T := TJ2) (N := 3) hx hb hts in_J2 hown hK hO rfl 2 (by decide) (hts _ q101) (fun _ h9 => h9) rfl dJ2_remove_2 ?_
  refine cc_v (va_runS (As := [.int (nI i), .int (nI n)]) (rest := []) ⟨hx, hb, hml, hown, hts⟩ (ct_J9_checkIndex hE (hi) (by omega)) (va_cwS 2 hts (lw_S q386 q387 q67 q388) rfl rfl rfl (by decide +kernel) ⟨Nat.le_of_ble_eq_true rfl, Nat.le_of_ble_eq_true rfl⟩) (cc_pS hW0) rfl rfl hl.1 rfl (lv_room (Nat.le_of_ble_eq_true rfl)) dJ2_remove_5 ⟨Nat.le_of_ble_eq_true rfl, Nat.le_of_ble_eq_true rfl⟩) hL (fun H locs hP1 hL => ?_)
  subst hP1
  refine lv_pop hx hb dJ2_remove_8 rfl ?_
  refine lv_aload_n hx hb dJ2_remove_9 rfl (lv_at hl 0 rfl) ?_
  refine gx_get (D := D) (cl := gcl) (ci := 1) (v := .ref d) (C := RJ2) (T := TJ2) (N := 3) hx hb hts in_J2 hown hK hO rfl 1 (by decide) (hts _ q100) (fun _ h9 => h9) rfl dJ2_remove_10 ?_
  refine lv_astore_n (lv' := [(2, .ref d), (0, .ref a), (1, .int (nI i))]) hx hb dJ2_remove_13 rfl hl (by decide) rfl (fun ls hl => ?_)
  refine lv_aload_n hx hb dJ2_remove_14 rfl (lv_at hl 0 rfl) ?_
  refine lv_iload_n hx hb dJ2_remove_15 rfl (lv_at hl 2 rfl) ?_
  refine gx_aald (x := x) hx hb hK 6 hB rfl i (rfl) (by omega) (by omega) (hgx) dJ2_remove_16 ?_
  refine lv_astore_n (lv' := [(3, .ref x), (2, .ref d), (0, .ref a), (1, .int (nI i))]) hx hb dJ2_remove_17 rfl hl (by decide) rfl (fun ls hl => ?_)
  refine lv_aload_n hx hb dJ2_remove_18 rfl (lv_at hl 2 rfl) ?_
  refine lv_aload_n hx hb dJ2_remove_19 rfl (lv_at hl 1 rfl) ?_
  refine lv_iload_n hx hb dJ2_remove_20 rfl (lv_at hl 3 rfl) ?_
  refine cc_0 (va_runV (b := a) (As := [.ref d, .int (nI i)]) (rest := []) ⟨hx, hb, hml, hown, hts⟩ (ct_J2_fastRemove hE hO hB ha hd hnc hc36 hda hel hi) (cwV 2 hts (lw_V q431 q433 qs5 q50 q434) rfl rfl rfl (by decide +kernel) ⟨Nat.le_of_ble_eq_true rfl, Nat.le_of_ble_eq_true rfl⟩) (cc_pV hW0 (cc_re hK hO (show gcl[1]? = _ from rfl))) rfl rfl hl.1 rfl (lv_room (Nat.le_of_ble_eq_true rfl)) dJ2_remove_21 ⟨Nat.le_of_ble_eq_true rfl, Nat.le_of_ble_eq_true rfl⟩) hL (fun H locs hP1 hL => ?_)
  refine lv_aload_n hx hb dJ2_remove_24 rfl (lv_at hl 0 rfl) ?_
  exact W.aret hx hb hr (Or.inl ⟨_, rfl⟩) (Or.inr ⟨_, rfl⟩) (fun t ht hW => ⟨rfl, by rw [ht]; exact hP1⟩) hL dJ2_remove_25
set_option maxHeartbeats 4000000 in
set_option maxRecDepth 100000 in
/-- AbstractCollection() -/
theorem ct_J0_init {l : Launch} {s0 : State} {D : va_G} {DA : Nat → ClassId} {z0 : Nat} {H : Heap} (hE : G0 l s0 D DA z0) {a : Nat} : Met l yJ0_init (ws_ yJ0_init cJ0_init 1 none) ({ frames := 1, cells := 0, slots := 0, locals := 12 }) (cP s0 [.ref a] H) (cQ0 (fun H1 => H1 = H)) 0 0 (cF s0) := by
  refine Met.ofW (cc := cJ0_init) (maxL := 1) (ret := none) (by decide) rfl ?_
  intro p e s m args below meth c s₁ Bd hml hv
  obtain ⟨rfl, rfl, hW0⟩ := hv
  have hx := Bd.exec
  have hb := Bd.bytes
  have hr := Bd.returns
  have hts := atoms_spec (ws := (ws_ yJ0_init cJ0_init 1 none)) Bd.pre
  have hts : ∀ w ∈ lw_all, w.before _ s = true := fun w h => hts w (List.mem_cons_of_mem _ h)
  have hown : s.vm.findClass RJ0 = some m.cls := findClass_of_methodNamed Bd.named
  have hlocks := Bd.notSynchronized
  have hin : meth.name = "<init>" := (name_of_methodNamed Bd.named Bd.method).1
  have hK := va_K.moved hW0.alike hE.K
  have hL : gx_L s0.heap.size ([] : List Loc) := gx_L0
  have hl := lv_entry ([.ref a]) (n := 1) (Nat.le_of_ble_eq_true rfl)
  rw [lg_entry_eq]
  generalize (lg_sl ([.ref a]) ++ List.replicate (1 - (lg_sl ([.ref a])).length) Slot.unset).toArray = ls at hl ⊢
  have hl : lv_has ls 1 [(0, .ref a)] := hl
  refine lv_aload_n hx hb dJ0_init_0 rfl (lv_at hl 0 rfl) ?_
  refine W.objInit hx hb hown (hts _ q97) (hts _ q82) (hts _ q83) rfl (by rw [hml]; exact hl.1) rfl dJ0_init_1 (Nat.le_of_ble_eq_true rfl) (Nat.le_of_ble_eq_true rfl) ?_
  refine W.eq (g2 := F0 m 4 ls []) rfl ?_
  exact W.vret hx hb hr (fun t ht hW => ⟨rfl, ht⟩) hL dJ0_init_4
set_option maxHeartbeats 4000000 in
set_option maxRecDepth 100000 in
/-- AbstractList() -/
theorem ct_J1_init {l : Launch} {s0 : State} {D : va_G} {DA : Nat → ClassId} {z0 : Nat} {H : Heap} (hE : G0 l s0 D DA z0) {a : Nat} (hO : va_at D gcl (a, .inr (1, [.int 0, .null, .int 0])) H) (ha : s0.heap.size ≤ a) : Met l yJ1_init (ws_ yJ1_init cJ1_init 1 none) ({ frames := 2, cells := 0, slots := 0, locals := 32 }) (cP s0 [.ref a] H) (cQ0 (fun H1 => gx_U a H H1 ∧ va_at D gcl (a, .inr (1, [.int 0, .null, .int 0])) H1)) 0 0 (cF s0) := by
  refine Met.ofW (cc := cJ1_init) (maxL := 1) (ret := none) (by decide) rfl ?_
  intro p e s m args below meth c s₁ Bd hml hv
  obtain ⟨rfl, rfl, hW0⟩ := hv
  have hx := Bd.exec
  have hb := Bd.bytes
  have hr := Bd.returns
  have hts := atoms_spec (ws := (ws_ yJ1_init cJ1_init 1 none)) Bd.pre
  have hts : ∀ w ∈ lw_all, w.before _ s = true := fun w h => hts w (List.mem_cons_of_mem _ h)
  have hown : s.vm.findClass RJ1 = some m.cls := findClass_of_methodNamed Bd.named
  have hlocks := Bd.notSynchronized
  have hin : meth.name = "<init>" := (name_of_methodNamed Bd.named Bd.method).1
  have hK := va_K.moved hW0.alike hE.K
  have hL : gx_L s0.heap.size ([] : List Loc) := gx_L0
  have hl := lv_entry ([.ref a]) (n := 1) (Nat.le_of_ble_eq_true rfl)
  rw [lg_entry_eq]
  generalize (lg_sl ([.ref a]) ++ List.replicate (1 - (lg_sl ([.ref a])).length) Slot.unset).toArray = ls at hl ⊢
  have hl : lv_has ls 1 [(0, .ref a)] := hl
  refine lv_aload_n hx hb dJ1_init_0 rfl (lv_at hl 0 rfl) ?_
  refine cc_0 (va_runI (b := a) (As := []) (rest := []) ⟨hx, hb, hml, hown, hts⟩ (ct_J0_init (a := a) hE) (cwI 0 hts (lw_meth q96) rfl rfl rfl (hts _ q48) (hts _ q94) (hts _ q95) rfl (by decide +kernel) ⟨Nat.le_of_ble_eq_true rfl, Nat.le_of_ble_eq_true rfl⟩) (cc_pS hW0) rfl rfl hl.1 rfl (lv_room (Nat.le_of_ble_eq_true rfl)) dJ1_init_1 ⟨Nat.le_of_ble_eq_true rfl, Nat.le_of_ble_eq_true rfl⟩) hL (fun H locs hP1 hL => ?_)
  subst hP1
  refine lv_aload_n hx hb dJ1_init_4 rfl (lv_at hl 0 rfl) ?_
  refine lv_iconst (v := 0) hx hb dJ1_init_5 (by decide) ?_
  refine gx_put (D := D) (cl := gcl) (ci := 1) (v := .int 0) (ty := .int) (C := RJ2) (T := TJ2) (N := 3) hx hb hts in_J2 tyJ2 tyJ2_ok nmJ2 hown hK hO rfl 0 (by decide) (hts _ q102) (fun _ h9 => h9) rfl (by decide +kernel) (rfl) rfl (Nat.le_of_ble_eq_true rfl) hL (by (try simp only [aI, aA, aT, aB, aL, mad]); omega) dJ1_init_6 (fun H locs hU hA hL => ?_)
  exact W.vret hx hb hr (fun t ht hW => ⟨rfl, by rw [ht]; exact ⟨hU, hA⟩⟩) hL dJ1_init_9
set_option maxHeartbeats 4000000 in
set_option maxRecDepth 100000 in
/-- ArrayList() -/
theorem ct_J2_init {l : Launch} {s0 : State} {D : va_G} {DA : Nat → ClassId} {z0 : Nat} {H : Heap} (hE : G0 l s0 D DA z0) {a : Nat} (hO : va_at D gcl (a, .inr (1, [.int 0, .null, .int 0])) H) (ha : s0.heap.size ≤ a) (hold : ∀ q, q < s0.heap.size → H[q]? = s0.heap[q]?) : Met l yJ2_init (ws_ yJ2_init cJ2_init 1 none) ({ frames := 3, cells := 0, slots := 0, locals := 52 }) (cP s0 [.ref a] H) (cQ0 (fun H1 => gx_U a H H1 ∧ va_at D gcl (a, oL 0 z0 0) H1)) 0 0 (cF s0) := by
  refine Met.ofW (cc := cJ2_init) (maxL := 1) (ret := none) (by decide) rfl ?_
  intro p e s m args below meth c s₁ Bd hml hv
  obtain ⟨rfl, rfl, hW0⟩ := hv
  have hx := Bd.exec
  have hb := Bd.bytes
  have hr := Bd.returns
  have hts := atoms_spec (ws := (ws_ yJ2_init cJ2_init 1 none)) Bd.pre
  have hts : ∀ w ∈ lw_all, w.before _ s = true := fun w h => hts w (List.mem_cons_of_mem _ h)
  have hown : s.vm.findClass RJ2 = some m.cls := findClass_of_methodNamed Bd.named
  have hlocks := Bd.notSynchronized
  have hin : meth.name = "<init>" := (name_of_methodNamed Bd.named Bd.method).1
  have hK := va_K.moved hW0.alike hE.K
  have hL : gx_L s0.heap.size ([] : List Loc) := gx_L0
  have hl := lv_entry ([.ref a]) (n := 1) (Nat.le_of_ble_eq_true rfl)
  rw [lg_entry_eq]
  generalize (lg_sl ([.ref a]) ++ List.replicate (1 - (lg_sl ([.ref a])).length) Slot.unset).toArray = ls at hl ⊢
  have hl : lv_has ls 1 [(0, .ref a)] := hl
  refine lv_aload_n hx hb dJ2_init_0 rfl (lv_at hl 0 rfl) ?_
  refine cc_0 (va_runI (b := a) (As := []) (rest := []) ⟨hx, hb, hml, hown, hts⟩ (ct_J1_init hE hO ha) (cwI 0 hts (lw_meth q93) rfl rfl rfl (hts _ q49) (hts _ q91) (hts _ q92) rfl (by decide +kernel) ⟨Nat.le_of_ble_eq_true rfl, Nat.le_of_ble_eq_true rfl⟩) (cc_pS hW0) rfl rfl hl.1 rfl (lv_room (Nat.le_of_ble_eq_true rfl)) dJ2_init_1 ⟨Nat.le_of_ble_eq_true rfl, Nat.le_of_ble_eq_true rfl⟩) hL (fun H locs hP1 hL => ?_)
  obtain ⟨hU1, hO⟩ := hP1
  have hold : ∀ q, q < s0.heap.size → H[q]? = s0.heap[q]? := fun q hq => (hU1.2 q (by omega)).trans (hold q hq)
  refine lv_aload_n hx hb dJ2_init_4 rfl (lv_at hl 0 rfl) ?_
  obtain ⟨cf, kf, fi, f, az, cz, w1, w2, w3, w4, w5, w6, w7⟩ := hE.zst hW0 hold
  refine gx_gets hx hb hown (hts _ q98) w1 w2 w3 w4 w5 w6 w7 dJ2_init_5 ?_
  refine gx_put (D := D) (cl := gcl) (ci := 1) (v := .ref z0) (ty := (.array (.object "java/lang/Object"))) (C := RJ2) (T := TJ2) (N := 3) hx hb hts in_J2 tyJ2 tyJ2_ok nmJ2 hown hK hO rfl 1 (by decide) (hts _ q100) (fun _ h9 => h9) rfl (by decide +kernel) (rfl) rfl (Nat.le_of_ble_eq_true rfl) hL (by (try simp only [aI, aA, aT, aB, aL, mad]); omega) dJ2_init_8 (fun H locs hU hA hL => ?_)
  exact W.vret hx hb hr (fun t ht hW => ⟨rfl, by rw [ht]; exact ⟨⟨by rw [hU.1, hU1.1], fun q hq => (hU.2 q hq).trans (hU1.2 q hq)⟩, hA⟩⟩) hL dJ2_init_11
set_option maxHeartbeats 4000000 in
set_option maxRecDepth 100000 in
/-- Record() -/
theorem ct_J3_init {l : Launch} {s0 : State} {D : va_G} {DA : Nat → ClassId} {z0 : Nat} {H : Heap} (hE : G0 l s0 D DA z0) {a : Nat} : Met l yJ3_init (ws_ yJ3_init cJ3_init 1 none) ({ frames := 1, cells := 0, slots := 0, locals := 12 }) (cP s0 [.ref a] H) (cQ0 (fun H1 => H1 = H)) 0 0 (cF s0) := by
  refine Met.ofW (cc := cJ3_init) (maxL := 1) (ret := none) (by decide) rfl ?_
  intro p e s m args below meth c s₁ Bd hml hv
  obtain ⟨rfl, rfl, hW0⟩ := hv
  have hx := Bd.exec
  have hb := Bd.bytes
  have hr := Bd.returns
  have hts := atoms_spec (ws := (ws_ yJ3_init cJ3_init 1 none)) Bd.pre
  have hts : ∀ w ∈ lw_all, w.before _ s = true := fun w h => hts w (List.mem_cons_of_mem _ h)
  have hown : s.vm.findClass RJ3 = some m.cls := findClass_of_methodNamed Bd.named
  have hlocks := Bd.notSynchronized
  have hin : meth.name = "<init>" := (name_of_methodNamed Bd.named Bd.method).1
  have hK := va_K.moved hW0.alike hE.K
  have hL : gx_L s0.heap.size ([] : List Loc) := gx_L0
  have hl := lv_entry ([.ref a]) (n := 1) (Nat.le_of_ble_eq_true rfl)
  rw [lg_entry_eq]
  generalize (lg_sl ([.ref a]) ++ List.replicate (1 - (lg_sl ([.ref a])).length) Slot.unset).toArray = ls at hl ⊢
  have hl : lv_has ls 1 [(0, .ref a)] := hl
  refine lv_aload_n hx hb dJ3_init_0 rfl (lv_at hl 0 rfl) ?_
  refine W.objInit hx hb hown (hts _ q267) (hts _ q82) (hts _ q83) rfl (by rw [hml]; exact hl.1) rfl dJ3_init_1 (Nat.le_of_ble_eq_true rfl) (Nat.le_of_ble_eq_true rfl) ?_
  refine W.eq (g2 := F0 m 4 ls []) rfl ?_
  exact W.vret hx hb hr (fun t ht hW => ⟨rfl, ht⟩) hL dJ3_init_4
