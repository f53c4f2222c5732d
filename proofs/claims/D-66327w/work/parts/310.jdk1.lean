set_option maxHeartbeats 4000000 in
set_option maxRecDepth 100000 in
/-- checkIndex -/
theorem ct_J10_checkIndex {l : Launch} {s0 : State} {D : va_G} {DA : Nat → ClassId} {z0 : Nat} {H : Heap} (hE : G0 l s0 D DA z0) {i n : Nat} (hin : i < n) (hn : n < 2 ^ 31) : Met l yJ10_checkIndex (ws_ yJ10_checkIndex cJ10_checkIndex 3 (some .int)) ({ frames := 0, cells := 0, slots := 0, locals := 0 }) (cP s0 [.int (nI i), .int (nI n), .null] H) (cQv (.int (nI i)) (fun H1 => H1 = H)) 0 0 (cF s0) := by
  refine Met.ofW (cc := cJ10_checkIndex) (maxL := 3) (ret := (some .int)) (by decide) rfl ?_
  intro p e s m args below meth c s₁ Bd hml hv
  obtain ⟨rfl, rfl, hW0⟩ := hv
  have hx := Bd.exec
  have hb := Bd.bytes
  have hr := Bd.returns
  have hts := atoms_spec (ws := (ws_ yJ10_checkIndex cJ10_checkIndex 3 (some .int))) Bd.pre
  have hts : ∀ w ∈ lw_all, w.before _ s = true := fun w h => hts w (List.mem_cons_of_mem _ h)
  have hown : s.vm.findClass RJ10 = some m.cls := findClass_of_methodNamed Bd.named
  have hlocks := Bd.notSynchronized
  have hK := va_K.moved hW0.alike hE.K
  have hL : gx_L s0.heap.size ([] : List Loc) := gx_L0
  have hl := lv_entry ([.int (nI i), .int (nI n), .null]) (n := 3) (Nat.le_of_ble_eq_true rfl)
  rw [lg_entry_eq]
  generalize (lg_sl ([.int (nI i), .int (nI n), .null]) ++ List.replicate (3 - (lg_sl ([.int (nI i), .int (nI n), .null])).length) Slot.unset).toArray = ls at hl ⊢
  have hl : lv_has ls 3 [(0, .int (nI i)), (1, .int (nI n)), (2, .null)] := hl
  refine lv_iload_n hx hb dJ10_checkIndex_0 rfl (lv_at hl 0 rfl) ?_
  refine lv_if_lt (tgt := 9) hx hb dJ10_checkIndex_1 (by decide) (fun c1 => ?_) (fun c1 => ?_)
  · exact absurd c1 (nI_pos (by omega))
  · refine lv_iload_n hx hb dJ10_checkIndex_4 rfl (lv_at hl 0 rfl) ?_
    refine lv_iload_n hx hb dJ10_checkIndex_5 rfl (lv_at hl 1 rfl) ?_
    refine lv_icmp_lt (tgt := 16) hx hb dJ10_checkIndex_6 (by decide) (fun c6 => ?_) (fun c6 => ?_)
    · refine lv_iload_n hx hb dJ10_checkIndex_16 rfl (lv_at hl 0 rfl) ?_
      exact W.iret (v := (nI i)) hx hb hr (fun t ht hW => ⟨rfl, ht⟩) hL dJ10_checkIndex_17
    · exact absurd (nI_lt hin (by omega)) c6
set_option maxHeartbeats 4000000 in
set_option maxRecDepth 100000 in
/-- checkIndex -/
theorem ct_J9_checkIndex {l : Launch} {s0 : State} {D : va_G} {DA : Nat → ClassId} {z0 : Nat} {H : Heap} (hE : G0 l s0 D DA z0) {i n : Nat} (hin : i < n) (hn : n < 2 ^ 31) : Met l yJ9_checkIndex (ws_ yJ9_checkIndex cJ9_checkIndex 2 (some .int)) ({ frames := 1, cells := 0, slots := 0, locals := 22 }) (cP s0 [.int (nI i), .int (nI n)] H) (cQv (.int (nI i)) (fun H1 => H1 = H)) 0 0 (cF s0) := by
  refine Met.ofW (cc := cJ9_checkIndex) (maxL := 2) (ret := (some .int)) (by decide) rfl ?_
  intro p e s m args below meth c s₁ Bd hml hv
  obtain ⟨rfl, rfl, hW0⟩ := hv
  have hx := Bd.exec
  have hb := Bd.bytes
  have hr := Bd.returns
  have hts := atoms_spec (ws := (ws_ yJ9_checkIndex cJ9_checkIndex 2 (some .int))) Bd.pre
  have hts : ∀ w ∈ lw_all, w.before _ s = true := fun w h => hts w (List.mem_cons_of_mem _ h)
  have hown : s.vm.findClass RJ9 = some m.cls := findClass_of_methodNamed Bd.named
  have hlocks := Bd.notSynchronized
  have hK := va_K.moved hW0.alike hE.K
  have hL : gx_L s0.heap.size ([] : List Loc) := gx_L0
  have hl := lv_entry ([.int (nI i), .int (nI n)]) (n := 2) (Nat.le_of_ble_eq_true rfl)
  rw [lg_entry_eq]
  generalize (lg_sl ([.int (nI i), .int (nI n)]) ++ List.replicate (2 - (lg_sl ([.int (nI i), .int (nI n)])).length) Slot.unset).toArray = ls at hl ⊢
  have hl : lv_has ls 2 [(0, .int (nI i)), (1, .int (nI n))] := hl
  refine lv_iload_n hx hb dJ9_checkIndex_0 rfl (lv_at hl 0 rfl) ?_
  refine lv_iload_n hx hb dJ9_checkIndex_1 rfl (lv_at hl 1 rfl) ?_
  refine lv_null hx hb dJ9_checkIndex_2 ?_
  refine cc_v (va_runS (As := [.int (nI i), .int (nI n), .null]) (rest := []) ⟨hx, hb, hml, hown, hts⟩ (ct_J10_checkIndex hE hin hn) (va_cwS 3 hts (lw_S q389 q390 q68 q391) rfl rfl rfl (by decide +kernel) ⟨Nat.le_of_ble_eq_true rfl, Nat.le_of_ble_eq_true rfl⟩) (cc_pS hW0) rfl rfl hl.1 rfl (lv_room (Nat.le_of_ble_eq_true rfl)) dJ9_checkIndex_3 ⟨Nat.le_of_ble_eq_true rfl, Nat.le_of_ble_eq_true rfl⟩) hL (fun H locs hP1 hL => ?_)
  subst hP1
  exact W.iret (v := (nI i)) hx hb hr (fun t ht hW => ⟨rfl, ht⟩) hL dJ9_checkIndex_6
set_option maxHeartbeats 4000000 in
set_option maxRecDepth 100000 in
/-- size -/
theorem ct_J2_size {l : Launch} {s0 : State} {D : va_G} {DA : Nat → ClassId} {z0 : Nat} {H : Heap} (hE : G0 l s0 D DA z0) {a d n : Nat} {mcn : Int32} (hO : va_at D gcl (a, oL mcn d n) H) : Met l yJ2_size (ws_ yJ2_size cJ2_size 1 (some .int)) ({ frames := 0, cells := 0, slots := 0, locals := 0 }) (cP s0 [.ref a] H) (cQv (.int (nI n)) (fun H1 => H1 = H)) 0 0 (cF s0) := by
  refine Met.ofW (cc := cJ2_size) (maxL := 1) (ret := (some .int)) (by decide) rfl ?_
  intro p e s m args below meth c s₁ Bd hml hv
  obtain ⟨rfl, rfl, hW0⟩ := hv
  have hx := Bd.exec
  have hb := Bd.bytes
  have hr := Bd.returns
  have hts := atoms_spec (ws := (ws_ yJ2_size cJ2_size 1 (some .int))) Bd.pre
  have hts : ∀ w ∈ lw_all, w.before _ s = true := fun w h => hts w (List.mem_cons_of_mem _ h)
  have hown : s.vm.findClass RJ2 = some m.cls := findClass_of_methodNamed Bd.named
  have hlocks := Bd.notSynchronized
  have hK := va_K.moved hW0.alike hE.K
  have hL : gx_L s0.heap.size ([] : List Loc) := gx_L0
  have hl := lv_entry ([.ref a]) (n := 1) (Nat.le_of_ble_eq_true rfl)
  rw [lg_entry_eq]
  generalize (lg_sl ([.ref a]) ++ List.replicate (1 - (lg_sl ([.ref a])).length) Slot.unset).toArray = ls at hl ⊢
  have hl : lv_has ls 1 [(0, .ref a)] := hl
  refine lv_aload_n hx hb dJ2_size_0 rfl (lv_at hl 0 rfl) ?_
  refine gx_get (D := D) (cl := gcl) (ci := 1) (v := .int (nI n)) (C := RJ2) (T := TJ2) (N := 3) hx hb hts in_J2 hown hK hO rfl 2 (by decide) (hts _ q101) (fun _ h9 => h9) rfl dJ2_size_1 ?_
  exact W.iret (v := (nI n)) hx hb hr (fun t ht hW => ⟨rfl, ht⟩) hL dJ2_size_4
set_option maxHeartbeats 4000000 in
set_option maxRecDepth 100000 in
/-- isEmpty -/
theorem ct_J2_isEmpty {l : Launch} {s0 : State} {D : va_G} {DA : Nat → ClassId} {z0 : Nat} {H : Heap} (hE : G0 l s0 D DA z0) {a d n : Nat} {mcn : Int32} (hO : va_at D gcl (a, oL mcn d n) H) (hn : n < 2 ^ 31) : Met l yJ2_isEmpty (ws_ yJ2_isEmpty cJ2_isEmpty 1 (some .boolean)) ({ frames := 0, cells := 0, slots := 0, locals := 0 }) (cP s0 [.ref a] H) (cQv (.int (bZ (decide (n = 0)))) (fun H1 => H1 = H)) 0 0 (cF s0) := by
  refine Met.ofW (cc := cJ2_isEmpty) (maxL := 1) (ret := (some .boolean)) (by decide) rfl ?_
  intro p e s m args below meth c s₁ Bd hml hv
  obtain ⟨rfl, rfl, hW0⟩ := hv
  have hx := Bd.exec
  have hb := Bd.bytes
  have hr := Bd.returns
  have hts := atoms_spec (ws := (ws_ yJ2_isEmpty cJ2_isEmpty 1 (some .boolean))) Bd.pre
  have hts : ∀ w ∈ lw_all, w.before _ s = true := fun w h => hts w (List.mem_cons_of_mem _ h)
  have hown : s.vm.findClass RJ2 = some m.cls := findClass_of_methodNamed Bd.named
  have hlocks := Bd.notSynchronized
  have hK := va_K.moved hW0.alike hE.K
  have hL : gx_L s0.heap.size ([] : List Loc) := gx_L0
  have hl := lv_entry ([.ref a]) (n := 1) (Nat.le_of_ble_eq_true rfl)
  rw [lg_entry_eq]
  generalize (lg_sl ([.ref a]) ++ List.replicate (1 - (lg_sl ([.ref a])).length) Slot.unset).toArray = ls at hl ⊢
  have hl : lv_has ls 1 [(0, .ref a)] := hl
  refine lv_aload_n hx hb dJ2_isEmpty_0 rfl (lv_at hl 0 rfl) ?_
  refine gx_get (D := D) (cl := gcl) (ci := 1) (v := .int (nI n)) (C := RJ2) (T := TJ2) (N := 3) hx hb hts in_J2 hown hK hO rfl 2 (by decide) (hts _ q101) (fun _ h9 => h9) rfl dJ2_isEmpty_1 ?_
  refine lv_if_ne (tgt := 11) hx hb dJ2_isEmpty_4 (by decide) (fun c4 => ?_) (fun c4 => ?_)
  · refine lv_iconst (v := 0) hx hb dJ2_isEmpty_11 (by decide) ?_
    exact W.zret (v := 0) hx hb hr (rfl) (fun t ht hW => ⟨ovI ((bZ_f (decide_eq_false (fun q => c4 (by rw [q]; rfl)))).symm), ht⟩) hL dJ2_isEmpty_12
  · refine lv_iconst (v := 1) hx hb dJ2_isEmpty_7 (by decide) ?_
    refine lv_goto (tgt := 12) hx hb dJ2_isEmpty_8 (by decide) ?_
    exact W.zret (v := 1) hx hb hr (rfl) (fun t ht hW => ⟨ovI ((bZ_t (decide_eq_true ((nI_eq hn (by decide)).mp c4))).symm), ht⟩) hL dJ2_isEmpty_12
set_option maxHeartbeats 4000000 in
set_option maxRecDepth 100000 in
/-- elementData -/
theorem ct_J2_elementData {l : Launch} {s0 : State} {D : va_G} {DA : Nat → ClassId} {z0 : Nat} {H : Heap} (hE : G0 l s0 D DA z0) {a d n : Nat} {mcn : Int32} (hO : va_at D gcl (a, oL mcn d n) H) {cap : Nat} {g : Nat → Option Nat} (hA : va_at D gcl (d, oA (DA 6) cap g) H) (hcap : cap < 2 ^ 31) {i x : Nat} (hi : i < cap) (hgx : g i = some x) : Met l yJ2_elementData (ws_ yJ2_elementData cJ2_elementData 2 (some (.object "java/lang/Object"))) ({ frames := 0, cells := 0, slots := 0, locals := 0 }) (cP s0 [.ref a, .int (nI i)] H) (cQv (.ref x) (fun H1 => H1 = H)) 0 0 (cF s0) := by
  refine Met.ofW (cc := cJ2_elementData) (maxL := 2) (ret := (some (.object "java/lang/Object"))) (by decide) rfl ?_
  intro p e s m args below meth c s₁ Bd hml hv
  obtain ⟨rfl, rfl, hW0⟩ := hv
  have hx := Bd.exec
  have hb := Bd.bytes
  have hr := Bd.returns
  have hts := atoms_spec (ws := (ws_ yJ2_elementData cJ2_elementData 2 (some (.object "java/lang/Object")))) Bd.pre
  have hts : ∀ w ∈ lw_all, w.before _ s = true := fun w h => hts w (List.mem_cons_of_mem _ h)
  have hown : s.vm.findClass RJ2 = some m.cls := findClass_of_methodNamed Bd.named
  have hlocks := Bd.notSynchronized
  have hK := va_K.moved hW0.alike hE.K
  have hL : gx_L s0.heap.size ([] : List Loc) := gx_L0
  have hl := lv_entry ([.ref a, .int (nI i)]) (n := 2) (Nat.le_of_ble_eq_true rfl)
  rw [lg_entry_eq]
  generalize (lg_sl ([.ref a, .int (nI i)]) ++ List.replicate (2 - (lg_sl ([.ref a, .int (nI i)])).length) Slot.unset).toArray = ls at hl ⊢
  have hl : lv_has ls 2 [(0, .ref a), (1, .int (nI i))] := hl
  refine lv_aload_n hx hb dJ2_elementData_0 rfl (lv_at hl 0 rfl) ?_
  refine gx_get (D := D) (cl := gcl) (ci := 1) (v := .ref d) (C := RJ2) (T := TJ2) (N := 3) hx hb hts in_J2 hown hK hO rfl 1 (by decide) (hts _ q100) (fun _ h9 => h9) rfl dJ2_elementData_1 ?_
  refine lv_iload_n hx hb dJ2_elementData_4 rfl (lv_at hl 1 rfl) ?_
  refine gx_aald (x := x) hx hb hK 6 hA rfl i (rfl) (hi) (hcap) (hgx) dJ2_elementData_5 ?_
  exact W.aret hx hb hr (Or.inl ⟨_, rfl⟩) (Or.inr ⟨_, rfl⟩) (fun t ht hW => ⟨rfl, ht⟩) hL dJ2_elementData_6
set_option maxHeartbeats 4000000 in
set_option maxRecDepth 100000 in
/-- get -/
theorem ct_J2_get {l : Launch} {s0 : State} {D : va_G} {DA : Nat → ClassId} {z0 : Nat} {H : Heap} (hE : G0 l s0 D DA z0) {a d n : Nat} {mcn : Int32} (hO : va_at D gcl (a, oL mcn d n) H) {cap : Nat} {g : Nat → Option Nat} (hA : va_at D gcl (d, oA (DA 6) cap g) H) (hcap : cap < 2 ^ 31) {i x : Nat} (hi : i < n) (hnc : n ≤ cap) (hgx : g i = some x) : Met l yJ2_get (ws_ yJ2_get cJ2_get 2 (some (.object "java/lang/Object"))) ({ frames := 2, cells := 0, slots := 0, locals := 43 }) (cP s0 [.ref a, .int (nI i)] H) (cQv (.ref x) (fun H1 => H1 = H)) 0 0 (cF s0) := by
  refine Met.ofW (cc := cJ2_get) (maxL := 2) (ret := (some (.object "java/lang/Object"))) (by decide) rfl ?_
  intro p e s m args below meth c s₁ Bd hml hv
  obtain ⟨rfl, rfl, hW0⟩ := hv
  have hx := Bd.exec
  have hb := Bd.bytes
  have hr := Bd.returns
  have hts := atoms_spec (ws := (ws_ yJ2_get cJ2_get 2 (some (.object "java/lang/Object")))) Bd.pre
  have hts : ∀ w ∈ lw_all, w.before _ s = true := fun w h => hts w (List.mem_cons_of_mem _ h)
  have hown : s.vm.findClass RJ2 = some m.cls := findClass_of_methodNamed Bd.named
  have hlocks := Bd.notSynchronized
  have hK := va_K.moved hW0.alike hE.K
  have hL : gx_L s0.heap.size ([] : List Loc) := gx_L0
  have hl := lv_entry ([.ref a, .int (nI i)]) (n := 2) (Nat.le_of_ble_eq_true rfl)
  rw [lg_entry_eq]
  generalize (lg_sl ([.ref a, .int (nI i)]) ++ List.replicate (2 - (lg_sl ([.ref a, .int (nI i)])).length) Slot.unset).toArray = ls at hl ⊢
  have hl : lv_has ls 2 [(0, .ref a), (1, .int (nI i))] := hl
  refine lv_iload_n hx hb dJ2_get_0 rfl (lv_at hl 1 rfl) ?_
  refine lv_aload_n hx hb dJ2_get_1 rfl (lv_at hl 0 rfl) ?_
  refine gx_get (D := D) (cl := gcl) (ci := 1) (v := .int (nI n)) (C := RJ2) (T := TJ2) (N := 3) hx hb hts in_J2 hown hK hO rfl 2 (by decide) (hts _ q101) (fun _ h9 => h9) rfl dJ2_get_2 ?_
  refine cc_v (va_runS (As := [.int (nI i), .int (nI n)]) (rest := []) ⟨hx, hb, hml, hown, hts⟩ (ct_J9_checkIndex hE (hi) (by omega)) (va_cwS 2 hts (lw_S q386 q387 q67 q388) rfl rfl rfl (by decide +kernel) ⟨Nat.le_of_ble_eq_true rfl, Nat.le_of_ble_eq_true rfl⟩) (cc_pS hW0) rfl rfl hl.1 rfl (lv_room (Nat.le_of_ble_eq_true rfl)) dJ2_get_5 ⟨Nat.le_of_ble_eq_true rfl, Nat.le_of_ble_eq_true rfl⟩) hL (fun H locs hP1 hL => ?_)
  subst hP1
  refine lv_pop hx hb dJ2_get_8 rfl ?_
  refine lv_aload_n hx hb dJ2_get_9 rfl (lv_at hl 0 rfl) ?_
  refine lv_iload_n hx hb dJ2_get_10 rfl (lv_at hl 1 rfl) ?_
  refine cc_v (va_runV (b := a) (As := [.int (nI i)]) (rest := []) ⟨hx, hb, hml, hown, hts⟩ (ct_J2_elementData hE hO hA hcap (by omega) hgx) (cwV 1 hts (lw_V q392 q393 q394 q50 q395) rfl rfl rfl (by decide +kernel) ⟨Nat.le_of_ble_eq_true rfl, Nat.le_of_ble_eq_true rfl⟩) (cc_pV hW0 (cc_re hK hO (show gcl[1]? = _ from rfl))) rfl rfl hl.1 rfl (lv_room (Nat.le_of_ble_eq_true rfl)) dJ2_get_11 ⟨Nat.le_of_ble_eq_true rfl, Nat.le_of_ble_eq_true rfl⟩) hL (fun H locs hP1 hL => ?_)
  subst hP1
  exact W.aret hx hb hr (Or.inl ⟨_, rfl⟩) (Or.inr ⟨_, rfl⟩) (fun t ht hW => ⟨rfl, ht⟩) hL dJ2_get_14
set_option maxHeartbeats 4000000 in
set_option maxRecDepth 100000 in
/-- set -/
theorem ct_J2_set {l : Launch} {s0 : State} {D : va_G} {DA : Nat → ClassId} {z0 : Nat} {H : Heap} (hE : G0 l s0 D DA z0) {a d n : Nat} {mcn : Int32} (hO : va_at D gcl (a, oL mcn d n) H) {cap : Nat} {g : Nat → Option Nat} (hA : va_at D gcl (d, oA (DA 6) cap g) H) (hcap : cap < 2 ^ 31) {i x : Nat} (hi : i < n) (hnc : n ≤ cap) (hgx : g i = some x) {v ci : Nat} {q : vw_C} {fs : List Value} (hv : va_at D gcl (v, .inr (ci, fs)) H) (hcv : gcl[ci]? = some q) (hca : (Cond.castable q.1 "java/lang/Object") ∈ lw_tbl) (hd : s0.heap.size ≤ d) : Met l yJ2_set (ws_ yJ2_set cJ2_set 4 (some (.object "java/lang/Object"))) ({ frames := 2, cells := 0, slots := 0, locals := 43 }) (cP s0 [.ref a, .int (nI i), .ref v] H) (cQv (.ref x) (fun H1 => gx_U d H H1 ∧ va_at D gcl (d, oA (DA 6) cap (va_up g i (some v))) H1)) 0 0 (cF s0) := by
  refine Met.ofW (cc := cJ2_set) (maxL := 4) (ret := (some (.object "java/lang/Object"))) (by decide) rfl ?_
  intro p e s m args below meth c s₁ Bd hml hv
  obtain ⟨rfl, rfl, hW0⟩ := hv
  have hx := Bd.exec
  have hb := Bd.bytes
  have hr := Bd.returns
  have hts := atoms_spec (ws := (ws_ yJ2_set cJ2_set 4 (some (.object "java/lang/Object")))) Bd.pre
  have hts : ∀ w ∈ lw_all, w.before _ s = true := fun w h => hts w (List.mem_cons_of_mem _ h)
  have hown : s.vm.findClass RJ2 = some m.cls := findClass_of_methodNamed Bd.named
  have hlocks := Bd.notSynchronized
  have hK := va_K.moved hW0.alike hE.K
  have hL : gx_L s0.heap.size ([] : List Loc) := gx_L0
  have hl := lv_entry ([.ref a, .int (nI i), .ref v]) (n := 4) (Nat.le_of_ble_eq_true rfl)
  rw [lg_entry_eq]
  generalize (lg_sl ([.ref a, .int (nI i), .ref v]) ++ List.replicate (4 - (lg_sl ([.ref a, .int (nI i), .ref v])).length) Slot.unset).toArray = ls at hl ⊢
  have hl : lv_has ls 4 [(0, .ref a), (1, .int (nI i)), (2, .ref v)] := hl
  refine lv_iload_n hx hb dJ2_set_0 rfl (lv_at hl 1 rfl) ?_
  refine lv_aload_n hx hb dJ2_set_1 rfl (lv_at hl 0 rfl) ?_
  refine gx_get (D := D) (cl := gcl) (ci := 1) (v := .int (nI n)) (C := RJ2) (T := TJ2) (N := 3) hx hb hts in_J2 hown hK hO rfl 2 (by decide) (hts _ q101) (fun _ h9 => h9) rfl dJ2_set_2 ?_
  refine cc_v (va_runS (As := [.int (nI i), .int (nI n)]) (rest := []) ⟨hx, hb, hml, hown, hts⟩ (ct_J9_checkIndex hE (hi) (by omega)) (va_cwS 2 hts (lw_S q386 q387 q67 q388) rfl rfl rfl (by decide +kernel) ⟨Nat.le_of_ble_eq_true rfl, Nat.le_of_ble_eq_true rfl⟩) (cc_pS hW0) rfl rfl hl.1 rfl (lv_room (Nat.le_of_ble_eq_true rfl)) dJ2_set_5 ⟨Nat.le_of_ble_eq_true rfl, Nat.le_of_ble_eq_true rfl⟩) hL (fun H locs hP1 hL => ?_)
  subst hP1
  refine lv_pop hx hb dJ2_set_8 rfl ?_
  refine lv_aload_n hx hb dJ2_set_9 rfl (lv_at hl 0 rfl) ?_
  refine lv_iload_n hx hb dJ2_set_10 rfl (lv_at hl 1 rfl) ?_
  refine cc_v (va_runV (b := a) (As := [.int (nI i)]) (rest := []) ⟨hx, hb, hml, hown, hts⟩ (ct_J2_elementData hE hO hA hcap (by omega) hgx) (cwV 1 hts (lw_V q392 q393 q394 q50 q395) rfl rfl rfl (by decide +kernel) ⟨Nat.le_of_ble_eq_true rfl, Nat.le_of_ble_eq_true rfl⟩) (cc_pV hW0 (cc_re hK hO (show gcl[1]? = _ from rfl))) rfl rfl hl.1 rfl (lv_room (Nat.le_of_ble_eq_true rfl)) dJ2_set_11 ⟨Nat.le_of_ble_eq_true rfl, Nat.le_of_ble_eq_true rfl⟩) hL (fun H locs hP1 hL => ?_)
  subst hP1
  refine lv_astore_n (lv' := [(3, .ref x), (0, .ref a), (1, .int (nI i)), (2, .ref v)]) hx hb dJ2_set_14 rfl hl (by decide) rfl (fun ls hl => ?_)
  refine lv_aload_n hx hb dJ2_set_15 rfl (lv_at hl 1 rfl) ?_
  refine gx_get (D := D) (cl := gcl) (ci := 1) (v := .ref d) (C := RJ2) (T := TJ2) (N := 3) hx hb hts in_J2 hown hK hO rfl 1 (by decide) (hts _ q100) (fun _ h9 => h9) rfl dJ2_set_16 ?_
  refine lv_iload_n hx hb dJ2_set_19 rfl (lv_at hl 2 rfl) ?_
  refine lv_aload_n hx hb dJ2_set_20 rfl (lv_at hl 3 rfl) ?_
  refine gx_aast hx hb hK 6 hA rfl (gx_any hK hv hcv (va_Nw.warmC hW0 (hE.nw rfl hca))) i rfl (by omega) hcap hL hd dJ2_set_21 (fun H locs hU hA hL => ?_)
  refine lv_aload_n hx hb dJ2_set_22 rfl (lv_at hl 0 rfl) ?_
  exact W.aret hx hb hr (Or.inl ⟨_, rfl⟩) (Or.inr ⟨_, rfl⟩) (fun t ht hW => ⟨rfl, by rw [ht]; exact ⟨hU, hA⟩⟩) hL dJ2_set_23
set_option maxHeartbeats 4000000 in
set_option maxRecDepth 100000 in
/-- newLength -/
theorem ct_J12_newLength {l : Launch} {s0 : State} {D : va_G} {DA : Nat → ClassId} {z0 : Nat} {H : Heap} (hE : G0 l s0 D DA z0) {n : Nat} (hn : 1 ≤ n) (hn2 : n ≤ 1000) : Met l yJ12_newLength (ws_ yJ12_newLength cJ12_newLength 4 (some .int)) ({ frames := 1, cells := 0, slots := 0, locals := 14 }) (cP s0 [.int (nI n), .int 1, .int (nI (n / 2))] H) (cQv (.int (nI (n + gr n))) (fun H1 => H1 = H)) 0 0 (cF s0) := by
  refine Met.ofW (cc := cJ12_newLength) (maxL := 4) (ret := (some .int)) (by decide) rfl ?_
  intro p e s m args below meth c s₁ Bd hml hv
  obtain ⟨rfl, rfl, hW0⟩ := hv
  have hx := Bd.exec
  have hb := Bd.bytes
  have hr := Bd.returns
  have hts := atoms_spec (ws := (ws_ yJ12_newLength cJ12_newLength 4 (some .int))) Bd.pre
  have hts : ∀ w ∈ lw_all, w.before _ s = true := fun w h => hts w (List.mem_cons_of_mem _ h)
  have hown : s.vm.findClass RJ12 = some m.cls := findClass_of_methodNamed Bd.named
  have hlocks := Bd.notSynchronized
  have hK := va_K.moved hW0.alike hE.K
  have hL : gx_L s0.heap.size ([] : List Loc) := gx_L0
  have hl := lv_entry ([.int (nI n), .int 1, .int (nI (n / 2))]) (n := 4) (Nat.le_of_ble_eq_true rfl)
  rw [lg_entry_eq]
  generalize (lg_sl ([.int (nI n), .int 1, .int (nI (n / 2))]) ++ List.replicate (4 - (lg_sl ([.int (nI n), .int 1, .int (nI (n / 2))])).length) Slot.unset).toArray = ls at hl ⊢
  have hl : lv_has ls 4 [(0, .int (nI n)), (1, .int 1), (2, .int (nI (n / 2)))] := hl
  have hgr := gr_b n
  refine lv_iload_n hx hb dJ12_newLength_0 rfl (lv_at hl 0 rfl) ?_
  refine lv_iload_n hx hb dJ12_newLength_1 rfl (lv_at hl 1 rfl) ?_
  refine lv_iload_n hx hb dJ12_newLength_2 rfl (lv_at hl 2 rfl) ?_
  refine va_mmax hx hb (by rw [hml]; exact hl.1.symm) hown (hts _ q334) (hts _ q335) (hts _ q73) (hts _ q336) (Nat.le_of_ble_eq_true rfl) (Nat.le_of_ble_eq_true rfl) (Nat.le_of_ble_eq_true rfl) (Nat.le_of_ble_eq_true rfl) dJ12_newLength_3 ?_
  refine gx_ti (nI (gr n)) (nl_max (by omega)) ?_
  refine lv_iadd hx hb dJ12_newLength_6 ?_
  refine gx_ti (nI (n + (gr n))) (nI_add n (gr n)) ?_
  refine lv_istore_n (lv' := [(3, .int (nI (n + (gr n)))), (0, .int (nI n)), (1, .int 1), (2, .int (nI (n / 2)))]) hx hb dJ12_newLength_7 rfl hl (by decide) rfl (fun ls hl => ?_)
  refine lv_iconst (v := 0) hx hb dJ12_newLength_8 (by decide) ?_
  refine lv_iload_n hx hb dJ12_newLength_9 rfl (lv_at hl 0 rfl) ?_
  refine lv_icmp_ge (tgt := 21) hx hb dJ12_newLength_10 (by decide) (fun c10 => ?_) (fun c10 => ?_)
  · exact absurd c10 (nI_nle (by omega) (by omega))
  · refine lv_iload_n hx hb dJ12_newLength_13 rfl (lv_at hl 0 rfl) ?_
    refine lv_ldc (v := 2147483639) hx hb hown (hts _ q337) dJ12_newLength_14 ?_
    refine lv_icmp_gt (tgt := 21) hx hb dJ12_newLength_16 (by decide) (fun c16 => ?_) (fun c16 => ?_)
    · exact absurd c16 (nI_nlt (a := 2147483639) (by omega) (by omega))
    · refine lv_iload_n hx hb dJ12_newLength_19 rfl (lv_at hl 0 rfl) ?_
      exact W.iret (v := (nI (n + (gr n)))) hx hb hr (fun t ht hW => ⟨rfl, ht⟩) hL dJ12_newLength_20
set_option maxHeartbeats 4000000 in
set_option maxRecDepth 100000 in
/-- Arrays.copyOf -/
theorem ct_J14_copyOf_2 {l : Launch} {s0 : State} {D : va_G} {DA : Nat → ClassId} {z0 : Nat} {H : Heap} (hE : G0 l s0 D DA z0) {d cap k : Nat} {g : Nat → Option Nat} (hA : va_at D gcl (d, oA (DA 6) cap g) H) (hcap : cap < 2 ^ 31) (hck : cap ≤ k) (hk : k ≤ 36) (hz : s0.heap.size ≤ H.size) (hel : ∀ i, i < cap → ∀ y, g i = some y → ∀ s : State, s0.WarmedH s.vm → va_Any "java/lang/Object" s H y) {mi : Nat} (hMi0 : va_Mi "[Ljava/lang/Object;" mi s0) : Met l yJ14_copyOf_2 (ws_ yJ14_copyOf_2 cJ14_copyOf_2 4 (some (.array (.object "java/lang/Object")))) ({ frames := 1, cells := 1, slots := 36, locals := 40 }) (cP s0 [.ref d, .int (nI k), .ref mi] H) (cQv (.ref H.size) (fun H1 => H1.size = H.size + 1 ∧ (∀ q, q < H.size → H1[q]? = H[q]?) ∧ va_at D gcl (H.size, oA (DA 6) k (va_cpy g (fun _ => none) 0 0 cap)) H1)) 1 36 (cF s0) := by
  refine Met.ofW (cc := cJ14_copyOf_2) (maxL := 4) (ret := (some (.array (.object "java/lang/Object")))) (by decide) rfl ?_
  intro p e s m args below meth c s₁ Bd hml hv
  obtain ⟨rfl, rfl, hW0⟩ := hv
  have hx := Bd.exec
  have hb := Bd.bytes
  have hr := Bd.returns
  have hts := atoms_spec (ws := (ws_ yJ14_copyOf_2 cJ14_copyOf_2 4 (some (.array (.object "java/lang/Object"))))) Bd.pre
  have hts : ∀ w ∈ lw_all, w.before _ s = true := fun w h => hts w (List.mem_cons_of_mem _ h)
  have hown : s.vm.findClass RJ14 = some m.cls := findClass_of_methodNamed Bd.named
  have hlocks := Bd.notSynchronized
  have hK := va_K.moved hW0.alike hE.K
  have hL : gx_L s0.heap.size ([] : List Loc) := gx_L0
  have hl := lv_entry ([.ref d, .int (nI k), .ref mi]) (n := 4) (Nat.le_of_ble_eq_true rfl)
  rw [lg_entry_eq]
  generalize (lg_sl ([.ref d, .int (nI k), .ref mi]) ++ List.replicate (4 - (lg_sl ([.ref d, .int (nI k), .ref mi])).length) Slot.unset).toArray = ls at hl ⊢
  have hl : lv_has ls 4 [(0, .ref d), (1, .int (nI k)), (2, .ref mi)] := hl
  have hMi := va_Mi.moved hW0.alike hMi0
  refine lv_aload_n hx hb dJ14_copyOf_2_0 rfl (lv_at hl 2 rfl) ?_
  refine va_ldcM hx hb hown (hts _ q367) hMi dJ14_copyOf_2_1 ?_
  refine lv_acmp_ne (rx := some mi) (ry := some mi) (tgt := 13) hx hb dJ14_copyOf_2_3 (by decide) (fun c3 => ?_) (fun c3 => ?_)
  · exact absurd rfl c3
  · refine lv_iload_n hx hb dJ14_copyOf_2_6 rfl (lv_at hl 1 rfl) ?_
    refine gx_newq hx hb hown (hts _ q369) (hE.nA hW0 q368) hK 6 rfl (N' := k) (nI_pos (by omega)) (nI_clamp (by omega)) (by omega) (Nat.le_of_ble_eq_true rfl) (by show 0 + k ≤ 36; omega) dJ14_copyOf_2_7 (fun H hN hA1 => ?_)
    have hA : va_at D gcl (d, oA (DA 6) cap g) H := hN.at hA
    refine lv_goto (tgt := 24) hx hb dJ14_copyOf_2_10 (by decide) ?_
    refine lv_astore_n (lv' := [(3, .ref s.heap.size), (0, .ref d), (1, .int (nI k)), (2, .ref mi)]) hx hb dJ14_copyOf_2_24 rfl hl (by decide) rfl (fun ls hl => ?_)
    refine lv_aload_n hx hb dJ14_copyOf_2_25 rfl (lv_at hl 1 rfl) ?_
    refine lv_iconst (v := 0) hx hb dJ14_copyOf_2_26 (by decide) ?_
    refine lv_aload_n hx hb dJ14_copyOf_2_27 rfl (lv_at hl 0 rfl) ?_
    refine lv_iconst (v := 0) hx hb dJ14_copyOf_2_28 (by decide) ?_
    refine lv_aload_n hx hb dJ14_copyOf_2_29 rfl (lv_at hl 1 rfl) ?_
    refine gx_alen hx hb hK 6 hA rfl dJ14_copyOf_2_30 ?_
    refine gx_ti (nI cap) rfl ?_
    refine lv_iload_n hx hb dJ14_copyOf_2_31 rfl (lv_at hl 2 rfl) ?_
    refine va_mmin hx hb (by rw [hml]; exact hl.1.symm) hown (hts _ q370) (hts _ q371) (hts _ q73) (hts _ q372) (Nat.le_of_ble_eq_true rfl) (Nat.le_of_ble_eq_true rfl) (Nat.le_of_ble_eq_true rfl) (by show 0 + k ≤ 36; omega) dJ14_copyOf_2_32 ?_
    refine gx_ti (nI cap) (if_neg (nI_nlt hck (by omega))) ?_
    refine gx_copyq hx hb (by rw [hml]; exact hl.1.symm) hown (hts _ q373) (hts _ q375) (hts _ q374) (hts _ q70) hK 6 6 hA hA1 rfl rfl 0 0 cap rfl rfl rfl (by omega) (by omega) hcap (by omega) (fun i hi y hy => ?_) (Nat.le_of_ble_eq_true rfl) (Nat.le_of_ble_eq_true rfl) hL hz dJ14_copyOf_2_35 (fun H1 locs hU hA3 hL => ?_)
    · obtain ⟨cell, g1, g2, g3, g4⟩ := hel i hi y (by rw [Nat.zero_add] at hy; exact hy) s hW0
      exact ⟨cell, by rw [hN.2 y (Array.getElem?_eq_some_iff.mp g1).1]; exact g1, g2, g3, g4⟩
    refine lv_aload_n hx hb dJ14_copyOf_2_38 rfl (lv_at hl 0 rfl) ?_
    refine W.widen (k := 1) (n := 36) (by omega) (by omega) ?_
    exact W.aret hx hb hr (Or.inr ⟨_, rfl⟩) (Or.inr ⟨_, rfl⟩) (fun t ht hW => ⟨rfl, by rw [ht]; exact ⟨by rw [hU.1]; exact hN.1, fun q hq => (hU.2 q (by omega)).trans (hN.2 q hq), hA3⟩⟩) hL dJ14_copyOf_2_39
set_option maxHeartbeats 4000000 in
set_option maxRecDepth 100000 in
/-- Arrays.copyOf -/
theorem ct_J14_copyOf {l : Launch} {s0 : State} {D : va_G} {DA : Nat → ClassId} {z0 : Nat} {H : Heap} (hE : G0 l s0 D DA z0) {d cap k : Nat} {g : Nat → Option Nat} (hA : va_at D gcl (d, oA (DA 6) cap g) H) (hcap : cap < 2 ^ 31) (hck : cap ≤ k) (hk : k ≤ 36) (hz : s0.heap.size ≤ H.size) (hel : ∀ i, i < cap → ∀ y, g i = some y → ∀ s : State, s0.WarmedH s.vm → va_Any "java/lang/Object" s H y) : Met l yJ14_copyOf (ws_ yJ14_copyOf cJ14_copyOf 2 (some (.array (.object "java/lang/Object")))) ({ frames := 2, cells := 1, slots := 36, locals := 63 }) (cP s0 [.ref d, .int (nI k)] H) (cQv (.ref H.size) (fun H1 => H1.size = H.size + 1 ∧ (∀ q, q < H.size → H1[q]? = H[q]?) ∧ va_at D gcl (H.size, oA (DA 6) k (va_cpy g (fun _ => none) 0 0 cap)) H1)) 1 36 (cF s0) := by
  refine Met.ofW (cc := cJ14_copyOf) (maxL := 2) (ret := (some (.array (.object "java/lang/Object")))) (by decide) rfl ?_
  intro p e s m args below meth c s₁ Bd hml hv
  obtain ⟨rfl, rfl, hW0⟩ := hv
  have hx := Bd.exec
  have hb := Bd.bytes
  have hr := Bd.returns
  have hts := atoms_spec (ws := (ws_ yJ14_copyOf cJ14_copyOf 2 (some (.array (.object "java/lang/Object"))))) Bd.pre
  have hts : ∀ w ∈ lw_all, w.before _ s = true := fun w h => hts w (List.mem_cons_of_mem _ h)
  have hown : s.vm.findClass RJ14 = some m.cls := findClass_of_methodNamed Bd.named
  have hlocks := Bd.notSynchronized
  have hK := va_K.moved hW0.alike hE.K
  have hL : gx_L s0.heap.size ([] : List Loc) := gx_L0
  have hl := lv_entry ([.ref d, .int (nI k)]) (n := 2) (Nat.le_of_ble_eq_true rfl)
  rw [lg_entry_eq]
  generalize (lg_sl ([.ref d, .int (nI k)]) ++ List.replicate (2 - (lg_sl ([.ref d, .int (nI k)])).length) Slot.unset).toArray = ls at hl ⊢
  have hl : lv_has ls 2 [(0, .ref d), (1, .int (nI k))] := hl
  obtain ⟨mi, hMi0⟩ := hE.mir
  have hMi := va_Mi.moved hW0.alike hMi0
  refine lv_aload_n hx hb dJ14_copyOf_0 rfl (lv_at hl 0 rfl) ?_
  refine lv_iload_n hx hb dJ14_copyOf_1 rfl (lv_at hl 1 rfl) ?_
  refine lv_aload_n hx hb dJ14_copyOf_2 rfl (lv_at hl 0 rfl) ?_
  refine va_getC hx hb (by rw [hml]; exact hl.1.symm) (C := "[Ljava/lang/Object;") hown (hts _ q344) (va_Nw.use rfl (va_Nw.warmD hW0 (hE.nw rfl q1163))) (hts _ q1162) (hts _ q345) (hts _ q363) hMi ⟨_, hA, rfl, va_nmO (hK.2 6 _ rfl).2 rfl⟩ (Nat.le_of_ble_eq_true rfl) (Nat.le_of_ble_eq_true rfl) dJ14_copyOf_3 ?_
  refine cc_v (va_runS (As := [.ref d, .int (nI k), .ref mi]) (rest := []) ⟨hx, hb, hml, hown, hts⟩ (ct_J14_copyOf_2 hE hA hcap hck hk hz hel hMi0) (va_cwS 3 hts (lw_S q364 q365 q74 q366) rfl rfl rfl (by decide +kernel) ⟨Nat.le_of_ble_eq_true rfl, Nat.le_of_ble_eq_true rfl⟩) (cc_pS hW0) rfl rfl hl.1 rfl (lv_room (Nat.le_of_ble_eq_true rfl)) dJ14_copyOf_6 ⟨Nat.le_of_ble_eq_true rfl, Nat.le_of_ble_eq_true rfl⟩) hL (fun H locs hP1 hL => ?_)
  exact W.aret hx hb hr (Or.inr ⟨_, rfl⟩) (Or.inr ⟨_, rfl⟩) (fun t ht hW => ⟨rfl, by rw [ht]; exact hP1⟩) hL dJ14_copyOf_9
