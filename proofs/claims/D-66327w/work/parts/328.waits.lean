set_option maxHeartbeats 4000000 in
set_option maxRecDepth 100000 in
/-- Waits.isEmpty -/
theorem ct_X8_isEmpty {l : Launch} {s0 : State} {D : va_G} {DA : Nat → ClassId} {z0 : Nat} {Y : YS} {C : CS} {M : MS} {o : Int64} {H : Heap} (hE : G0 l s0 D DA z0) (hR : GRb s0.heap.size s0.heap D DA z0 Y C M o H)  : Met l yX8_isEmpty (ws_ yX8_isEmpty cX8_isEmpty 1 (some .boolean)) ({ frames := 1, cells := 0, slots := 0, locals := 20 }) (cP s0 [.ref (s0.heap.size + 16)] H) (cQv (.int (bZ (decide (kN C 4 = 0)))) (fun H1 => H1 = H)) 0 0 (cF s0) := by
  refine Met.ofW (cc := cX8_isEmpty) (maxL := 1) (ret := (some .boolean)) (by decide) rfl ?_
  intro p e s m args below meth c s₁ Bd hml hv
  obtain ⟨rfl, rfl, hW0⟩ := hv
  have hx := Bd.exec
  have hb := Bd.bytes
  have hr := Bd.returns
  have hts := atoms_spec (ws := (ws_ yX8_isEmpty cX8_isEmpty 1 (some .boolean))) Bd.pre
  have hts : ∀ w ∈ lw_all, w.before _ s = true := fun w h => hts w (List.mem_cons_of_mem _ h)
  have hown : s.vm.findClass RX8 = some m.cls := findClass_of_methodNamed Bd.named
  have hlocks := Bd.notSynchronized
  have hK := va_K.moved hW0.alike hE.K
  have hL : gx_L s0.heap.size ([] : List Loc) := gx_L0
  have hl := lv_entry ([.ref (s0.heap.size + 16)]) (n := 1) (Nat.le_of_ble_eq_true rfl)
  rw [lg_entry_eq]
  generalize (lg_sl ([.ref (s0.heap.size + 16)]) ++ List.replicate (1 - (lg_sl ([.ref (s0.heap.size + 16)])).length) Slot.unset).toArray = ls at hl ⊢
  have hl : lv_has ls 1 [(0, .ref (s0.heap.size + 16))] := hl
  refine lv_aload_n hx hb dX8_isEmpty_0 rfl (lv_at hl 0 rfl) ?_
  refine gx_get (D := D) (cl := gcl) (ci := 7) (v := .ref (aL s0.heap.size 4)) (C := RX8) (T := TX8) (N := 1) hx hb hts in_X8 hown hK hR.wai rfl 0 (by decide) (hts _ q174) (fun _ h9 => h9) rfl dX8_isEmpty_1 ?_
  refine cc_v (va_runV (b := aL s0.heap.size 4) (As := []) (rest := []) ⟨hx, hb, hml, hown, hts⟩ (ct_J2_isEmpty hE (hR.lob 4 (by omega)) (by have := (hR.lay.1 4 (by omega)); omega)) (cwV 0 hts (lw_V q419 q420 q421 q50 q422) rfl rfl rfl (by decide +kernel) ⟨Nat.le_of_ble_eq_true rfl, Nat.le_of_ble_eq_true rfl⟩) (cc_pV hW0 (cc_re hK (hR.lob 4 (by omega)) (show gcl[1]? = _ from rfl))) rfl rfl hl.1 rfl (lv_room (Nat.le_of_ble_eq_true rfl)) dX8_isEmpty_4 ⟨Nat.le_of_ble_eq_true rfl, Nat.le_of_ble_eq_true rfl⟩) hL (fun H locs hP1 hL => ?_)
  subst hP1
  exact W.zret (v := (bZ (decide (kN C 4 = 0)))) hx hb hr (bZ_n _) (fun t ht hW => ⟨rfl, ht⟩) hL dX8_isEmpty_7
set_option maxHeartbeats 4000000 in
set_option maxRecDepth 100000 in
/-- Waits.swap -/
theorem ct_X8_swap {l : Launch} {s0 : State} {D : va_G} {DA : Nat → ClassId} {z0 : Nat} {C : CS} {M : MS} {o : Int64} {H : Heap} (hE : G0 l s0 D DA z0) (hR : RR s0 D DA z0 C M o H) {a b : Nat} (ha : a < kN C 4) (hb2 : b < kN C 4) : Met l yX8_swap (ws_ yX8_swap cX8_swap 4 none) ({ frames := 3, cells := 0, slots := 0, locals := 66 }) (cP s0 [.ref (s0.heap.size + 16), .int (nI a), .int (nI b)] H) (cQ0 (fun H1 => RR s0 D DA z0 (cQ C (kN C 4) (qsw (kQ C) a b)) M o H1)) 0 0 (cF s0) := by
  refine Met.ofW (cc := cX8_swap) (maxL := 4) (ret := none) (by decide) rfl ?_
  intro p e s m args below meth c s₁ Bd hml hv
  obtain ⟨rfl, rfl, hW0⟩ := hv
  have hx := Bd.exec
  have hb := Bd.bytes
  have hr := Bd.returns
  have hts := atoms_spec (ws := (ws_ yX8_swap cX8_swap 4 none)) Bd.pre
  have hts : ∀ w ∈ lw_all, w.before _ s = true := fun w h => hts w (List.mem_cons_of_mem _ h)
  have hown : s.vm.findClass RX8 = some m.cls := findClass_of_methodNamed Bd.named
  have hlocks := Bd.notSynchronized
  have hK := va_K.moved hW0.alike hE.K
  have hL : gx_L s0.heap.size ([] : List Loc) := gx_L0
  obtain ⟨Y, hR⟩ := hR
  have hl := lv_entry ([.ref (s0.heap.size + 16), .int (nI a), .int (nI b)]) (n := 4) (Nat.le_of_ble_eq_true rfl)
  rw [lg_entry_eq]
  generalize (lg_sl ([.ref (s0.heap.size + 16), .int (nI a), .int (nI b)]) ++ List.replicate (4 - (lg_sl ([.ref (s0.heap.size + 16), .int (nI a), .int (nI b)])).length) Slot.unset).toArray = ls at hl ⊢
  have hl : lv_has ls 4 [(0, .ref (s0.heap.size + 16)), (1, .int (nI a)), (2, .int (nI b))] := hl
  have hqa := (hR.gQ ha).2
  have hqb := (hR.gQ hb2).2
  refine lv_aload_n hx hb dX8_swap_0 rfl (lv_at hl 0 rfl) ?_
  refine gx_get (D := D) (cl := gcl) (ci := 7) (v := .ref (aL s0.heap.size 4)) (C := RX8) (T := TX8) (N := 1) hx hb hts in_X8 hown hK hR.wai rfl 0 (by decide) (hts _ q174) (fun _ h9 => h9) rfl dX8_swap_1 ?_
  refine lv_iload_n hx hb dX8_swap_4 rfl (lv_at hl 1 rfl) ?_
  refine cc_v (va_runV (b := aL s0.heap.size 4) (As := [.int (nI a)]) (rest := []) ⟨hx, hb, hml, hown, hts⟩ (ct_J2_get (i := a) hE (hR.lob 4 (by omega)) (hR.lda 4 (by omega) (Nat.lt_of_lt_of_le (Nat.lt_of_le_of_lt (Nat.zero_le _) ha) (hR.lay.1 4 (by omega)).1)) (by have := (hR.lay.1 4 (by omega)).2; omega) ha (hR.lay.1 4 (by omega)).1 (hR.gQ ha).1) (cwV 1 hts (lw_V q382 q383 q384 q50 q385) rfl rfl rfl (by decide +kernel) ⟨Nat.le_of_ble_eq_true rfl, Nat.le_of_ble_eq_true rfl⟩) (cc_pV hW0 (cc_re hK (hR.lob 4 (by omega)) (show gcl[1]? = _ from rfl))) rfl rfl hl.1 rfl (lv_room (Nat.le_of_ble_eq_true rfl)) dX8_swap_5 ⟨Nat.le_of_ble_eq_true rfl, Nat.le_of_ble_eq_true rfl⟩) hL (fun H locs hP1 hL => ?_)
  subst hP1
  refine gx_castY (ci := 9) hx hb hown (hts _ q396) hK (hR.tur (kQ C a) hqa) (show gcl[9]? = _ from rfl) (va_Nw.warmC hW0 (hE.nw rfl q401)) dX8_swap_8 ?_
  refine lv_astore_n (lv' := [(3, .ref (aT s0.heap.size (kQ C a))), (0, .ref (s0.heap.size + 16)), (1, .int (nI a)), (2, .int (nI b))]) hx hb dX8_swap_11 rfl hl (by decide) rfl (fun ls hl => ?_)
  refine lv_aload_n hx hb dX8_swap_12 rfl (lv_at hl 1 rfl) ?_
  refine gx_get (D := D) (cl := gcl) (ci := 7) (v := .ref (aL s0.heap.size 4)) (C := RX8) (T := TX8) (N := 1) hx hb hts in_X8 hown hK hR.wai rfl 0 (by decide) (hts _ q174) (fun _ h9 => h9) rfl dX8_swap_13 ?_
  refine lv_iload_n hx hb dX8_swap_16 rfl (lv_at hl 2 rfl) ?_
  refine lv_aload_n hx hb dX8_swap_17 rfl (lv_at hl 1 rfl) ?_
  refine gx_get (D := D) (cl := gcl) (ci := 7) (v := .ref (aL s0.heap.size 4)) (C := RX8) (T := TX8) (N := 1) hx hb hts in_X8 hown hK hR.wai rfl 0 (by decide) (hts _ q174) (fun _ h9 => h9) rfl dX8_swap_18 ?_
  refine lv_iload_n hx hb dX8_swap_21 rfl (lv_at hl 3 rfl) ?_
  refine cc_v (va_runV (b := aL s0.heap.size 4) (As := [.int (nI b)]) (rest := [.int (nI a), .ref (aL s0.heap.size 4)]) ⟨hx, hb, hml, hown, hts⟩ (ct_J2_get (i := b) hE (hR.lob 4 (by omega)) (hR.lda 4 (by omega) (Nat.lt_of_lt_of_le (Nat.lt_of_le_of_lt (Nat.zero_le _) hb2) (hR.lay.1 4 (by omega)).1)) (by have := (hR.lay.1 4 (by omega)).2; omega) hb2 (hR.lay.1 4 (by omega)).1 (hR.gQ hb2).1) (cwV 1 hts (lw_V q382 q383 q384 q50 q385) rfl rfl rfl (by decide +kernel) ⟨Nat.le_of_ble_eq_true rfl, Nat.le_of_ble_eq_true rfl⟩) (cc_pV hW0 (cc_re hK (hR.lob 4 (by omega)) (show gcl[1]? = _ from rfl))) rfl rfl hl.1 rfl (lv_room (Nat.le_of_ble_eq_true rfl)) dX8_swap_22 ⟨Nat.le_of_ble_eq_true rfl, Nat.le_of_ble_eq_true rfl⟩) hL (fun H locs hP1 hL => ?_)
  subst hP1
  refine gx_castY (ci := 9) hx hb hown (hts _ q396) hK (hR.tur (kQ C b) hqb) (show gcl[9]? = _ from rfl) (va_Nw.warmC hW0 (hE.nw rfl q401)) dX8_swap_25 ?_
  refine cc_v (va_runV (b := aL s0.heap.size 4) (As := [.int (nI a), .ref (aT s0.heap.size (kQ C b))]) (rest := []) ⟨hx, hb, hml, hown, hts⟩ (ct_J2_set (i := a) (v := aT s0.heap.size (kQ C b)) hE (hR.lob 4 (by omega)) (hR.lda 4 (by omega) (Nat.lt_of_lt_of_le (Nat.lt_of_le_of_lt (Nat.zero_le _) ha) (hR.lay.1 4 (by omega)).1)) (by have := (hR.lay.1 4 (by omega)).2; omega) ha (hR.lay.1 4 (by omega)).1 (hR.gQ ha).1 (hR.tur _ hqb) rfl q1156 (by have := (yD_far hR.lay (j := 4) (by omega) (by have h8 := ha; have := (hR.lay.1 4 (by omega)).1; omega)).1; omega)) (cwV 2 hts (lw_V q411 q412 q413 q50 q414) rfl rfl rfl (by decide +kernel) ⟨Nat.le_of_ble_eq_true rfl, Nat.le_of_ble_eq_true rfl⟩) (cc_pV hW0 (cc_re hK (hR.lob 4 (by omega)) (show gcl[1]? = _ from rfl))) rfl rfl hl.1 rfl (lv_room (Nat.le_of_ble_eq_true rfl)) dX8_swap_28 ⟨Nat.le_of_ble_eq_true rfl, Nat.le_of_ble_eq_true rfl⟩) hL (fun H locs hP1 hL => ?_)
  obtain ⟨hU9, hA9⟩ := hP1
  obtain ⟨Y, hR⟩ := hR.setQ ha hqb hU9 hA9
  have hN1 : kN (cQ C (kN C 4) (va_up (kQ C) a (kQ C b))) 4 = kN C 4 := cQ_N _ _ _
  have hb3 : b < kN (cQ C (kN C 4) (va_up (kQ C) a (kQ C b))) 4 := by rw [hN1]; exact hb2
  refine lv_pop hx hb dX8_swap_31 rfl ?_
  refine lv_aload_n hx hb dX8_swap_32 rfl (lv_at hl 1 rfl) ?_
  refine gx_get (D := D) (cl := gcl) (ci := 7) (v := .ref (aL s0.heap.size 4)) (C := RX8) (T := TX8) (N := 1) hx hb hts in_X8 hown hK hR.wai rfl 0 (by decide) (hts _ q174) (fun _ h9 => h9) rfl dX8_swap_33 ?_
  refine lv_iload_n hx hb dX8_swap_36 rfl (lv_at hl 3 rfl) ?_
  refine lv_aload_n hx hb dX8_swap_37 rfl (lv_at hl 0 rfl) ?_
  refine cc_v (va_runV (b := aL s0.heap.size 4) (As := [.int (nI b), .ref (aT s0.heap.size (kQ C a))]) (rest := []) ⟨hx, hb, hml, hown, hts⟩ (ct_J2_set (i := b) (v := aT s0.heap.size (kQ C a)) hE (hR.lob 4 (by omega)) (hR.lda 4 (by omega) (Nat.lt_of_lt_of_le (Nat.lt_of_le_of_lt (Nat.zero_le _) hb3) (hR.lay.1 4 (by omega)).1)) (by have := (hR.lay.1 4 (by omega)).2; omega) hb3 (hR.lay.1 4 (by omega)).1 (hR.gQ hb3).1 (hR.tur _ hqa) rfl q1156 (by have := (yD_far hR.lay (j := 4) (by omega) (by have h8 := hb3; have := (hR.lay.1 4 (by omega)).1; omega)).1; omega)) (cwV 2 hts (lw_V q411 q412 q413 q50 q414) rfl rfl rfl (by decide +kernel) ⟨Nat.le_of_ble_eq_true rfl, Nat.le_of_ble_eq_true rfl⟩) (cc_pV hW0 (cc_re hK (hR.lob 4 (by omega)) (show gcl[1]? = _ from rfl))) rfl rfl hl.1 rfl (lv_room (Nat.le_of_ble_eq_true rfl)) dX8_swap_38 ⟨Nat.le_of_ble_eq_true rfl, Nat.le_of_ble_eq_true rfl⟩) hL (fun H locs hP1 hL => ?_)
  obtain ⟨hU9, hA9⟩ := hP1
  obtain ⟨Y, hR⟩ := hR.setQ hb3 hqa hU9 hA9
  have hR := GR_C (C := (cQ (cQ C (kN C 4) (va_up (kQ C) a (kQ C b))) (kN (cQ C (kN C 4) (va_up (kQ C) a (kQ C b))) 4) (va_up (kQ (cQ C (kN C 4) (va_up (kQ C) a (kQ C b)))) b (kQ C a)))) (C' := (cQ C (kN C 4) (qsw (kQ C) a b))) (by rw [cQ_cQ, hN1]; rfl) hR
  refine lv_pop hx hb dX8_swap_41 rfl ?_
  exact W.vret hx hb hr (fun t ht hW => ⟨rfl, by rw [ht]; exact ⟨_, hR⟩⟩) hL dX8_swap_42
set_option maxHeartbeats 4000000 in
set_option maxRecDepth 100000 in
/-- Waits.least -/
theorem ct_X8_least {l : Launch} {s0 : State} {D : va_G} {DA : Nat → ClassId} {z0 : Nat} {Y : YS} {C : CS} {M : MS} {o : Int64} {H : Heap} (hE : G0 l s0 D DA z0) (hR : GRb s0.heap.size s0.heap D DA z0 Y C M o H) {k : Nat} (hk : k < kN C 4) : Met l yX8_least (ws_ yX8_least cX8_least 4 (some .int)) ({ frames := 3, cells := 0, slots := 0, locals := 64 }) (cP s0 [.ref (s0.heap.size + 16), .int (nI k)] H) (cQv (.int (nI (q_ls (fun i => q_rank C (kQ C i)) (kN C 4) k))) (fun H1 => H1 = H)) 0 0 (cF s0) := by
  refine Met.ofW (cc := cX8_least) (maxL := 4) (ret := (some .int)) (by decide) rfl ?_
  intro p e s m args below meth c s₁ Bd hml hv
  obtain ⟨rfl, rfl, hW0⟩ := hv
  have hx := Bd.exec
  have hb := Bd.bytes
  have hr := Bd.returns
  have hts := atoms_spec (ws := (ws_ yX8_least cX8_least 4 (some .int))) Bd.pre
  have hts : ∀ w ∈ lw_all, w.before _ s = true := fun w h => hts w (List.mem_cons_of_mem _ h)
  have hown : s.vm.findClass RX8 = some m.cls := findClass_of_methodNamed Bd.named
  have hlocks := Bd.notSynchronized
  have hK := va_K.moved hW0.alike hE.K
  have hL : gx_L s0.heap.size ([] : List Loc) := gx_L0
  have hl := lv_entry ([.ref (s0.heap.size + 16), .int (nI k)]) (n := 4) (Nat.le_of_ble_eq_true rfl)
  rw [lg_entry_eq]
  generalize (lg_sl ([.ref (s0.heap.size + 16), .int (nI k)]) ++ List.replicate (4 - (lg_sl ([.ref (s0.heap.size + 16), .int (nI k)])).length) Slot.unset).toArray = ls at hl ⊢
  have hl : lv_has ls 4 [(0, .ref (s0.heap.size + 16)), (1, .int (nI k))] := hl
  have h12 := hR.lay.2.2.2.2.2.2.1.2.2.2.2
  have hl1 := q_l1_b (fun i => q_rank C (kQ C i)) hk
  refine lv_iload_n hx hb dX8_least_0 rfl (lv_at hl 1 rfl) ?_
  refine lv_istore_n (lv' := [(2, .int (nI k)), (0, .ref (s0.heap.size + 16)), (1, .int (nI k))]) hx hb dX8_least_1 rfl hl (by decide) rfl (fun ls hl => ?_)
  refine lv_iconst (v := 2) hx hb dX8_least_2 (by decide) ?_
  refine lv_iload_n hx hb dX8_least_3 rfl (lv_at hl 2 rfl) ?_
  refine lv_imul hx hb dX8_least_4 ?_
  refine gx_ti (nI (2 * k)) (pk_mul 2 k) ?_
  refine lv_iconst (v := 1) hx hb dX8_least_5 (by decide) ?_
  refine lv_iadd hx hb dX8_least_6 ?_
  refine gx_ti (nI (2 * k + 1)) (nI_1 (2 * k)) ?_
  refine lv_istore_n (lv' := [(3, .int (nI (2 * k + 1))), (2, .int (nI k)), (0, .ref (s0.heap.size + 16)), (1, .int (nI k))]) hx hb dX8_least_7 rfl hl (by decide) rfl (fun ls hl => ?_)
  refine lv_iload_n hx hb dX8_least_8 rfl (lv_at hl 0 rfl) ?_
  refine lv_iconst (v := 2) hx hb dX8_least_9 (by decide) ?_
  refine lv_iload_n hx hb dX8_least_10 rfl (lv_at hl 3 rfl) ?_
  refine lv_imul hx hb dX8_least_11 ?_
  refine gx_ti (nI (2 * k)) (pk_mul 2 k) ?_
  refine lv_iconst (v := 2) hx hb dX8_least_12 (by decide) ?_
  refine lv_iadd hx hb dX8_least_13 ?_
  refine gx_ti (nI (2 * k + 2)) (nI_add (2 * k) 2) ?_
  refine lv_icmp_gt (tgt := 71) hx hb dX8_least_14 (by decide) (fun c14 => ?_) (fun c14 => ?_)
  · exact absurd c14 (by intro z; have := n_gt z (by omega) (by omega); omega)
  · refine lv_iload_n hx hb dX8_least_17 rfl (lv_at hl 0 rfl) ?_
    refine lv_aload_n hx hb dX8_least_18 rfl (lv_at hl 2 rfl) ?_
    refine gx_get (D := D) (cl := gcl) (ci := 7) (v := .ref (aL s0.heap.size 4)) (C := RX8) (T := TX8) (N := 1) hx hb hts in_X8 hown hK hR.wai rfl 0 (by decide) (hts _ q174) (fun _ h9 => h9) rfl dX8_least_19 ?_
    refine cc_v (va_runV (b := aL s0.heap.size 4) (As := []) (rest := [.int (nI (2 * k + 1))]) ⟨hx, hb, hml, hown, hts⟩ (ct_J2_size hE (hR.lob 4 (by omega))) (cwV 0 hts (lw_V q378 q379 q380 q50 q381) rfl rfl rfl (by decide +kernel) ⟨Nat.le_of_ble_eq_true rfl, Nat.le_of_ble_eq_true rfl⟩) (cc_pV hW0 (cc_re hK (hR.lob 4 (by omega)) (show gcl[1]? = _ from rfl))) rfl rfl hl.1 rfl (lv_room (Nat.le_of_ble_eq_true rfl)) dX8_least_22 ⟨Nat.le_of_ble_eq_true rfl, Nat.le_of_ble_eq_true rfl⟩) hL (fun H locs hP1 hL => ?_)
    subst hP1
    refine lv_icmp_ge (tgt := 71) hx hb dX8_least_25 (by decide) (fun c25 => ?_) (fun c25 => ?_)
    · have hcn : ¬ 2 * k + 1 < kN C 4 := by have := n_ge c25 (by omega) (by omega); omega
      have e1 : q_l1 (fun i => q_rank C (kQ C i)) (kN C 4) k = k := if_neg (fun q => hcn q.1)
      have e2 : q_ls (fun i => q_rank C (kQ C i)) (kN C 4) k = k := by unfold q_ls; rw [if_neg (fun q => hcn (by omega)), e1]
      refine lv_iload_n hx hb dX8_least_71 rfl (lv_at hl 1 rfl) ?_
      exact W.iret (v := (nI k)) hx hb hr (fun t ht hW => ⟨ovI (by rw [e2]), ht⟩) hL dX8_least_72
    · have hcn : 2 * k + 1 < kN C 4 := n_lt c25 (by omega) (by omega)
      refine lv_aload_n hx hb dX8_least_28 rfl (lv_at hl 2 rfl) ?_
      refine gx_get (D := D) (cl := gcl) (ci := 7) (v := .ref (aL s0.heap.size 4)) (C := RX8) (T := TX8) (N := 1) hx hb hts in_X8 hown hK hR.wai rfl 0 (by decide) (hts _ q174) (fun _ h9 => h9) rfl dX8_least_29 ?_
      refine lv_iload_n hx hb dX8_least_32 rfl (lv_at hl 0 rfl) ?_
      refine cc_v (va_runV (b := aL s0.heap.size 4) (As := [.int (nI (2 * k + 1))]) (rest := []) ⟨hx, hb, hml, hown, hts⟩ (ct_J2_get (i := 2 * k + 1) hE (hR.lob 4 (by omega)) (hR.lda 4 (by omega) (Nat.lt_of_lt_of_le (Nat.lt_of_le_of_lt (Nat.zero_le _) hcn) (hR.lay.1 4 (by omega)).1)) (by have := (hR.lay.1 4 (by omega)).2; omega) hcn (hR.lay.1 4 (by omega)).1 (hR.gQ hcn).1) (cwV 1 hts (lw_V q382 q383 q384 q50 q385) rfl rfl rfl (by decide +kernel) ⟨Nat.le_of_ble_eq_true rfl, Nat.le_of_ble_eq_true rfl⟩) (cc_pV hW0 (cc_re hK (hR.lob 4 (by omega)) (show gcl[1]? = _ from rfl))) rfl rfl hl.1 rfl (lv_room (Nat.le_of_ble_eq_true rfl)) dX8_least_33 ⟨Nat.le_of_ble_eq_true rfl, Nat.le_of_ble_eq_true rfl⟩) hL (fun H locs hP1 hL => ?_)
      subst hP1
      refine gx_castY (ci := 9) hx hb hown (hts _ q396) hK (hR.tur (kQ C (2 * k + 1)) ((hR.gQ hcn).2)) (show gcl[9]? = _ from rfl) (va_Nw.warmC hW0 (hE.nw rfl q401)) dX8_least_36 ?_
      refine cc5_v (va_runF (b := aT s0.heap.size (kQ C (2 * k + 1))) (As := []) (rest := []) (hK.1 9 _ (show gcl[9]? = _ from rfl)).2 ⟨hx, hb, hml, hown, hts⟩ (ct_X10_rank hE hR ((hR.gQ hcn).2)) (va_cwF 0 hts (lw_F q398 q402 q404 q60 q406) rfl rfl rfl (hE.fw hW0) (by decide +kernel) ⟨Nat.le_of_ble_eq_true rfl, Nat.le_of_ble_eq_true rfl⟩) (cc_pV hW0 (cc_re hK (hR.tur (kQ C (2 * k + 1)) ((hR.gQ hcn).2)) (show gcl[9]? = _ from rfl))) rfl rfl hl.1 rfl (lv_room (Nat.le_of_ble_eq_true rfl)) dX8_least_39 ⟨Nat.le_of_ble_eq_true rfl, Nat.le_of_ble_eq_true rfl⟩) hL (fun H locs hP1 hL => ?_)
      subst hP1
      refine lv_aload_n hx hb dX8_least_44 rfl (lv_at hl 2 rfl) ?_
      refine gx_get (D := D) (cl := gcl) (ci := 7) (v := .ref (aL s0.heap.size 4)) (C := RX8) (T := TX8) (N := 1) hx hb hts in_X8 hown hK hR.wai rfl 0 (by decide) (hts _ q174) (fun _ h9 => h9) rfl dX8_least_45 ?_
      refine lv_iload_n hx hb dX8_least_48 rfl (lv_at hl 1 rfl) ?_
      refine cc_v (va_runV (b := aL s0.heap.size 4) (As := [.int (nI k)]) (rest := [.int (q_rank C (kQ C (2 * k + 1)))]) ⟨hx, hb, hml, hown, hts⟩ (ct_J2_get (i := k) hE (hR.lob 4 (by omega)) (hR.lda 4 (by omega) (Nat.lt_of_lt_of_le (Nat.lt_of_le_of_lt (Nat.zero_le _) hk) (hR.lay.1 4 (by omega)).1)) (by have := (hR.lay.1 4 (by omega)).2; omega) hk (hR.lay.1 4 (by omega)).1 (hR.gQ hk).1) (cwV 1 hts (lw_V q382 q383 q384 q50 q385) rfl rfl rfl (by decide +kernel) ⟨Nat.le_of_ble_eq_true rfl, Nat.le_of_ble_eq_true rfl⟩) (cc_pV hW0 (cc_re hK (hR.lob 4 (by omega)) (show gcl[1]? = _ from rfl))) rfl rfl hl.1 rfl (lv_room (Nat.le_of_ble_eq_true rfl)) dX8_least_49 ⟨Nat.le_of_ble_eq_true rfl, Nat.le_of_ble_eq_true rfl⟩) hL (fun H locs hP1 hL => ?_)
      subst hP1
      refine gx_castY (ci := 9) hx hb hown (hts _ q396) hK (hR.tur (kQ C k) ((hR.gQ hk).2)) (show gcl[9]? = _ from rfl) (va_Nw.warmC hW0 (hE.nw rfl q401)) dX8_least_52 ?_
      refine cc5_v (va_runF (b := aT s0.heap.size (kQ C k)) (As := []) (rest := [.int (q_rank C (kQ C (2 * k + 1)))]) (hK.1 9 _ (show gcl[9]? = _ from rfl)).2 ⟨hx, hb, hml, hown, hts⟩ (ct_X10_rank hE hR ((hR.gQ hk).2)) (va_cwF 0 hts (lw_F q398 q402 q404 q60 q406) rfl rfl rfl (hE.fw hW0) (by decide +kernel) ⟨Nat.le_of_ble_eq_true rfl, Nat.le_of_ble_eq_true rfl⟩) (cc_pV hW0 (cc_re hK (hR.tur (kQ C k) ((hR.gQ hk).2)) (show gcl[9]? = _ from rfl))) rfl rfl hl.1 rfl (lv_room (Nat.le_of_ble_eq_true rfl)) dX8_least_55 ⟨Nat.le_of_ble_eq_true rfl, Nat.le_of_ble_eq_true rfl⟩) hL (fun H locs hP1 hL => ?_)
      subst hP1
      refine lv_icmp_ge (tgt := 65) hx hb dX8_least_60 (by decide) (fun c60 => ?_) (fun c60 => ?_)
      · have e1 : q_l1 (fun i => q_rank C (kQ C i)) (kN C 4) k = k := if_neg (fun q => c60 |> fun z => absurd q.2 (Int32.not_lt.mpr z))
        have hl : lv_has ls 4 [(3, .int (nI (2 * k + 1))), (2, .int (nI (q_l1 (fun i => q_rank C (kQ C i)) (kN C 4) k))), (0, .ref (s0.heap.size + 16)), (1, .int (nI k))] := by rw [e1]; exact hl
        refine lv_iinc (v := nI (2 * k + 2)) (lv' := [(3, .int (nI (2 * k + 2))), (2, .int (nI (q_l1 (fun i => q_rank C (kQ C i)) (kN C 4) k))), (0, .ref (s0.heap.size + 16)), (1, .int (nI k))]) hx hb dX8_least_65 hl (k := 0) rfl (nI_1 (2 * k + 1)) (by decide) rfl (fun ls hl => ?_)
        refine lv_goto (tgt := 8) hx hb dX8_least_68 (by decide) ?_
        refine lv_iload_n hx hb dX8_least_8 rfl (lv_at hl 0 rfl) ?_
        refine lv_iconst (v := 2) hx hb dX8_least_9 (by decide) ?_
        refine lv_iload_n hx hb dX8_least_10 rfl (lv_at hl 3 rfl) ?_
        refine lv_imul hx hb dX8_least_11 ?_
        refine gx_ti (nI (2 * k)) (pk_mul 2 k) ?_
        refine lv_iconst (v := 2) hx hb dX8_least_12 (by decide) ?_
        refine lv_iadd hx hb dX8_least_13 ?_
        refine gx_ti (nI (2 * k + 2)) (nI_add (2 * k) 2) ?_
        refine lv_icmp_gt (tgt := 71) hx hb dX8_least_14 (by decide) (fun c14 => ?_) (fun c14 => ?_)
        · exact absurd c14 (by intro z; have := n_gt z (by omega) (by omega); omega)
        · refine lv_iload_n hx hb dX8_least_17 rfl (lv_at hl 0 rfl) ?_
          refine lv_aload_n hx hb dX8_least_18 rfl (lv_at hl 2 rfl) ?_
          refine gx_get (D := D) (cl := gcl) (ci := 7) (v := .ref (aL s0.heap.size 4)) (C := RX8) (T := TX8) (N := 1) hx hb hts in_X8 hown hK hR.wai rfl 0 (by decide) (hts _ q174) (fun _ h9 => h9) rfl dX8_least_19 ?_
          refine cc_v (va_runV (b := aL s0.heap.size 4) (As := []) (rest := [.int (nI (2 * k + 2))]) ⟨hx, hb, hml, hown, hts⟩ (ct_J2_size hE (hR.lob 4 (by omega))) (cwV 0 hts (lw_V q378 q379 q380 q50 q381) rfl rfl rfl (by decide +kernel) ⟨Nat.le_of_ble_eq_true rfl, Nat.le_of_ble_eq_true rfl⟩) (cc_pV hW0 (cc_re hK (hR.lob 4 (by omega)) (show gcl[1]? = _ from rfl))) rfl rfl hl.1 rfl (lv_room (Nat.le_of_ble_eq_true rfl)) dX8_least_22 ⟨Nat.le_of_ble_eq_true rfl, Nat.le_of_ble_eq_true rfl⟩) hL (fun H locs hP1 hL => ?_)
          subst hP1
          refine lv_icmp_ge (tgt := 71) hx hb dX8_least_25 (by decide) (fun c25 => ?_) (fun c25 => ?_)
          · have hcn : ¬ 2 * k + 2 < kN C 4 := by have := n_ge c25 (by omega) (by omega); omega
            have e2 : q_ls (fun i => q_rank C (kQ C i)) (kN C 4) k = q_l1 (fun i => q_rank C (kQ C i)) (kN C 4) k := by unfold q_ls; rw [if_neg (fun q => hcn q.1)]
            refine lv_iload_n hx hb dX8_least_71 rfl (lv_at hl 1 rfl) ?_
            exact W.iret (v := (nI (q_l1 (fun i => q_rank C (kQ C i)) (kN C 4) k))) hx hb hr (fun t ht hW => ⟨ovI (by rw [e2]), ht⟩) hL dX8_least_72
          · have hcn : 2 * k + 2 < kN C 4 := n_lt c25 (by omega) (by omega)
            refine lv_aload_n hx hb dX8_least_28 rfl (lv_at hl 2 rfl) ?_
            refine gx_get (D := D) (cl := gcl) (ci := 7) (v := .ref (aL s0.heap.size 4)) (C := RX8) (T := TX8) (N := 1) hx hb hts in_X8 hown hK hR.wai rfl 0 (by decide) (hts _ q174) (fun _ h9 => h9) rfl dX8_least_29 ?_
            refine lv_iload_n hx hb dX8_least_32 rfl (lv_at hl 0 rfl) ?_
            refine cc_v (va_runV (b := aL s0.heap.size 4) (As := [.int (nI (2 * k + 2))]) (rest := []) ⟨hx, hb, hml, hown, hts⟩ (ct_J2_get (i := 2 * k + 2) hE (hR.lob 4 (by omega)) (hR.lda 4 (by omega) (Nat.lt_of_lt_of_le (Nat.lt_of_le_of_lt (Nat.zero_le _) hcn) (hR.lay.1 4 (by omega)).1)) (by have := (hR.lay.1 4 (by omega)).2; omega) hcn (hR.lay.1 4 (by omega)).1 (hR.gQ hcn).1) (cwV 1 hts (lw_V q382 q383 q384 q50 q385) rfl rfl rfl (by decide +kernel) ⟨Nat.le_of_ble_eq_true rfl, Nat.le_of_ble_eq_true rfl⟩) (cc_pV hW0 (cc_re hK (hR.lob 4 (by omega)) (show gcl[1]? = _ from rfl))) rfl rfl hl.1 rfl (lv_room (Nat.le_of_ble_eq_true rfl)) dX8_least_33 ⟨Nat.le_of_ble_eq_true rfl, Nat.le_of_ble_eq_true rfl⟩) hL (fun H locs hP1 hL => ?_)
            subst hP1
            refine gx_castY (ci := 9) hx hb hown (hts _ q396) hK (hR.tur (kQ C (2 * k + 2)) ((hR.gQ hcn).2)) (show gcl[9]? = _ from rfl) (va_Nw.warmC hW0 (hE.nw rfl q401)) dX8_least_36 ?_
            refine cc5_v (va_runF (b := aT s0.heap.size (kQ C (2 * k + 2))) (As := []) (rest := []) (hK.1 9 _ (show gcl[9]? = _ from rfl)).2 ⟨hx, hb, hml, hown, hts⟩ (ct_X10_rank hE hR ((hR.gQ hcn).2)) (va_cwF 0 hts (lw_F q398 q402 q404 q60 q406) rfl rfl rfl (hE.fw hW0) (by decide +kernel) ⟨Nat.le_of_ble_eq_true rfl, Nat.le_of_ble_eq_true rfl⟩) (cc_pV hW0 (cc_re hK (hR.tur (kQ C (2 * k + 2)) ((hR.gQ hcn).2)) (show gcl[9]? = _ from rfl))) rfl rfl hl.1 rfl (lv_room (Nat.le_of_ble_eq_true rfl)) dX8_least_39 ⟨Nat.le_of_ble_eq_true rfl, Nat.le_of_ble_eq_true rfl⟩) hL (fun H locs hP1 hL => ?_)
            subst hP1
            refine lv_aload_n hx hb dX8_least_44 rfl (lv_at hl 2 rfl) ?_
            refine gx_get (D := D) (cl := gcl) (ci := 7) (v := .ref (aL s0.heap.size 4)) (C := RX8) (T := TX8) (N := 1) hx hb hts in_X8 hown hK hR.wai rfl 0 (by decide) (hts _ q174) (fun _ h9 => h9) rfl dX8_least_45 ?_
            refine lv_iload_n hx hb dX8_least_48 rfl (lv_at hl 1 rfl) ?_
            refine cc_v (va_runV (b := aL s0.heap.size 4) (As := [.int (nI (q_l1 (fun i => q_rank C (kQ C i)) (kN C 4) k))]) (rest := [.int (q_rank C (kQ C (2 * k + 2)))]) ⟨hx, hb, hml, hown, hts⟩ (ct_J2_get (i := (q_l1 (fun i => q_rank C (kQ C i)) (kN C 4) k)) hE (hR.lob 4 (by omega)) (hR.lda 4 (by omega) (Nat.lt_of_lt_of_le (Nat.lt_of_le_of_lt (Nat.zero_le _) hl1.1) (hR.lay.1 4 (by omega)).1)) (by have := (hR.lay.1 4 (by omega)).2; omega) hl1.1 (hR.lay.1 4 (by omega)).1 (hR.gQ hl1.1).1) (cwV 1 hts (lw_V q382 q383 q384 q50 q385) rfl rfl rfl (by decide +kernel) ⟨Nat.le_of_ble_eq_true rfl, Nat.le_of_ble_eq_true rfl⟩) (cc_pV hW0 (cc_re hK (hR.lob 4 (by omega)) (show gcl[1]? = _ from rfl))) rfl rfl hl.1 rfl (lv_room (Nat.le_of_ble_eq_true rfl)) dX8_least_49 ⟨Nat.le_of_ble_eq_true rfl, Nat.le_of_ble_eq_true rfl⟩) hL (fun H locs hP1 hL => ?_)
            subst hP1
            refine gx_castY (ci := 9) hx hb hown (hts _ q396) hK (hR.tur (kQ C (q_l1 (fun i => q_rank C (kQ C i)) (kN C 4) k)) ((hR.gQ hl1.1).2)) (show gcl[9]? = _ from rfl) (va_Nw.warmC hW0 (hE.nw rfl q401)) dX8_least_52 ?_
            refine cc5_v (va_runF (b := aT s0.heap.size (kQ C (q_l1 (fun i => q_rank C (kQ C i)) (kN C 4) k))) (As := []) (rest := [.int (q_rank C (kQ C (2 * k + 2)))]) (hK.1 9 _ (show gcl[9]? = _ from rfl)).2 ⟨hx, hb, hml, hown, hts⟩ (ct_X10_rank hE hR ((hR.gQ hl1.1).2)) (va_cwF 0 hts (lw_F q398 q402 q404 q60 q406) rfl rfl rfl (hE.fw hW0) (by decide +kernel) ⟨Nat.le_of_ble_eq_true rfl, Nat.le_of_ble_eq_true rfl⟩) (cc_pV hW0 (cc_re hK (hR.tur (kQ C (q_l1 (fun i => q_rank C (kQ C i)) (kN C 4) k)) ((hR.gQ hl1.1).2)) (show gcl[9]? = _ from rfl))) rfl rfl hl.1 rfl (lv_room (Nat.le_of_ble_eq_true rfl)) dX8_least_55 ⟨Nat.le_of_ble_eq_true rfl, Nat.le_of_ble_eq_true rfl⟩) hL (fun H locs hP1 hL => ?_)
            subst hP1
            refine lv_icmp_ge (tgt := 65) hx hb dX8_least_60 (by decide) (fun c60 => ?_) (fun c60 => ?_)
            · have e2 : q_ls (fun i => q_rank C (kQ C i)) (kN C 4) k = q_l1 (fun i => q_rank C (kQ C i)) (kN C 4) k := by unfold q_ls; rw [if_neg (fun q => absurd q.2 (Int32.not_lt.mpr c60))]
              have hl : lv_has ls 4 [(3, .int (nI (2 * k + 2))), (2, .int (nI (q_ls (fun i => q_rank C (kQ C i)) (kN C 4) k))), (0, .ref (s0.heap.size + 16)), (1, .int (nI k))] := by rw [e2]; exact hl
              refine lv_iinc (v := nI (2 * k + 3)) (lv' := [(3, .int (nI (2 * k + 3))), (2, .int (nI (q_ls (fun i => q_rank C (kQ C i)) (kN C 4) k))), (0, .ref (s0.heap.size + 16)), (1, .int (nI k))]) hx hb dX8_least_65 hl (k := 0) rfl (nI_1 (2 * k + 2)) (by decide) rfl (fun ls hl => ?_)
              refine lv_goto (tgt := 8) hx hb dX8_least_68 (by decide) ?_
              refine lv_iload_n hx hb dX8_least_8 rfl (lv_at hl 0 rfl) ?_
              refine lv_iconst (v := 2) hx hb dX8_least_9 (by decide) ?_
              refine lv_iload_n hx hb dX8_least_10 rfl (lv_at hl 3 rfl) ?_
              refine lv_imul hx hb dX8_least_11 ?_
              refine gx_ti (nI (2 * k)) (pk_mul 2 k) ?_
              refine lv_iconst (v := 2) hx hb dX8_least_12 (by decide) ?_
              refine lv_iadd hx hb dX8_least_13 ?_
              refine gx_ti (nI (2 * k + 2)) (nI_add (2 * k) 2) ?_
              refine lv_icmp_gt (tgt := 71) hx hb dX8_least_14 (by decide) (fun c14 => ?_) (fun c14 => ?_)
              · refine lv_iload_n hx hb dX8_least_71 rfl (lv_at hl 1 rfl) ?_
                exact W.iret (v := (nI (q_ls (fun i => q_rank C (kQ C i)) (kN C 4) k))) hx hb hr (fun t ht hW => ⟨rfl, ht⟩) hL dX8_least_72
              · exact absurd c14 (by intro z; exact z (nI_lt (by omega) (by omega)))
            · have e2 : q_ls (fun i => q_rank C (kQ C i)) (kN C 4) k = 2 * k + 2 := if_pos ⟨hcn, i_nle c60⟩
              refine lv_iload_n hx hb dX8_least_63 rfl (lv_at hl 0 rfl) ?_
              refine lv_istore_n (lv' := [(2, .int (nI (2 * k + 2))), (3, .int (nI (2 * k + 2))), (0, .ref (s0.heap.size + 16)), (1, .int (nI k))]) hx hb dX8_least_64 rfl hl (by decide) rfl (fun ls hl => ?_)
              have hl : lv_has ls 4 [(2, .int (nI (q_ls (fun i => q_rank C (kQ C i)) (kN C 4) k))), (3, .int (nI (2 * k + 2))), (0, .ref (s0.heap.size + 16)), (1, .int (nI k))] := by rw [e2]; exact hl
              refine lv_iinc (v := nI (2 * k + 3)) (lv' := [(3, .int (nI (2 * k + 3))), (2, .int (nI (q_ls (fun i => q_rank C (kQ C i)) (kN C 4) k))), (0, .ref (s0.heap.size + 16)), (1, .int (nI k))]) hx hb dX8_least_65 hl (k := 1) rfl (nI_1 (2 * k + 2)) (by decide) rfl (fun ls hl => ?_)
              refine lv_goto (tgt := 8) hx hb dX8_least_68 (by decide) ?_
              refine lv_iload_n hx hb dX8_least_8 rfl (lv_at hl 0 rfl) ?_
              refine lv_iconst (v := 2) hx hb dX8_least_9 (by decide) ?_
              refine lv_iload_n hx hb dX8_least_10 rfl (lv_at hl 3 rfl) ?_
              refine lv_imul hx hb dX8_least_11 ?_
              refine gx_ti (nI (2 * k)) (pk_mul 2 k) ?_
              refine lv_iconst (v := 2) hx hb dX8_least_12 (by decide) ?_
              refine lv_iadd hx hb dX8_least_13 ?_
              refine gx_ti (nI (2 * k + 2)) (nI_add (2 * k) 2) ?_
              refine lv_icmp_gt (tgt := 71) hx hb dX8_least_14 (by decide) (fun c14 => ?_) (fun c14 => ?_)
              · refine lv_iload_n hx hb dX8_least_71 rfl (lv_at hl 1 rfl) ?_
                exact W.iret (v := (nI (q_ls (fun i => q_rank C (kQ C i)) (kN C 4) k))) hx hb hr (fun t ht hW => ⟨rfl, ht⟩) hL dX8_least_72
              · exact absurd c14 (by intro z; exact z (nI_lt (by omega) (by omega)))
      · have e1 : q_l1 (fun i => q_rank C (kQ C i)) (kN C 4) k = 2 * k + 1 := if_pos ⟨hcn, i_nle c60⟩
        refine lv_iload_n hx hb dX8_least_63 rfl (lv_at hl 0 rfl) ?_
        refine lv_istore_n (lv' := [(2, .int (nI (2 * k + 1))), (3, .int (nI (2 * k + 1))), (0, .ref (s0.heap.size + 16)), (1, .int (nI k))]) hx hb dX8_least_64 rfl hl (by decide) rfl (fun ls hl => ?_)
        have hl : lv_has ls 4 [(2, .int (nI (q_l1 (fun i => q_rank C (kQ C i)) (kN C 4) k))), (3, .int (nI (2 * k + 1))), (0, .ref (s0.heap.size + 16)), (1, .int (nI k))] := by rw [e1]; exact hl
        refine lv_iinc (v := nI (2 * k + 2)) (lv' := [(3, .int (nI (2 * k + 2))), (2, .int (nI (q_l1 (fun i => q_rank C (kQ C i)) (kN C 4) k))), (0, .ref (s0.heap.size + 16)), (1, .int (nI k))]) hx hb dX8_least_65 hl (k := 1) rfl (nI_1 (2 * k + 1)) (by decide) rfl (fun ls hl => ?_)
        refine lv_goto (tgt := 8) hx hb dX8_least_68 (by decide) ?_
        refine lv_iload_n hx hb dX8_least_8 rfl (lv_at hl 0 rfl) ?_
        refine lv_iconst (v := 2) hx hb dX8_least_9 (by decide) ?_
        refine lv_iload_n hx hb dX8_least_10 rfl (lv_at hl 3 rfl) ?_
        refine lv_imul hx hb dX8_least_11 ?_
        refine gx_ti (nI (2 * k)) (pk_mul 2 k) ?_
        refine lv_iconst (v := 2) hx hb dX8_least_12 (by decide) ?_
        refine lv_iadd hx hb dX8_least_13 ?_
        refine gx_ti (nI (2 * k + 2)) (nI_add (2 * k) 2) ?_
        refine lv_icmp_gt (tgt := 71) hx hb dX8_least_14 (by decide) (fun c14 => ?_) (fun c14 => ?_)
        · exact absurd c14 (by intro z; have := n_gt z (by omega) (by omega); omega)
        · refine lv_iload_n hx hb dX8_least_17 rfl (lv_at hl 0 rfl) ?_
          refine lv_aload_n hx hb dX8_least_18 rfl (lv_at hl 2 rfl) ?_
          refine gx_get (D := D) (cl := gcl) (ci := 7) (v := .ref (aL s0.heap.size 4)) (C := RX8) (T := TX8) (N := 1) hx hb hts in_X8 hown hK hR.wai rfl 0 (by decide) (hts _ q174) (fun _ h9 => h9) rfl dX8_least_19 ?_
          refine cc_v (va_runV (b := aL s0.heap.size 4) (As := []) (rest := [.int (nI (2 * k + 2))]) ⟨hx, hb, hml, hown, hts⟩ (ct_J2_size hE (hR.lob 4 (by omega))) (cwV 0 hts (lw_V q378 q379 q380 q50 q381) rfl rfl rfl (by decide +kernel) ⟨Nat.le_of_ble_eq_true rfl, Nat.le_of_ble_eq_true rfl⟩) (cc_pV hW0 (cc_re hK (hR.lob 4 (by omega)) (show gcl[1]? = _ from rfl))) rfl rfl hl.1 rfl (lv_room (Nat.le_of_ble_eq_true rfl)) dX8_least_22 ⟨Nat.le_of_ble_eq_true rfl, Nat.le_of_ble_eq_true rfl⟩) hL (fun H locs hP1 hL => ?_)
          subst hP1
          refine lv_icmp_ge (tgt := 71) hx hb dX8_least_25 (by decide) (fun c25 => ?_) (fun c25 => ?_)
          · have hcn : ¬ 2 * k + 2 < kN C 4 := by have := n_ge c25 (by omega) (by omega); omega
            have e2 : q_ls (fun i => q_rank C (kQ C i)) (kN C 4) k = q_l1 (fun i => q_rank C (kQ C i)) (kN C 4) k := by unfold q_ls; rw [if_neg (fun q => hcn q.1)]
            refine lv_iload_n hx hb dX8_least_71 rfl (lv_at hl 1 rfl) ?_
            exact W.iret (v := (nI (q_l1 (fun i => q_rank C (kQ C i)) (kN C 4) k))) hx hb hr (fun t ht hW => ⟨ovI (by rw [e2]), ht⟩) hL dX8_least_72
          · have hcn : 2 * k + 2 < kN C 4 := n_lt c25 (by omega) (by omega)
            refine lv_aload_n hx hb dX8_least_28 rfl (lv_at hl 2 rfl) ?_
            refine gx_get (D := D) (cl := gcl) (ci := 7) (v := .ref (aL s0.heap.size 4)) (C := RX8) (T := TX8) (N := 1) hx hb hts in_X8 hown hK hR.wai rfl 0 (by decide) (hts _ q174) (fun _ h9 => h9) rfl dX8_least_29 ?_
            refine lv_iload_n hx hb dX8_least_32 rfl (lv_at hl 0 rfl) ?_
            refine cc_v (va_runV (b := aL s0.heap.size 4) (As := [.int (nI (2 * k + 2))]) (rest := []) ⟨hx, hb, hml, hown, hts⟩ (ct_J2_get (i := 2 * k + 2) hE (hR.lob 4 (by omega)) (hR.lda 4 (by omega) (Nat.lt_of_lt_of_le (Nat.lt_of_le_of_lt (Nat.zero_le _) hcn) (hR.lay.1 4 (by omega)).1)) (by have := (hR.lay.1 4 (by omega)).2; omega) hcn (hR.lay.1 4 (by omega)).1 (hR.gQ hcn).1) (cwV 1 hts (lw_V q382 q383 q384 q50 q385) rfl rfl rfl (by decide +kernel) ⟨Nat.le_of_ble_eq_true rfl, Nat.le_of_ble_eq_true rfl⟩) (cc_pV hW0 (cc_re hK (hR.lob 4 (by omega)) (show gcl[1]? = _ from rfl))) rfl rfl hl.1 rfl (lv_room (Nat.le_of_ble_eq_true rfl)) dX8_least_33 ⟨Nat.le_of_ble_eq_true rfl, Nat.le_of_ble_eq_true rfl⟩) hL (fun H locs hP1 hL => ?_)
            subst hP1
            refine gx_castY (ci := 9) hx hb hown (hts _ q396) hK (hR.tur (kQ C (2 * k + 2)) ((hR.gQ hcn).2)) (show gcl[9]? = _ from rfl) (va_Nw.warmC hW0 (hE.nw rfl q401)) dX8_least_36 ?_
            refine cc5_v (va_runF (b := aT s0.heap.size (kQ C (2 * k + 2))) (As := []) (rest := []) (hK.1 9 _ (show gcl[9]? = _ from rfl)).2 ⟨hx, hb, hml, hown, hts⟩ (ct_X10_rank hE hR ((hR.gQ hcn).2)) (va_cwF 0 hts (lw_F q398 q402 q404 q60 q406) rfl rfl rfl (hE.fw hW0) (by decide +kernel) ⟨Nat.le_of_ble_eq_true rfl, Nat.le_of_ble_eq_true rfl⟩) (cc_pV hW0 (cc_re hK (hR.tur (kQ C (2 * k + 2)) ((hR.gQ hcn).2)) (show gcl[9]? = _ from rfl))) rfl rfl hl.1 rfl (lv_room (Nat.le_of_ble_eq_true rfl)) dX8_least_39 ⟨Nat.le_of_ble_eq_true rfl, Nat.le_of_ble_eq_true rfl⟩) hL (fun H locs hP1 hL => ?_)
            subst hP1
            refine lv_aload_n hx hb dX8_least_44 rfl (lv_at hl 2 rfl) ?_
            refine gx_get (D := D) (cl := gcl) (ci := 7) (v := .ref (aL s0.heap.size 4)) (C := RX8) (T := TX8) (N := 1) hx hb hts in_X8 hown hK hR.wai rfl 0 (by decide) (hts _ q174) (fun _ h9 => h9) rfl dX8_least_45 ?_
            refine lv_iload_n hx hb dX8_least_48 rfl (lv_at hl 1 rfl) ?_
            refine cc_v (va_runV (b := aL s0.heap.size 4) (As := [.int (nI (q_l1 (fun i => q_rank C (kQ C i)) (kN C 4) k))]) (rest := [.int (q_rank C (kQ C (2 * k + 2)))]) ⟨hx, hb, hml, hown, hts⟩ (ct_J2_get (i := (q_l1 (fun i => q_rank C (kQ C i)) (kN C 4) k)) hE (hR.lob 4 (by omega)) (hR.lda 4 (by omega) (Nat.lt_of_lt_of_le (Nat.lt_of_le_of_lt (Nat.zero_le _) hl1.1) (hR.lay.1 4 (by omega)).1)) (by have := (hR.lay.1 4 (by omega)).2; omega) hl1.1 (hR.lay.1 4 (by omega)).1 (hR.gQ hl1.1).1) (cwV 1 hts (lw_V q382 q383 q384 q50 q385) rfl rfl rfl (by decide +kernel) ⟨Nat.le_of_ble_eq_true rfl, Nat.le_of_ble_eq_true rfl⟩) (cc_pV hW0 (cc_re hK (hR.lob 4 (by omega)) (show gcl[1]? = _ from rfl))) rfl rfl hl.1 rfl (lv_room (Nat.le_of_ble_eq_true rfl)) dX8_least_49 ⟨Nat.le_of_ble_eq_true rfl, Nat.le_of_ble_eq_true rfl⟩) hL (fun H locs hP1 hL => ?_)
            subst hP1
            refine gx_castY (ci := 9) hx hb hown (hts _ q396) hK (hR.tur (kQ C (q_l1 (fun i => q_rank C (kQ C i)) (kN C 4) k)) ((hR.gQ hl1.1).2)) (show gcl[9]? = _ from rfl) (va_Nw.warmC hW0 (hE.nw rfl q401)) dX8_least_52 ?_
            refine cc5_v (va_runF (b := aT s0.heap.size (kQ C (q_l1 (fun i => q_rank C (kQ C i)) (kN C 4) k))) (As := []) (rest := [.int (q_rank C (kQ C (2 * k + 2)))]) (hK.1 9 _ (show gcl[9]? = _ from rfl)).2 ⟨hx, hb, hml, hown, hts⟩ (ct_X10_rank hE hR ((hR.gQ hl1.1).2)) (va_cwF 0 hts (lw_F q398 q402 q404 q60 q406) rfl rfl rfl (hE.fw hW0) (by decide +kernel) ⟨Nat.le_of_ble_eq_true rfl, Nat.le_of_ble_eq_true rfl⟩) (cc_pV hW0 (cc_re hK (hR.tur (kQ C (q_l1 (fun i => q_rank C (kQ C i)) (kN C 4) k)) ((hR.gQ hl1.1).2)) (show gcl[9]? = _ from rfl))) rfl rfl hl.1 rfl (lv_room (Nat.le_of_ble_eq_true rfl)) dX8_least_55 ⟨Nat.le_of_ble_eq_true rfl, Nat.le_of_ble_eq_true rfl⟩) hL (fun H locs hP1 hL => ?_)
            subst hP1
            refine lv_icmp_ge (tgt := 65) hx hb dX8_least_60 (by decide) (fun c60 => ?_) (fun c60 => ?_)
            · have e2 : q_ls (fun i => q_rank C (kQ C i)) (kN C 4) k = q_l1 (fun i => q_rank C (kQ C i)) (kN C 4) k := by unfold q_ls; rw [if_neg (fun q => absurd q.2 (Int32.not_lt.mpr c60))]
              have hl : lv_has ls 4 [(3, .int (nI (2 * k + 2))), (2, .int (nI (q_ls (fun i => q_rank C (kQ C i)) (kN C 4) k))), (0, .ref (s0.heap.size + 16)), (1, .int (nI k))] := by rw [e2]; exact hl
              refine lv_iinc (v := nI (2 * k + 3)) (lv' := [(3, .int (nI (2 * k + 3))), (2, .int (nI (q_ls (fun i => q_rank C (kQ C i)) (kN C 4) k))), (0, .ref (s0.heap.size + 16)), (1, .int (nI k))]) hx hb dX8_least_65 hl (k := 0) rfl (nI_1 (2 * k + 2)) (by decide) rfl (fun ls hl => ?_)
              refine lv_goto (tgt := 8) hx hb dX8_least_68 (by decide) ?_
              refine lv_iload_n hx hb dX8_least_8 rfl (lv_at hl 0 rfl) ?_
              refine lv_iconst (v := 2) hx hb dX8_least_9 (by decide) ?_
              refine lv_iload_n hx hb dX8_least_10 rfl (lv_at hl 3 rfl) ?_
              refine lv_imul hx hb dX8_least_11 ?_
              refine gx_ti (nI (2 * k)) (pk_mul 2 k) ?_
              refine lv_iconst (v := 2) hx hb dX8_least_12 (by decide) ?_
              refine lv_iadd hx hb dX8_least_13 ?_
              refine gx_ti (nI (2 * k + 2)) (nI_add (2 * k) 2) ?_
              refine lv_icmp_gt (tgt := 71) hx hb dX8_least_14 (by decide) (fun c14 => ?_) (fun c14 => ?_)
              · refine lv_iload_n hx hb dX8_least_71 rfl (lv_at hl 1 rfl) ?_
                exact W.iret (v := (nI (q_ls (fun i => q_rank C (kQ C i)) (kN C 4) k))) hx hb hr (fun t ht hW => ⟨rfl, ht⟩) hL dX8_least_72
              · exact absurd c14 (by intro z; exact z (nI_lt (by omega) (by omega)))
            · have e2 : q_ls (fun i => q_rank C (kQ C i)) (kN C 4) k = 2 * k + 2 := if_pos ⟨hcn, i_nle c60⟩
              refine lv_iload_n hx hb dX8_least_63 rfl (lv_at hl 0 rfl) ?_
              refine lv_istore_n (lv' := [(2, .int (nI (2 * k + 2))), (3, .int (nI (2 * k + 2))), (0, .ref (s0.heap.size + 16)), (1, .int (nI k))]) hx hb dX8_least_64 rfl hl (by decide) rfl (fun ls hl => ?_)
              have hl : lv_has ls 4 [(2, .int (nI (q_ls (fun i => q_rank C (kQ C i)) (kN C 4) k))), (3, .int (nI (2 * k + 2))), (0, .ref (s0.heap.size + 16)), (1, .int (nI k))] := by rw [e2]; exact hl
              refine lv_iinc (v := nI (2 * k + 3)) (lv' := [(3, .int (nI (2 * k + 3))), (2, .int (nI (q_ls (fun i => q_rank C (kQ C i)) (kN C 4) k))), (0, .ref (s0.heap.size + 16)), (1, .int (nI k))]) hx hb dX8_least_65 hl (k := 1) rfl (nI_1 (2 * k + 2)) (by decide) rfl (fun ls hl => ?_)
              refine lv_goto (tgt := 8) hx hb dX8_least_68 (by decide) ?_
              refine lv_iload_n hx hb dX8_least_8 rfl (lv_at hl 0 rfl) ?_
              refine lv_iconst (v := 2) hx hb dX8_least_9 (by decide) ?_
              refine lv_iload_n hx hb dX8_least_10 rfl (lv_at hl 3 rfl) ?_
              refine lv_imul hx hb dX8_least_11 ?_
              refine gx_ti (nI (2 * k)) (pk_mul 2 k) ?_
              refine lv_iconst (v := 2) hx hb dX8_least_12 (by decide) ?_
              refine lv_iadd hx hb dX8_least_13 ?_
              refine gx_ti (nI (2 * k + 2)) (nI_add (2 * k) 2) ?_
              refine lv_icmp_gt (tgt := 71) hx hb dX8_least_14 (by decide) (fun c14 => ?_) (fun c14 => ?_)
              · refine lv_iload_n hx hb dX8_least_71 rfl (lv_at hl 1 rfl) ?_
                exact W.iret (v := (nI (q_ls (fun i => q_rank C (kQ C i)) (kN C 4) k))) hx hb hr (fun t ht hW => ⟨rfl, ht⟩) hL dX8_least_72
              · exact absurd c14 (by intro z; exact z (nI_lt (by omega) (by omega)))
