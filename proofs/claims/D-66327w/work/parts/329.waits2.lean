set_option maxHeartbeats 4000000 in
set_option maxRecDepth 100000 in
/-- Waits.put -/
theorem ct_X8_put {l : Launch} {s0 : State} {D : va_G} {DA : Nat → ClassId} {z0 : Nat} {C : CS} {M : MS} {o : Int64} {H : Heap} (hE : G0 l s0 D DA z0) (hR : RR s0 D DA z0 C M o H) {k : Nat} (hk : k < 12) (h12 : kN C 4 < 12) : Met l yX8_put (ws_ yX8_put cX8_put 3 none) ({ frames := 7, cells := 1, slots := 36, locals := 171 }) (cP s0 [.ref (s0.heap.size + 16), .ref (aT s0.heap.size k)] H) (cQ0 (fun H1 => RR s0 D DA z0 (c_put C k) M o H1)) 1 36 (cF s0) := by
  refine Met.ofW (cc := cX8_put) (maxL := 3) (ret := none) (by decide) rfl ?_
  intro p e s m args below meth c s₁ Bd hml hv
  obtain ⟨rfl, rfl, hW0⟩ := hv
  have hx := Bd.exec
  have hb := Bd.bytes
  have hr := Bd.returns
  have hts := atoms_spec (ws := (ws_ yX8_put cX8_put 3 none)) Bd.pre
  have hts : ∀ w ∈ lw_all, w.before _ s = true := fun w h => hts w (List.mem_cons_of_mem _ h)
  have hown : s.vm.findClass RX8 = some m.cls := findClass_of_methodNamed Bd.named
  have hlocks := Bd.notSynchronized
  have hK := va_K.moved hW0.alike hE.K
  have hL : gx_L s0.heap.size ([] : List Loc) := gx_L0
  obtain ⟨Y, hR⟩ := hR
  have hl := lv_entry ([.ref (s0.heap.size + 16), .ref (aT s0.heap.size k)]) (n := 3) (Nat.le_of_ble_eq_true rfl)
  rw [lg_entry_eq]
  generalize (lg_sl ([.ref (s0.heap.size + 16), .ref (aT s0.heap.size k)]) ++ List.replicate (3 - (lg_sl ([.ref (s0.heap.size + 16), .ref (aT s0.heap.size k)])).length) Slot.unset).toArray = ls at hl ⊢
  have hl : lv_has ls 3 [(0, .ref (s0.heap.size + 16)), (1, .ref (aT s0.heap.size k))] := hl
  have key : ∀ (n : Nat) (Y : YS) (v : Nat) (Q : Nat → Nat) (H : Heap) (locs : List Loc) (ls : Array Slot), v < kN C 4 + 1 → v < n → q_up (q_rank C) n v Q = q_up (q_rank C) (kN C 4 + 1) (kN C 4) (va_up (kQ C) (kN C 4) k) → lv_has ls 3 [(2, .int (nI v)), (0, .ref (s0.heap.size + 16))] → gx_L s0.heap.size locs → GRb s0.heap.size s0.heap D DA z0 Y (cQ C (kN C 4 + 1) Q) M o H → W p l e (headSpec (ws_ yX8_put cX8_put 3 none) ({ frames := 7, cells := 1, slots := 36, locals := 171 })).room s m ([.ref (s0.heap.size + 16), .ref (aT s0.heap.size k)] : List Value).toArray below meth c H locs (0 + 1) (0 + 36) (MQ below (cQ0 (fun H1 => RR s0 D DA z0 (c_put C k) M o H1)) ([.ref (s0.heap.size + 16), .ref (aT s0.heap.size k)] : List Value).toArray s 1 36 (cF s0)) (F0 m 19 ls []) := by
    intro n
    induction n with
    | zero =>
      intro Y v Q H locs ls hv hn hq hl hL hR
      omega
    | succ n ih =>
      intro Y v Q H locs ls hv hn hq hl hL hR
      have hNN : kN (cQ C (kN C 4 + 1) Q) 4 = kN C 4 + 1 := cQ_N _ _ _
      refine lv_iload_n hx hb dX8_put_19 rfl (lv_at hl 0 rfl) ?_
      refine lv_if_le (tgt := 81) hx hb dX8_put_20 (by decide) (fun c20 => ?_) (fun c20 => ?_)
      · have hv0 : ¬ (0 < v ∧ q_rank C (Q v) < q_rank C (Q ((v - 1) / 2))) := by have := n_ge (b := v) (a := 0) c20 (by omega) (by omega); omega
        exact W.vret hx hb hr (fun t ht hW => ⟨rfl, by rw [ht]; exact (RR_C (by unfold c_put; rw [← hq, q_up, if_neg hv0]) ⟨_, hR⟩)⟩) hL dX8_put_81
      · have hv1 : 0 < v := by have := n_lt (b := v) (a := 0) c20 (by omega) (by omega); omega
        have hvn : v < kN (cQ C (kN C 4 + 1) Q) 4 := by omega
        have hpn : ((v - 1) / 2) < kN (cQ C (kN C 4 + 1) Q) 4 := by omega
        refine lv_aload_n hx hb dX8_put_23 rfl (lv_at hl 1 rfl) ?_
        refine gx_get (D := D) (cl := gcl) (ci := 7) (v := .ref (aL s0.heap.size 4)) (C := RX8) (T := TX8) (N := 1) hx hb hts in_X8 hown hK hR.wai rfl 0 (by decide) (hts _ q174) (fun _ h9 => h9) rfl dX8_put_24 ?_
        refine lv_iload_n hx hb dX8_put_27 rfl (lv_at hl 0 rfl) ?_
        refine cc_v (va_runV (b := aL s0.heap.size 4) (As := [.int (nI v)]) (rest := []) ⟨hx, hb, hml, hown, hts⟩ (ct_J2_get (i := v) hE (hR.lob 4 (by omega)) (hR.lda 4 (by omega) (Nat.lt_of_lt_of_le (Nat.lt_of_le_of_lt (Nat.zero_le _) hvn) (hR.lay.1 4 (by omega)).1)) (by have := (hR.lay.1 4 (by omega)).2; omega) hvn (hR.lay.1 4 (by omega)).1 (hR.gQ hvn).1) (cwV 1 hts (lw_V q382 q383 q384 q50 q385) rfl rfl rfl (by decide +kernel) ⟨Nat.le_of_ble_eq_true rfl, Nat.le_of_ble_eq_true rfl⟩) (cc_pV hW0 (cc_re hK (hR.lob 4 (by omega)) (show gcl[1]? = _ from rfl))) rfl rfl hl.1 rfl (lv_room (Nat.le_of_ble_eq_true rfl)) dX8_put_28 ⟨Nat.le_of_ble_eq_true rfl, Nat.le_of_ble_eq_true rfl⟩) hL (fun H locs hP1 hL => ?_)
        subst hP1
        refine gx_castY (ci := 9) hx hb hown (hts _ q396) hK (hR.tur (kQ (cQ C (kN C 4 + 1) Q) v) ((hR.gQ hvn).2)) (show gcl[9]? = _ from rfl) (va_Nw.warmC hW0 (hE.nw rfl q401)) dX8_put_31 ?_
        refine cc5_v (va_runF (b := aT s0.heap.size (kQ (cQ C (kN C 4 + 1) Q) v)) (As := []) (rest := []) (hK.1 9 _ (show gcl[9]? = _ from rfl)).2 ⟨hx, hb, hml, hown, hts⟩ (ct_X10_rank hE hR ((hR.gQ hvn).2)) (va_cwF 0 hts (lw_F q398 q402 q404 q60 q406) rfl rfl rfl (hE.fw hW0) (by decide +kernel) ⟨Nat.le_of_ble_eq_true rfl, Nat.le_of_ble_eq_true rfl⟩) (cc_pV hW0 (cc_re hK (hR.tur (kQ (cQ C (kN C 4 + 1) Q) v) ((hR.gQ hvn).2)) (show gcl[9]? = _ from rfl))) rfl rfl hl.1 rfl (lv_room (Nat.le_of_ble_eq_true rfl)) dX8_put_34 ⟨Nat.le_of_ble_eq_true rfl, Nat.le_of_ble_eq_true rfl⟩) hL (fun H locs hP1 hL => ?_)
        subst hP1
        refine gx_ti (q_rank C (Q v)) (rfl) ?_
        refine lv_aload_n hx hb dX8_put_39 rfl (lv_at hl 1 rfl) ?_
        refine gx_get (D := D) (cl := gcl) (ci := 7) (v := .ref (aL s0.heap.size 4)) (C := RX8) (T := TX8) (N := 1) hx hb hts in_X8 hown hK hR.wai rfl 0 (by decide) (hts _ q174) (fun _ h9 => h9) rfl dX8_put_40 ?_
        refine lv_iload_n hx hb dX8_put_43 rfl (lv_at hl 0 rfl) ?_
        refine lv_iconst (v := 1) hx hb dX8_put_44 (by decide) ?_
        refine lv_isub hx hb dX8_put_45 ?_
        refine gx_ti (nI (v - 1)) (pk_sub (b := 1) (by omega)) ?_
        refine lv_iconst (v := 2) hx hb dX8_put_46 (by decide) ?_
        refine lv_idiv hx hb dX8_put_47 (by decide) ?_
        refine gx_ti (nI ((v - 1) / 2)) (pk_div (d := 2) (by omega) (by omega) (by omega)) ?_
        refine cc_v (va_runV (b := aL s0.heap.size 4) (As := [.int (nI ((v - 1) / 2))]) (rest := [.int (q_rank C (Q v))]) ⟨hx, hb, hml, hown, hts⟩ (ct_J2_get (i := ((v - 1) / 2)) hE (hR.lob 4 (by omega)) (hR.lda 4 (by omega) (Nat.lt_of_lt_of_le (Nat.lt_of_le_of_lt (Nat.zero_le _) hpn) (hR.lay.1 4 (by omega)).1)) (by have := (hR.lay.1 4 (by omega)).2; omega) hpn (hR.lay.1 4 (by omega)).1 (hR.gQ hpn).1) (cwV 1 hts (lw_V q382 q383 q384 q50 q385) rfl rfl rfl (by decide +kernel) ⟨Nat.le_of_ble_eq_true rfl, Nat.le_of_ble_eq_true rfl⟩) (cc_pV hW0 (cc_re hK (hR.lob 4 (by omega)) (show gcl[1]? = _ from rfl))) rfl rfl hl.1 rfl (lv_room (Nat.le_of_ble_eq_true rfl)) dX8_put_48 ⟨Nat.le_of_ble_eq_true rfl, Nat.le_of_ble_eq_true rfl⟩) hL (fun H locs hP1 hL => ?_)
        subst hP1
        refine gx_castY (ci := 9) hx hb hown (hts _ q396) hK (hR.tur (kQ (cQ C (kN C 4 + 1) Q) ((v - 1) / 2)) ((hR.gQ hpn).2)) (show gcl[9]? = _ from rfl) (va_Nw.warmC hW0 (hE.nw rfl q401)) dX8_put_51 ?_
        refine cc5_v (va_runF (b := aT s0.heap.size (kQ (cQ C (kN C 4 + 1) Q) ((v - 1) / 2))) (As := []) (rest := [.int (q_rank C (Q v))]) (hK.1 9 _ (show gcl[9]? = _ from rfl)).2 ⟨hx, hb, hml, hown, hts⟩ (ct_X10_rank hE hR ((hR.gQ hpn).2)) (va_cwF 0 hts (lw_F q398 q402 q404 q60 q406) rfl rfl rfl (hE.fw hW0) (by decide +kernel) ⟨Nat.le_of_ble_eq_true rfl, Nat.le_of_ble_eq_true rfl⟩) (cc_pV hW0 (cc_re hK (hR.tur (kQ (cQ C (kN C 4 + 1) Q) ((v - 1) / 2)) ((hR.gQ hpn).2)) (show gcl[9]? = _ from rfl))) rfl rfl hl.1 rfl (lv_room (Nat.le_of_ble_eq_true rfl)) dX8_put_54 ⟨Nat.le_of_ble_eq_true rfl, Nat.le_of_ble_eq_true rfl⟩) hL (fun H locs hP1 hL => ?_)
        subst hP1
        refine gx_ti (q_rank C (Q ((v - 1) / 2))) (rfl) ?_
        refine lv_icmp_ge (tgt := 81) hx hb dX8_put_59 (by decide) (fun c59 => ?_) (fun c59 => ?_)
        · have hv0 : ¬ (0 < v ∧ q_rank C (Q v) < q_rank C (Q ((v - 1) / 2))) := fun q => absurd q.2 (Int32.not_lt.mpr c59)
          exact W.vret hx hb hr (fun t ht hW => ⟨rfl, by rw [ht]; exact (RR_C (by unfold c_put; rw [← hq, q_up, if_neg hv0]) ⟨_, hR⟩)⟩) hL dX8_put_81
        · have hv2 : 0 < v ∧ q_rank C (Q v) < q_rank C (Q ((v - 1) / 2)) := ⟨hv1, i_nle c59⟩
          refine lv_aload_n hx hb dX8_put_62 rfl (lv_at hl 1 rfl) ?_
          refine lv_iload_n hx hb dX8_put_63 rfl (lv_at hl 0 rfl) ?_
          refine lv_iload_n hx hb dX8_put_64 rfl (lv_at hl 0 rfl) ?_
          refine lv_iconst (v := 1) hx hb dX8_put_65 (by decide) ?_
          refine lv_isub hx hb dX8_put_66 ?_
          refine gx_ti (nI (v - 1)) (pk_sub (b := 1) (by omega)) ?_
          refine lv_iconst (v := 2) hx hb dX8_put_67 (by decide) ?_
          refine lv_idiv hx hb dX8_put_68 (by decide) ?_
          refine gx_ti (nI ((v - 1) / 2)) (pk_div (d := 2) (by omega) (by omega) (by omega)) ?_
          refine cc_0 (va_runV (b := s0.heap.size + 16) (As := [.int (nI v), .int (nI ((v - 1) / 2))]) (rest := []) ⟨hx, hb, hml, hown, hts⟩ (ct_X8_swap (a := v) (b := ((v - 1) / 2)) hE ⟨_, hR⟩ hvn hpn) (cwV 2 hts (lw_V q407 q409 qs4 q57 q410) rfl rfl rfl (by decide +kernel) ⟨Nat.le_of_ble_eq_true rfl, Nat.le_of_ble_eq_true rfl⟩) (cc_pV hW0 (cc_re hK hR.wai (show gcl[7]? = _ from rfl))) rfl rfl hl.1 rfl (lv_room (Nat.le_of_ble_eq_true rfl)) dX8_put_69 ⟨Nat.le_of_ble_eq_true rfl, Nat.le_of_ble_eq_true rfl⟩) hL (fun H locs hP1 hL => ?_)
          obtain ⟨Y, hR⟩ := hP1
          have hR := GR_C (C := (cQ (cQ C (kN C 4 + 1) Q) (kN (cQ C (kN C 4 + 1) Q) 4) (qsw (kQ (cQ C (kN C 4 + 1) Q)) v ((v - 1) / 2)))) (C' := cQ C (kN C 4 + 1) (qsw Q v ((v - 1) / 2))) (by rw [cQ_cQ, hNN]; rfl) hR
          refine lv_iload_n hx hb dX8_put_72 rfl (lv_at hl 0 rfl) ?_
          refine lv_iconst (v := 1) hx hb dX8_put_73 (by decide) ?_
          refine lv_isub hx hb dX8_put_74 ?_
          refine gx_ti (nI (v - 1)) (pk_sub (b := 1) (by omega)) ?_
          refine lv_iconst (v := 2) hx hb dX8_put_75 (by decide) ?_
          refine lv_idiv hx hb dX8_put_76 (by decide) ?_
          refine gx_ti (nI ((v - 1) / 2)) (pk_div (d := 2) (by omega) (by omega) (by omega)) ?_
          refine lv_istore_n (lv' := [(2, .int (nI ((v - 1) / 2))), (0, .ref (s0.heap.size + 16))]) hx hb dX8_put_77 rfl hl (by decide) rfl (fun ls hl => ?_)
          refine lv_goto (tgt := 19) hx hb dX8_put_78 (by decide) ?_
          exact ih Y ((v - 1) / 2) (qsw Q v ((v - 1) / 2)) _ _ _ (by omega) (by omega) (by rw [← hq, q_up, if_pos hv2]) (lv_sub hl [0, 1] rfl) hL hR
  have h36 := hR.lay.1 4 (by omega)
  refine lv_aload_n hx hb dX8_put_0 rfl (lv_at hl 0 rfl) ?_
  refine gx_get (D := D) (cl := gcl) (ci := 7) (v := .ref (aL s0.heap.size 4)) (C := RX8) (T := TX8) (N := 1) hx hb hts in_X8 hown hK hR.wai rfl 0 (by decide) (hts _ q174) (fun _ h9 => h9) rfl dX8_put_1 ?_
  refine lv_aload_n hx hb dX8_put_4 rfl (lv_at hl 1 rfl) ?_
  refine cc_v (va_runV (b := aL s0.heap.size 4) (As := [.ref (aT s0.heap.size k)]) (rest := []) ⟨hx, hb, hml, hown, hts⟩ (ct_J2_add (v := (aT s0.heap.size k)) hE (hR.lob 4 (by omega)) (fun h => hR.lda 4 (by omega) h) hR.old (by have := hR.sz; omega) (aL_in _ (by omega)).1 (hR.lay.1 4 (by omega)).1 (by omega) (hR.lay.1 4 (by omega)).2 (yD_z hR.lay (by omega)) (aL_ne_yD hR.lay (by omega)) (fun h => by have := (yD_far hR.lay (by omega) h).1; omega) (fun h i hi y hy => hR.elQ (by omega) hy) (⟨9, _, _, hR.tur k hk, rfl, q1156, by simp only [aT, aL]; omega⟩)) (cwV 1 hts (lw_V q315 q316 q317 q50 q318) rfl rfl rfl (by decide +kernel) ⟨Nat.le_of_ble_eq_true rfl, Nat.le_of_ble_eq_true rfl⟩) (cc_pV hW0 (cc_re hK (hR.lob 4 (by omega)) (show gcl[1]? = _ from rfl))) rfl rfl hl.1 rfl (lv_room (Nat.le_of_ble_eq_true rfl)) dX8_put_5 ⟨Nat.le_of_ble_eq_true rfl, Nat.le_of_ble_eq_true rfl⟩) hL (fun H locs hP1 hL => ?_)
  obtain ⟨Y, hR⟩ := hR.addQ hk h12 hP1
  refine lv_pop hx hb dX8_put_8 rfl ?_
  refine lv_aload_n hx hb dX8_put_9 rfl (lv_at hl 0 rfl) ?_
  refine gx_get (D := D) (cl := gcl) (ci := 7) (v := .ref (aL s0.heap.size 4)) (C := RX8) (T := TX8) (N := 1) hx hb hts in_X8 hown hK hR.wai rfl 0 (by decide) (hts _ q174) (fun _ h9 => h9) rfl dX8_put_10 ?_
  refine cc_v (va_runV (b := aL s0.heap.size 4) (As := []) (rest := []) ⟨hx, hb, hml, hown, hts⟩ (ct_J2_size hE (hR.lob 4 (by omega))) (cwV 0 hts (lw_V q378 q379 q380 q50 q381) rfl rfl rfl (by decide +kernel) ⟨Nat.le_of_ble_eq_true rfl, Nat.le_of_ble_eq_true rfl⟩) (cc_pV hW0 (cc_re hK (hR.lob 4 (by omega)) (show gcl[1]? = _ from rfl))) rfl rfl hl.1 rfl (lv_room (Nat.le_of_ble_eq_true rfl)) dX8_put_13 ⟨Nat.le_of_ble_eq_true rfl, Nat.le_of_ble_eq_true rfl⟩) hL (fun H locs hP1 hL => ?_)
  subst hP1
  refine lv_iconst (v := 1) hx hb dX8_put_16 (by decide) ?_
  refine lv_isub hx hb dX8_put_17 ?_
  refine gx_ti (nI (kN C 4)) (by rw [show kN (cQ C (kN C 4 + 1) (va_up (kQ C) (kN C 4) k)) 4 = kN C 4 + 1 from cQ_N _ _ _]; exact nI_pred _) ?_
  refine lv_istore_n (lv' := [(2, .int (nI (kN C 4))), (0, .ref (s0.heap.size + 16)), (1, .ref (aT s0.heap.size k))]) hx hb dX8_put_18 rfl hl (by decide) rfl (fun ls hl => ?_)
  exact key (kN C 4 + 1) Y (kN C 4) _ _ _ _ (by omega) (by omega) rfl (lv_sub hl [0, 1] rfl) hL hR
set_option maxHeartbeats 4000000 in
set_option maxRecDepth 100000 in
/-- Waits.take -/
theorem ct_X8_take {l : Launch} {s0 : State} {D : va_G} {DA : Nat → ClassId} {z0 : Nat} {C : CS} {M : MS} {o : Int64} {H : Heap} (hE : G0 l s0 D DA z0) (hR : RR s0 D DA z0 C M o H) (h0 : 0 < kN C 4) : Met l yX8_take (ws_ yX8_take cX8_take 5 (some (.object "NettedPlans$Ranked"))) ({ frames := 4, cells := 0, slots := 0, locals := 89 }) (cP s0 [.ref (s0.heap.size + 16)] H) (cQv (.ref (aT s0.heap.size (kQ C 0))) (fun H1 => RR s0 D DA z0 (c_tk C) M o H1)) 0 0 (cF s0) := by
  refine Met.ofW (cc := cX8_take) (maxL := 5) (ret := (some (.object "NettedPlans$Ranked"))) (by decide) rfl ?_
  intro p e s m args below meth c s₁ Bd hml hv
  obtain ⟨rfl, rfl, hW0⟩ := hv
  have hx := Bd.exec
  have hb := Bd.bytes
  have hr := Bd.returns
  have hts := atoms_spec (ws := (ws_ yX8_take cX8_take 5 (some (.object "NettedPlans$Ranked")))) Bd.pre
  have hts : ∀ w ∈ lw_all, w.before _ s = true := fun w h => hts w (List.mem_cons_of_mem _ h)
  have hown : s.vm.findClass RX8 = some m.cls := findClass_of_methodNamed Bd.named
  have hlocks := Bd.notSynchronized
  have hK := va_K.moved hW0.alike hE.K
  have hL : gx_L s0.heap.size ([] : List Loc) := gx_L0
  obtain ⟨Y, hR⟩ := hR
  have hl := lv_entry ([.ref (s0.heap.size + 16)]) (n := 5) (Nat.le_of_ble_eq_true rfl)
  rw [lg_entry_eq]
  generalize (lg_sl ([.ref (s0.heap.size + 16)]) ++ List.replicate (5 - (lg_sl ([.ref (s0.heap.size + 16)])).length) Slot.unset).toArray = ls at hl ⊢
  have hl : lv_has ls 5 [(0, .ref (s0.heap.size + 16))] := hl
  have h36 := hR.lay.1 4 (by omega)
  have h12 := hR.lay.2.2.2.2.2.2.1.2.2.2.2
  have hq0 := (hR.gQ h0).2
  have hl0 : kN C 4 - 1 < kN C 4 := by omega
  have hql := (hR.gQ hl0).2
  refine lv_aload_n hx hb dX8_take_0 rfl (lv_at hl 0 rfl) ?_
  refine gx_get (D := D) (cl := gcl) (ci := 7) (v := .ref (aL s0.heap.size 4)) (C := RX8) (T := TX8) (N := 1) hx hb hts in_X8 hown hK hR.wai rfl 0 (by decide) (hts _ q174) (fun _ h9 => h9) rfl dX8_take_1 ?_
  refine lv_iconst (v := 0) hx hb dX8_take_4 (by decide) ?_
  refine gx_ti (nI 0) (by decide) ?_
  refine cc_v (va_runV (b := aL s0.heap.size 4) (As := [.int (nI 0)]) (rest := []) ⟨hx, hb, hml, hown, hts⟩ (ct_J2_get (i := 0) hE (hR.lob 4 (by omega)) (hR.lda 4 (by omega) (Nat.lt_of_lt_of_le (Nat.lt_of_le_of_lt (Nat.zero_le _) h0) (hR.lay.1 4 (by omega)).1)) (by have := (hR.lay.1 4 (by omega)).2; omega) h0 (hR.lay.1 4 (by omega)).1 (hR.gQ h0).1) (cwV 1 hts (lw_V q382 q383 q384 q50 q385) rfl rfl rfl (by decide +kernel) ⟨Nat.le_of_ble_eq_true rfl, Nat.le_of_ble_eq_true rfl⟩) (cc_pV hW0 (cc_re hK (hR.lob 4 (by omega)) (show gcl[1]? = _ from rfl))) rfl rfl hl.1 rfl (lv_room (Nat.le_of_ble_eq_true rfl)) dX8_take_5 ⟨Nat.le_of_ble_eq_true rfl, Nat.le_of_ble_eq_true rfl⟩) hL (fun H locs hP1 hL => ?_)
  subst hP1
  refine gx_castY (ci := 9) hx hb hown (hts _ q396) hK (hR.tur (kQ C 0) hq0) (show gcl[9]? = _ from rfl) (va_Nw.warmC hW0 (hE.nw rfl q401)) dX8_take_8 ?_
  refine lv_astore_n (lv' := [(1, .ref (aT s0.heap.size (kQ C 0))), (0, .ref (s0.heap.size + 16))]) hx hb dX8_take_11 rfl hl (by decide) rfl (fun ls hl => ?_)
  refine lv_aload_n hx hb dX8_take_12 rfl (lv_at hl 1 rfl) ?_
  refine gx_get (D := D) (cl := gcl) (ci := 7) (v := .ref (aL s0.heap.size 4)) (C := RX8) (T := TX8) (N := 1) hx hb hts in_X8 hown hK hR.wai rfl 0 (by decide) (hts _ q174) (fun _ h9 => h9) rfl dX8_take_13 ?_
  refine lv_aload_n hx hb dX8_take_16 rfl (lv_at hl 1 rfl) ?_
  refine gx_get (D := D) (cl := gcl) (ci := 7) (v := .ref (aL s0.heap.size 4)) (C := RX8) (T := TX8) (N := 1) hx hb hts in_X8 hown hK hR.wai rfl 0 (by decide) (hts _ q174) (fun _ h9 => h9) rfl dX8_take_17 ?_
  refine cc_v (va_runV (b := aL s0.heap.size 4) (As := []) (rest := [.ref (aL s0.heap.size 4)]) ⟨hx, hb, hml, hown, hts⟩ (ct_J2_size hE (hR.lob 4 (by omega))) (cwV 0 hts (lw_V q378 q379 q380 q50 q381) rfl rfl rfl (by decide +kernel) ⟨Nat.le_of_ble_eq_true rfl, Nat.le_of_ble_eq_true rfl⟩) (cc_pV hW0 (cc_re hK (hR.lob 4 (by omega)) (show gcl[1]? = _ from rfl))) rfl rfl hl.1 rfl (lv_room (Nat.le_of_ble_eq_true rfl)) dX8_take_20 ⟨Nat.le_of_ble_eq_true rfl, Nat.le_of_ble_eq_true rfl⟩) hL (fun H locs hP1 hL => ?_)
  subst hP1
  refine lv_iconst (v := 1) hx hb dX8_take_23 (by decide) ?_
  refine lv_isub hx hb dX8_take_24 ?_
  refine gx_ti (nI (kN C 4 - 1)) (pk_sub (b := 1) (by omega)) ?_
  refine cc_v (va_runV (b := aL s0.heap.size 4) (As := [.int (nI (kN C 4 - 1))]) (rest := []) ⟨hx, hb, hml, hown, hts⟩ (ct_J2_remove (i := kN C 4 - 1) hE (hR.lob 4 (by omega)) (hR.lda 4 (by omega) (by omega)) (aL_in _ (by omega)).1 (by have := (yD_far hR.lay (j := 4) (by omega) (by omega)).1; omega) h36.1 h36.2 (aL_ne_yD hR.lay (by omega)) (fun i hi y hy => hR.elQ hi hy) hl0 (hR.gQ hl0).1) (cwV 1 hts (lw_V q427 q428 q429 q50 q430) rfl rfl rfl (by decide +kernel) ⟨Nat.le_of_ble_eq_true rfl, Nat.le_of_ble_eq_true rfl⟩) (cc_pV hW0 (cc_re hK (hR.lob 4 (by omega)) (show gcl[1]? = _ from rfl))) rfl rfl hl.1 rfl (lv_room (Nat.le_of_ble_eq_true rfl)) dX8_take_25 ⟨Nat.le_of_ble_eq_true rfl, Nat.le_of_ble_eq_true rfl⟩) hL (fun H locs hP1 hL => ?_)
  obtain ⟨Y, hR⟩ := hR.remQ h0 hP1
  have hN1 : kN (cQ C (kN C 4 - 1) (kQ C)) 4 = (kN C 4 - 1) := cQ_N _ _ _
  refine gx_castY (ci := 9) hx hb hown (hts _ q396) hK (hR.tur (kQ C (kN C 4 - 1)) hql) (show gcl[9]? = _ from rfl) (va_Nw.warmC hW0 (hE.nw rfl q401)) dX8_take_28 ?_
  refine lv_astore_n (lv' := [(2, .ref (aT s0.heap.size (kQ C (kN C 4 - 1)))), (1, .ref (aT s0.heap.size (kQ C 0))), (0, .ref (s0.heap.size + 16))]) hx hb dX8_take_31 rfl hl (by decide) rfl (fun ls hl => ?_)
  refine lv_aload_n hx hb dX8_take_32 rfl (lv_at hl 2 rfl) ?_
  refine gx_get (D := D) (cl := gcl) (ci := 7) (v := .ref (aL s0.heap.size 4)) (C := RX8) (T := TX8) (N := 1) hx hb hts in_X8 hown hK hR.wai rfl 0 (by decide) (hts _ q174) (fun _ h9 => h9) rfl dX8_take_33 ?_
  refine cc_v (va_runV (b := aL s0.heap.size 4) (As := []) (rest := []) ⟨hx, hb, hml, hown, hts⟩ (ct_J2_isEmpty hE (hR.lob 4 (by omega)) (by omega)) (cwV 0 hts (lw_V q419 q420 q421 q50 q422) rfl rfl rfl (by decide +kernel) ⟨Nat.le_of_ble_eq_true rfl, Nat.le_of_ble_eq_true rfl⟩) (cc_pV hW0 (cc_re hK (hR.lob 4 (by omega)) (show gcl[1]? = _ from rfl))) rfl rfl hl.1 rfl (lv_room (Nat.le_of_ble_eq_true rfl)) dX8_take_36 ⟨Nat.le_of_ble_eq_true rfl, Nat.le_of_ble_eq_true rfl⟩) hL (fun H locs hP1 hL => ?_)
  subst hP1
  refine lv_if_eq (tgt := 44) hx hb dX8_take_39 (by decide) (fun c39 => ?_) (fun c39 => ?_)
  · have h1 : ¬ kN C 4 = 1 := by have h8 := of_decide_eq_false (bZ_0.mp c39); rw [hN1] at h8; omega
    have key : ∀ (n : Nat) (Y : YS) (v : Nat) (Q : Nat → Nat) (H : Heap) (locs : List Loc) (ls : Array Slot), v < (kN C 4 - 1) → (kN C 4 - 1) ≤ v + n → q_dn (q_rank C) (kN C 4 - 1) n v Q = q_dn (q_rank C) (kN C 4 - 1) (kN C 4 - 1) 0 (va_up (kQ C) 0 (kQ C (kN C 4 - 1))) → lv_has ls 5 [(4, .int (nI (q_ls (fun i => q_rank C (Q i)) (kN C 4 - 1) v))), (3, .int (nI v)), (0, .ref (s0.heap.size + 16)), (1, .ref (aT s0.heap.size (kQ C 0)))] → gx_L s0.heap.size locs → GRb s0.heap.size s0.heap D DA z0 Y (cQ C (kN C 4 - 1) Q) M o H → W p l e (headSpec (ws_ yX8_take cX8_take 5 (some (.object "NettedPlans$Ranked"))) ({ frames := 4, cells := 0, slots := 0, locals := 89 })).room s m ([.ref (s0.heap.size + 16)] : List Value).toArray below meth c H locs 0 0 (MQ below (cQv (.ref (aT s0.heap.size (kQ C 0))) (fun H1 => RR s0 D DA z0 (c_tk C) M o H1)) ([.ref (s0.heap.size + 16)] : List Value).toArray s 0 0 (cF s0)) (F0 m 63 ls []) := by
      intro n
      induction n with
      | zero =>
        intro Y v Q H locs ls hv hn hq hl hL hR
        omega
      | succ n ih =>
        intro Y v Q H locs ls hv hn hq hl hL hR
        have hNN : kN (cQ C (kN C 4 - 1) Q) 4 = (kN C 4 - 1) := cQ_N _ _ _
        have hb9 := q_ls_b (fun i => q_rank C (Q i)) hv
        refine lv_iload hx hb dX8_take_63 (lv_at hl 0 rfl) ?_
        refine lv_iload_n hx hb dX8_take_65 rfl (lv_at hl 1 rfl) ?_
        refine lv_icmp_eq (tgt := 89) hx hb dX8_take_66 (by decide) (fun c66 => ?_) (fun c66 => ?_)
        · have hle : (q_ls (fun i => q_rank C (Q i)) (kN C 4 - 1) v) = v := (nI_eq (by omega) (by omega)).mp c66
          refine lv_aload_n hx hb dX8_take_89 rfl (lv_at hl 3 rfl) ?_
          exact W.aret hx hb hr (Or.inl ⟨_, rfl⟩) (Or.inr ⟨_, rfl⟩) (fun t ht hW => ⟨rfl, by rw [ht]; exact (RR_C (by unfold c_tk; rw [if_neg h1, ← hq, q_dn, if_pos hle]) ⟨_, hR⟩)⟩) hL dX8_take_90
        · have hle : ¬ (q_ls (fun i => q_rank C (Q i)) (kN C 4 - 1) v) = v := fun q => c66 (by rw [q])
          refine lv_aload_n hx hb dX8_take_69 rfl (lv_at hl 2 rfl) ?_
          refine lv_iload_n hx hb dX8_take_70 rfl (lv_at hl 1 rfl) ?_
          refine lv_iload hx hb dX8_take_71 (lv_at hl 0 rfl) ?_
          refine cc_0 (va_runV (b := s0.heap.size + 16) (As := [.int (nI v), .int (nI (q_ls (fun i => q_rank C (Q i)) (kN C 4 - 1) v))]) (rest := []) ⟨hx, hb, hml, hown, hts⟩ (ct_X8_swap (a := v) (b := (q_ls (fun i => q_rank C (Q i)) (kN C 4 - 1) v)) hE ⟨_, hR⟩ (by omega) (by omega)) (cwV 2 hts (lw_V q407 q409 qs4 q57 q410) rfl rfl rfl (by decide +kernel) ⟨Nat.le_of_ble_eq_true rfl, Nat.le_of_ble_eq_true rfl⟩) (cc_pV hW0 (cc_re hK hR.wai (show gcl[7]? = _ from rfl))) rfl rfl hl.1 rfl (lv_room (Nat.le_of_ble_eq_true rfl)) dX8_take_73 ⟨Nat.le_of_ble_eq_true rfl, Nat.le_of_ble_eq_true rfl⟩) hL (fun H locs hP1 hL => ?_)
          obtain ⟨Y, hR⟩ := hP1
          have hR := GR_C (C := (cQ (cQ C (kN C 4 - 1) Q) (kN (cQ C (kN C 4 - 1) Q) 4) (qsw (kQ (cQ C (kN C 4 - 1) Q)) v (q_ls (fun i => q_rank C (Q i)) (kN C 4 - 1) v)))) (C' := cQ C (kN C 4 - 1) (qsw Q v (q_ls (fun i => q_rank C (Q i)) (kN C 4 - 1) v))) (by rw [cQ_cQ, hNN]; rfl) hR
          have hN2 : kN (cQ C (kN C 4 - 1) (qsw Q v (q_ls (fun i => q_rank C (Q i)) (kN C 4 - 1) v))) 4 = (kN C 4 - 1) := cQ_N _ _ _
          refine lv_iload hx hb dX8_take_76 (lv_at hl 0 rfl) ?_
          refine lv_istore_n (lv' := [(3, .int (nI (q_ls (fun i => q_rank C (Q i)) (kN C 4 - 1) v))), (4, .int (nI (q_ls (fun i => q_rank C (Q i)) (kN C 4 - 1) v))), (0, .ref (s0.heap.size + 16)), (1, .ref (aT s0.heap.size (kQ C 0)))]) hx hb dX8_take_78 rfl hl (by decide) rfl (fun ls hl => ?_)
          refine lv_aload_n hx hb dX8_take_79 rfl (lv_at hl 2 rfl) ?_
          refine lv_iload_n hx hb dX8_take_80 rfl (lv_at hl 0 rfl) ?_
          refine cc_v (va_runV (b := s0.heap.size + 16) (As := [.int (nI (q_ls (fun i => q_rank C (Q i)) (kN C 4 - 1) v))]) (rest := []) ⟨hx, hb, hml, hown, hts⟩ (ct_X8_least (k := (q_ls (fun i => q_rank C (Q i)) (kN C 4 - 1) v)) hE hR (by omega)) (cwV 1 hts (lw_V q436 q438 qs6 q57 q439) rfl rfl rfl (by decide +kernel) ⟨Nat.le_of_ble_eq_true rfl, Nat.le_of_ble_eq_true rfl⟩) (cc_pV hW0 (cc_re hK hR.wai (show gcl[7]? = _ from rfl))) rfl rfl hl.1 rfl (lv_room (Nat.le_of_ble_eq_true rfl)) dX8_take_81 ⟨Nat.le_of_ble_eq_true rfl, Nat.le_of_ble_eq_true rfl⟩) hL (fun H locs hP1 hL => ?_)
          subst hP1
          refine gx_ti (nI (q_ls (fun i => q_rank C ((qsw Q v (q_ls (fun i => q_rank C (Q i)) (kN C 4 - 1) v)) i)) (kN C 4 - 1) (q_ls (fun i => q_rank C (Q i)) (kN C 4 - 1) v))) (by rw [hN2]; rfl) ?_
          refine lv_istore (lv' := [(4, .int (nI (q_ls (fun i => q_rank C ((qsw Q v (q_ls (fun i => q_rank C (Q i)) (kN C 4 - 1) v)) i)) (kN C 4 - 1) (q_ls (fun i => q_rank C (Q i)) (kN C 4 - 1) v)))), (3, .int (nI (q_ls (fun i => q_rank C (Q i)) (kN C 4 - 1) v))), (0, .ref (s0.heap.size + 16)), (1, .ref (aT s0.heap.size (kQ C 0)))]) hx hb dX8_take_84 hl (by decide) rfl (fun ls hl => ?_)
          refine lv_goto (tgt := 63) hx hb dX8_take_86 (by decide) ?_
          exact ih Y (q_ls (fun i => q_rank C (Q i)) (kN C 4 - 1) v) (qsw Q v (q_ls (fun i => q_rank C (Q i)) (kN C 4 - 1) v)) _ _ _ (by omega) (by omega) (by rw [← hq, q_dn, if_neg hle]) (lv_sub hl [0, 1, 2, 3] rfl) hL hR
    have h0m : 0 < kN (cQ C (kN C 4 - 1) (kQ C)) 4 := by omega
    refine lv_aload_n hx hb dX8_take_44 rfl (lv_at hl 2 rfl) ?_
    refine gx_get (D := D) (cl := gcl) (ci := 7) (v := .ref (aL s0.heap.size 4)) (C := RX8) (T := TX8) (N := 1) hx hb hts in_X8 hown hK hR.wai rfl 0 (by decide) (hts _ q174) (fun _ h9 => h9) rfl dX8_take_45 ?_
    refine lv_iconst (v := 0) hx hb dX8_take_48 (by decide) ?_
    refine lv_aload_n hx hb dX8_take_49 rfl (lv_at hl 0 rfl) ?_
    refine cc_v (va_runV (b := aL s0.heap.size 4) (As := [.int 0, .ref (aT s0.heap.size (kQ C (kN C 4 - 1)))]) (rest := []) ⟨hx, hb, hml, hown, hts⟩ (ct_J2_set (i := 0) (v := aT s0.heap.size (kQ C (kN C 4 - 1))) hE (hR.lob 4 (by omega)) (hR.lda 4 (by omega) (Nat.lt_of_lt_of_le (Nat.lt_of_le_of_lt (Nat.zero_le _) h0m) (hR.lay.1 4 (by omega)).1)) (by have := (hR.lay.1 4 (by omega)).2; omega) h0m (hR.lay.1 4 (by omega)).1 (hR.gQ h0m).1 (hR.tur _ hql) rfl q1156 (by have := (yD_far hR.lay (j := 4) (by omega) (by have h8 := h0m; have := (hR.lay.1 4 (by omega)).1; omega)).1; omega)) (cwV 2 hts (lw_V q411 q412 q413 q50 q414) rfl rfl rfl (by decide +kernel) ⟨Nat.le_of_ble_eq_true rfl, Nat.le_of_ble_eq_true rfl⟩) (cc_pV hW0 (cc_re hK (hR.lob 4 (by omega)) (show gcl[1]? = _ from rfl))) rfl rfl hl.1 rfl (lv_room (Nat.le_of_ble_eq_true rfl)) dX8_take_50 ⟨Nat.le_of_ble_eq_true rfl, Nat.le_of_ble_eq_true rfl⟩) hL (fun H locs hP1 hL => ?_)
    obtain ⟨hU9, hA9⟩ := hP1
    obtain ⟨Y, hR⟩ := hR.setQ h0m hql hU9 hA9
    have hR := GR_C (C := (cQ (cQ C (kN C 4 - 1) (kQ C)) (kN (cQ C (kN C 4 - 1) (kQ C)) 4) (va_up (kQ (cQ C (kN C 4 - 1) (kQ C))) 0 (kQ C (kN C 4 - 1))))) (C' := cQ C (kN C 4 - 1) (va_up (kQ C) 0 (kQ C (kN C 4 - 1)))) (by rw [cQ_cQ, hN1]; rfl) hR
    have hN2 : kN (cQ C (kN C 4 - 1) (va_up (kQ C) 0 (kQ C (kN C 4 - 1)))) 4 = (kN C 4 - 1) := cQ_N _ _ _
    have h0n : 0 < kN (cQ C (kN C 4 - 1) (va_up (kQ C) 0 (kQ C (kN C 4 - 1)))) 4 := by omega
    refine lv_pop hx hb dX8_take_53 rfl ?_
    refine lv_iconst (v := 0) hx hb dX8_take_54 (by decide) ?_
    refine gx_ti (nI 0) (by decide) ?_
    refine lv_istore_n (lv' := [(3, .int (nI 0)), (2, .ref (aT s0.heap.size (kQ C (kN C 4 - 1)))), (1, .ref (aT s0.heap.size (kQ C 0))), (0, .ref (s0.heap.size + 16))]) hx hb dX8_take_55 rfl hl (by decide) rfl (fun ls hl => ?_)
    refine lv_aload_n hx hb dX8_take_56 rfl (lv_at hl 3 rfl) ?_
    refine lv_iload_n hx hb dX8_take_57 rfl (lv_at hl 0 rfl) ?_
    refine cc_v (va_runV (b := s0.heap.size + 16) (As := [.int (nI 0)]) (rest := []) ⟨hx, hb, hml, hown, hts⟩ (ct_X8_least (k := 0) hE hR h0n) (cwV 1 hts (lw_V q436 q438 qs6 q57 q439) rfl rfl rfl (by decide +kernel) ⟨Nat.le_of_ble_eq_true rfl, Nat.le_of_ble_eq_true rfl⟩) (cc_pV hW0 (cc_re hK hR.wai (show gcl[7]? = _ from rfl))) rfl rfl hl.1 rfl (lv_room (Nat.le_of_ble_eq_true rfl)) dX8_take_58 ⟨Nat.le_of_ble_eq_true rfl, Nat.le_of_ble_eq_true rfl⟩) hL (fun H locs hP1 hL => ?_)
    subst hP1
    refine gx_ti (nI (q_ls (fun i => q_rank C ((va_up (kQ C) 0 (kQ C (kN C 4 - 1))) i)) (kN C 4 - 1) 0)) (by rw [hN2]; rfl) ?_
    refine lv_istore (lv' := [(4, .int (nI (q_ls (fun i => q_rank C ((va_up (kQ C) 0 (kQ C (kN C 4 - 1))) i)) (kN C 4 - 1) 0))), (3, .int (nI 0)), (2, .ref (aT s0.heap.size (kQ C (kN C 4 - 1)))), (1, .ref (aT s0.heap.size (kQ C 0))), (0, .ref (s0.heap.size + 16))]) hx hb dX8_take_61 hl (by decide) rfl (fun ls hl => ?_)
    exact key (kN C 4 - 1) Y 0 _ _ _ _ (by omega) (by omega) rfl (lv_sub hl [0, 1, 4, 3] rfl) hL hR
  · have h1 : kN C 4 = 1 := by have h8 := of_decide_eq_true (bZ_1.mp c39); rw [hN1] at h8; omega
    refine lv_aload_n hx hb dX8_take_42 rfl (lv_at hl 1 rfl) ?_
    exact W.aret hx hb hr (Or.inl ⟨_, rfl⟩) (Or.inr ⟨_, rfl⟩) (fun t ht hW => ⟨rfl, by rw [ht]; exact (RR_C (by unfold c_tk; rw [if_pos h1]; rw [h1]) ⟨_, hR⟩)⟩) hL dX8_take_43
