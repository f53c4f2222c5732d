set_option maxHeartbeats 4000000 in
set_option maxRecDepth 100000 in
/-- replan -/
theorem ct_X1_replan {l : Launch} {s0 : State} {D : va_G} {DA : Nat → ClassId} {z0 : Nat} {C : CS} {M : MS} {o : Int64} {H : Heap} (hE : G0 l s0 D DA z0) (hR : RR s0 D DA z0 C M o H) (hCC0 : CC C) (hQI0 : QI C) {N : Nat} (hN12 : N ≤ 12) (hpos : ∀ m, m < N → 0 < kN (c_it (c_r0 C 12) m).1 4) (hend : kN (c_it (c_r0 C 12) N).1 4 = 0) : Met l yX1_replan (ws_ yX1_replan cX1_replan 5 (some .int)) ({ frames := 9, cells := 300, slots := 10800, locals := 214 }) (cP s0 [.ref s0.heap.size] H) (cQv (.int (nI (c_it (c_r0 C 12) N).2)) (fun H1 => RR s0 D DA z0 (rT (c_it (c_r0 C 12) N).1 0) M o H1)) 300 10800 (cF s0) := by
  refine Met.ofW (cc := cX1_replan) (maxL := 5) (ret := (some .int)) (by decide) rfl ?_
  intro p e s m args below meth c s₁ Bd hml hv
  obtain ⟨rfl, rfl, hW0⟩ := hv
  have hx := Bd.exec
  have hb := Bd.bytes
  have hr := Bd.returns
  have hts := atoms_spec (ws := (ws_ yX1_replan cX1_replan 5 (some .int))) Bd.pre
  have hts : ∀ w ∈ lw_all, w.before _ s = true := fun w h => hts w (List.mem_cons_of_mem _ h)
  have hown : s.vm.findClass RX1 = some m.cls := findClass_of_methodNamed Bd.named
  have hlocks := Bd.notSynchronized
  have hK := va_K.moved hW0.alike hE.K
  have hL : gx_L s0.heap.size ([] : List Loc) := gx_L0
  obtain ⟨Y, hR⟩ := hR
  have hl := lv_entry ([.ref s0.heap.size]) (n := 5) (Nat.le_of_ble_eq_true rfl)
  rw [lg_entry_eq]
  generalize (lg_sl ([.ref s0.heap.size]) ++ List.replicate (5 - (lg_sl ([.ref s0.heap.size])).length) Slot.unset).toArray = ls at hl ⊢
  have hl : lv_has ls 5 [(0, .ref s0.heap.size)] := hl
  obtain ⟨C0, hC0⟩ : ∃ C0, C0 = c_r0 C 12 := ⟨_, rfl⟩
  rw [← hC0] at hpos hend ⊢
  have hCC1 : CC C0 := by rw [hC0]; exact hCC0.s4 (c_r0_s C 12)
  have hQI1 : QI C0 := by rw [hC0]; exact c_r0_Q hQI0 (by omega)
  have key : ∀ (n : Nat) (Y : YS) (t : Nat) (H : Heap) (locs : List Loc) (ls : Array Slot), t ≤ N → N < t + n → CC (c_it C0 t).1 → QI (c_it C0 t).1 → lv_has ls 5 [(1, .int (nI ((c_it C0 t).2))), (0, .ref s0.heap.size)] → gx_L s0.heap.size locs → GRb s0.heap.size s0.heap D DA z0 Y ((c_it C0 t).1) M o H → W p l e (headSpec (ws_ yX1_replan cX1_replan 5 (some .int)) ({ frames := 9, cells := 300, slots := 10800, locals := 214 })).room s m ([.ref s0.heap.size] : List Value).toArray below meth c H locs (12 + 24 * t) (432 + 864 * t) (MQ below (cQv (.int (nI (c_it C0 N).2)) (fun H1 => RR s0 D DA z0 (rT (c_it C0 N).1 0) M o H1)) ([.ref s0.heap.size] : List Value).toArray s 300 10800 (cF s0)) (F0 m 42 ls []) := by
    intro n
    induction n with
    | zero =>
      intro Y t H locs ls ht hn hCC hQI hl hL hR
      omega
    | succ n ih =>
      intro Y t H locs ls ht hn hCC hQI hl hL hR
      have h24 := hR.lay.2.2.2.2.2.2.1.1
      have hPC : ∀ i, i < kN (c_it C0 t).1 0 → kC (c_it C0 t).1 i < 12 := fun i hi => (hR.lay.2.2.2.1 i hi).2.2.2
      refine lv_aload_n hx hb dX1_replan_42 rfl (lv_at hl 1 rfl) ?_
      refine gx_get (D := D) (cl := gcl) (ci := 0) (v := .ref (s0.heap.size + 16)) (C := RX1) (T := TX1) (N := 10) hx hb hts in_X1 hown hK hR.np rfl 6 (by decide) (hts _ q278) (fun _ h9 => h9) rfl dX1_replan_43 ?_
      refine cc_v (va_runV (b := s0.heap.size + 16) (As := []) (rest := []) ⟨hx, hb, hml, hown, hts⟩ (ct_X8_isEmpty hE hR) (cwV 0 hts (lw_V q415 q416 q417 q57 q418) rfl rfl rfl (by decide +kernel) ⟨Nat.le_of_ble_eq_true rfl, Nat.le_of_ble_eq_true rfl⟩) (cc_pV hW0 (cc_re hK hR.wai (show gcl[7]? = _ from rfl))) rfl rfl hl.1 rfl (lv_room (Nat.le_of_ble_eq_true rfl)) dX1_replan_46 ⟨by show (12 + 24 * t) + 0 ≤ 300; omega, by show (432 + 864 * t) + 0 ≤ 10800; omega⟩) hL (fun H locs hP1 hL => ?_)
      subst hP1
      refine lv_if_ne (tgt := 166) hx hb dX1_replan_49 (by decide) (fun c49 => ?_) (fun c49 => ?_)
      · have h0 := of_decide_eq_true (bZ_1.mp c49)
        have htN : t = N := by have := hpos t; omega
        subst htN
        refine lv_aload_n hx hb dX1_replan_166 rfl (lv_at hl 1 rfl) ?_
        refine lv_iconst (v := 0) hx hb dX1_replan_167 (by decide) ?_
        refine gx_put (D := D) (cl := gcl) (ci := 0) (v := .int 0) (ty := .boolean) (C := RX1) (T := TX1) (N := 10) hx hb hts in_X1 tyX1 tyX1_ok nmX1 hown hK hR.np rfl 8 (by decide) (hts _ q280) (fun _ h9 => h9) rfl (by decide +kernel) (rfl) rfl (Nat.le_of_ble_eq_true rfl) hL (by (try simp only [aI, aA, aT, aB, aL, mad]); omega) dX1_replan_168 (fun H locs hU hA hL => ?_)
        have hR := GRb.pT hR hU hA
        refine lv_iload_n hx hb dX1_replan_171 rfl (lv_at hl 0 rfl) ?_
        refine W.widen (k := 300) (n := 10800) (by omega) (by omega) ?_
        exact W.iret (v := (nI ((c_it C0 t).2))) hx hb hr (fun t ht hW => ⟨rfl, by rw [ht]; exact ⟨_, hR⟩⟩) hL dX1_replan_172
      · have h0 : 0 < kN (c_it C0 t).1 4 := Nat.pos_of_ne_zero (of_decide_eq_false (bZ_0.mp c49))
        have htN : t < N := Nat.lt_of_le_of_ne ht (fun q => by rw [q, hend] at h0; exact absurd h0 (by decide))
        have hk := (hR.gQ h0).2
        have hS1 : cS4 (c_it C0 t).1 (c_t1 (c_it C0 t).1) := c_t1_s _
        have hS3 : cS4 (c_it C0 t).1 (c_net (ci (c_gr (c_t1 (c_it C0 t).1) (kQ (c_it C0 t).1 0)) 12 (kQ (c_it C0 t).1 0) 0) (kQ (c_it C0 t).1 0)) := (hS1.tr (c_gr_s _ _)).tr ((cS4_ci _ _ _ (by decide)).tr (c_net_s _ _).1)
        have hQZ : QI (c_net (ci (c_gr (c_t1 (c_it C0 t).1) (kQ (c_it C0 t).1 0)) 12 (kQ (c_it C0 t).1 0) 0) (kQ (c_it C0 t).1 0)) := c_nk_Q hQI h0
        have hsb0 : True := trivial
        refine lv_aload_n hx hb dX1_replan_52 rfl (lv_at hl 1 rfl) ?_
        refine gx_get (D := D) (cl := gcl) (ci := 0) (v := .ref (s0.heap.size + 16)) (C := RX1) (T := TX1) (N := 10) hx hb hts in_X1 hown hK hR.np rfl 6 (by decide) (hts _ q278) (fun _ h9 => h9) rfl dX1_replan_53 ?_
        refine cc_v (va_runV (b := s0.heap.size + 16) (As := []) (rest := []) ⟨hx, hb, hml, hown, hts⟩ (ct_X8_take hE ⟨_, hR⟩ h0) (cwV 0 hts (lw_V q423 q424 q425 q57 q426) rfl rfl rfl (by decide +kernel) ⟨Nat.le_of_ble_eq_true rfl, Nat.le_of_ble_eq_true rfl⟩) (cc_pV hW0 (cc_re hK hR.wai (show gcl[7]? = _ from rfl))) rfl rfl hl.1 rfl (lv_room (Nat.le_of_ble_eq_true rfl)) dX1_replan_56 ⟨by show (12 + 24 * t) + 0 ≤ 300; omega, by show (432 + 864 * t) + 0 ≤ 10800; omega⟩) hL (fun H locs hP1 hL => ?_)
        obtain ⟨Y, hR⟩ := hP1
        refine gx_castS (ci := 9) hx hb hown (hts _ q178) hK (hR.tur (kQ (c_it C0 t).1 0) hk) (show gcl[9]? = _ from rfl) dX1_replan_59 ?_
        refine cc_v (va_runV (b := aT s0.heap.size (kQ (c_it C0 t).1 0)) (As := []) (rest := []) ⟨hx, hb, hml, hown, hts⟩ (ct_X10_whose hE hR hk) (cwV 0 hts (lw_V q440 q441 q442 q60 q443) rfl rfl rfl (by decide +kernel) ⟨Nat.le_of_ble_eq_true rfl, Nat.le_of_ble_eq_true rfl⟩) (cc_pV hW0 (cc_re hK (hR.tur (kQ (c_it C0 t).1 0) hk) (show gcl[9]? = _ from rfl))) rfl rfl hl.1 rfl (lv_room (Nat.le_of_ble_eq_true rfl)) dX1_replan_62 ⟨by show (12 + 24 * t) + 0 ≤ 300; omega, by show (432 + 864 * t) + 0 ≤ 10800; omega⟩) hL (fun H locs hP1 hL => ?_)
        subst hP1
        refine lv_astore_n (lv' := [(2, .ref (aI s0.heap.size (kQ (c_it C0 t).1 0))), (1, .int (nI ((c_it C0 t).2))), (0, .ref s0.heap.size)]) hx hb dX1_replan_65 rfl hl (by decide) rfl (fun ls hl => ?_)
        refine lv_aload_n hx hb dX1_replan_66 rfl (lv_at hl 0 rfl) ?_
        refine lv_iconst (v := 0) hx hb dX1_replan_67 (by decide) ?_
        refine gx_putN (D := D) (cl := gcl) (ci := 8) (v := .int 0) (ty := .boolean) (C := RX9) (T := TX9) (N := 19) hx hb hts in_X9 tyX9 tyX9_ok nmX9 hown hK (hR.itm (kQ (c_it C0 t).1 0) hk) rfl 13 (by decide) (hE.nF hW0 q210) (fun _ h9 => h9) rfl (by decide +kernel) (rfl) rfl (Nat.le_of_ble_eq_true rfl) hL (by (try simp only [aI, aA, aT, aB, aL, mad]); omega) dX1_replan_68 (fun H locs hU hA hL => ?_)
        have hR := GRb.pI (j := 13) (k := (kQ (c_it C0 t).1 0)) (by decide) (by decide) hk hR hU hA
        have hR := GR_C (C := (rI (c_tk (c_it C0 t).1) (up2 (kI (c_tk (c_it C0 t).1)) 13 (kQ (c_it C0 t).1 0) 0))) (C' := (c_t1 (c_it C0 t).1)) (rfl) hR
        refine lv_aload_n hx hb dX1_replan_71 rfl (lv_at hl 2 rfl) ?_
        refine lv_aload_n hx hb dX1_replan_72 rfl (lv_at hl 0 rfl) ?_
        refine cc_v (va_runV (b := s0.heap.size) (As := [.ref (aI s0.heap.size (kQ (c_it C0 t).1 0))]) (rest := []) ⟨hx, hb, hml, hown, hts⟩ (ct_X1_grows hE ⟨_, hR⟩ hk (hCC.s4 hS1)) (cwV 1 hts (lw_V q444 q446 qs7 q47 q447) rfl rfl rfl (by decide +kernel) ⟨Nat.le_of_ble_eq_true rfl, Nat.le_of_ble_eq_true rfl⟩) (cc_pV hW0 (cc_re hK hR.np (show gcl[0]? = _ from rfl))) rfl rfl hl.1 rfl (lv_room (Nat.le_of_ble_eq_true rfl)) dX1_replan_73 ⟨by show (12 + 24 * t) + 0 ≤ 300; omega, by show (432 + 864 * t) + 0 ≤ 10800; omega⟩) hL (fun H locs hP1 hL => ?_)
        obtain ⟨Y, hR⟩ := hP1
        refine lv_istore_n (lv' := [(3, .int (bZ (c_df (c_t1 (c_it C0 t).1) (kQ (c_it C0 t).1 0) 12))), (2, .ref (aI s0.heap.size (kQ (c_it C0 t).1 0))), (1, .int (nI ((c_it C0 t).2))), (0, .ref s0.heap.size)]) hx hb dX1_replan_76 rfl hl (by decide) rfl (fun ls hl => ?_)
        refine lv_iload_n hx hb dX1_replan_77 rfl (lv_at hl 0 rfl) ?_
        refine lv_if_ne (tgt := 91) hx hb dX1_replan_78 (by decide) (fun c78 => ?_) (fun c78 => ?_)
        · have hsb : c_sb (c_it C0 t).1 = true := by unfold c_sb; rw [bZ_1.mp c78]; rfl
          refine lv_aload_n hx hb dX1_replan_91 rfl (lv_at hl 1 rfl) ?_
          refine lv_iconst (v := 0) hx hb dX1_replan_92 (by decide) ?_
          refine gx_putN (D := D) (cl := gcl) (ci := 8) (v := .int 0) (ty := .boolean) (C := RX9) (T := TX9) (N := 19) hx hb hts in_X9 tyX9 tyX9_ok nmX9 hown hK (hR.itm (kQ (c_it C0 t).1 0) hk) rfl 12 (by decide) (hE.nF hW0 q209) (fun _ h9 => h9) rfl (by decide +kernel) (rfl) rfl (Nat.le_of_ble_eq_true rfl) hL (by (try simp only [aI, aA, aT, aB, aL, mad]); omega) dX1_replan_93 (fun H locs hU hA hL => ?_)
          have hR := GRb.pI (j := 12) (k := (kQ (c_it C0 t).1 0)) (by decide) (by decide) hk hR hU hA
          have hR := GR_C (C := (rI (c_gr (c_t1 (c_it C0 t).1) (kQ (c_it C0 t).1 0)) (up2 (kI (c_gr (c_t1 (c_it C0 t).1) (kQ (c_it C0 t).1 0))) 12 (kQ (c_it C0 t).1 0) 0))) (C' := (ci (c_gr (c_t1 (c_it C0 t).1) (kQ (c_it C0 t).1 0)) 12 (kQ (c_it C0 t).1 0) 0)) (rfl) hR
          refine lv_aload_n hx hb dX1_replan_96 rfl (lv_at hl 3 rfl) ?_
          refine lv_aload_n hx hb dX1_replan_97 rfl (lv_at hl 1 rfl) ?_
          refine cc_0 (va_runV (b := s0.heap.size) (As := [.ref (aI s0.heap.size (kQ (c_it C0 t).1 0))]) (rest := []) ⟨hx, hb, hml, hown, hts⟩ (ct_X1_net hE ⟨_, hR⟩ hk (hCC.s4 ((hS1.tr (c_gr_s _ _)).tr (cS4_ci _ _ _ (by decide))))) (cwV 1 hts (lw_V q479 q481 qs9 q47 q482) rfl rfl rfl (by decide +kernel) ⟨Nat.le_of_ble_eq_true rfl, Nat.le_of_ble_eq_true rfl⟩) (cc_pV hW0 (cc_re hK hR.np (show gcl[0]? = _ from rfl))) rfl rfl hl.1 rfl (lv_room (Nat.le_of_ble_eq_true rfl)) dX1_replan_98 ⟨by show (12 + 24 * t) + 0 ≤ 300; omega, by show (432 + 864 * t) + 0 ≤ 10800; omega⟩) hL (fun H locs hP1 hL => ?_)
          obtain ⟨Y, hR⟩ := hP1
          refine lv_iinc (v := nI ((c_it C0 t).2 + 1)) (lv' := [(1, .int (nI ((c_it C0 t).2 + 1))), (3, .int (bZ (c_df (c_t1 (c_it C0 t).1) (kQ (c_it C0 t).1 0) 12))), (2, .ref (aI s0.heap.size (kQ (c_it C0 t).1 0))), (0, .ref s0.heap.size)]) hx hb dX1_replan_101 hl (k := 2) rfl (nI_1 ((c_it C0 t).2)) (by decide) rfl (fun ls hl => ?_)
          refine lv_iconst (v := 0) hx hb dX1_replan_104 (by decide) ?_
          refine gx_ti (nI 0) (by decide) ?_
          refine lv_istore (lv' := [(4, .int (nI 0)), (1, .int (nI ((c_it C0 t).2 + 1))), (3, .int (bZ (c_df (c_t1 (c_it C0 t).1) (kQ (c_it C0 t).1 0) 12))), (2, .ref (aI s0.heap.size (kQ (c_it C0 t).1 0))), (0, .ref s0.heap.size)]) hx hb dX1_replan_105 hl (by decide) rfl (fun ls hl => ?_)
          have kl : ∀ (n : Nat) (Y : YS) (v : Nat) (H : Heap) (locs : List Loc) (ls : Array Slot), v ≤ kN (c_it C0 t).1 0 → kN (c_it C0 t).1 0 < v + n → lv_has ls 5 [(1, .int (nI ((c_it C0 t).2 + 1))), (2, .ref (aI s0.heap.size (kQ (c_it C0 t).1 0))), (4, .int (nI v)), (0, .ref s0.heap.size)] → gx_L s0.heap.size locs → GRb s0.heap.size s0.heap D DA z0 Y (c_kids (c_net (ci (c_gr (c_t1 (c_it C0 t).1) (kQ (c_it C0 t).1 0)) 12 (kQ (c_it C0 t).1 0) 0) (kQ (c_it C0 t).1 0)) (kQ (c_it C0 t).1 0) v) M o H → W p l e (headSpec (ws_ yX1_replan cX1_replan 5 (some .int)) ({ frames := 9, cells := 300, slots := 10800, locals := 214 })).room s m ([.ref s0.heap.size] : List Value).toArray below meth c H locs (12 + 24 * t + v) (432 + 864 * t + 36 * v) (MQ below (cQv (.int (nI (c_it C0 N).2)) (fun H1 => RR s0 D DA z0 (rT (c_it C0 N).1 0) M o H1)) ([.ref s0.heap.size] : List Value).toArray s 300 10800 (cF s0)) (F0 m 107 ls []) := by
            intro n
            induction n with
            | zero =>
              intro Y v H locs ls hv hn3 hl hL hR
              omega
            | succ n ih2 =>
              intro Y v H locs ls hv hn3 hl hL hR
              have hSv := c_kids_s (c_net (ci (c_gr (c_t1 (c_it C0 t).1) (kQ (c_it C0 t).1 0)) 12 (kQ (c_it C0 t).1 0) 0) (kQ (c_it C0 t).1 0)) (kQ (c_it C0 t).1 0) v
              have e0 : kN (c_kids (c_net (ci (c_gr (c_t1 (c_it C0 t).1) (kQ (c_it C0 t).1 0)) 12 (kQ (c_it C0 t).1 0) 0) (kQ (c_it C0 t).1 0)) (kQ (c_it C0 t).1 0) v) 0 = kN (c_it C0 t).1 0 := (hSv.2.1 0 (by decide)).trans (hS3.2.1 0 (by decide))
              have eC : kC (c_kids (c_net (ci (c_gr (c_t1 (c_it C0 t).1) (kQ (c_it C0 t).1 0)) 12 (kQ (c_it C0 t).1 0) 0) (kQ (c_it C0 t).1 0)) (kQ (c_it C0 t).1 0) v) = kC (c_it C0 t).1 := hSv.2.2.2.1.trans hS3.2.2.2.1
              have hQv : QI (c_kids (c_net (ci (c_gr (c_t1 (c_it C0 t).1) (kQ (c_it C0 t).1 0)) 12 (kQ (c_it C0 t).1 0) 0) (kQ (c_it C0 t).1 0)) (kQ (c_it C0 t).1 0) v) := c_kids_Q hQZ _ (fun i hi => by rw [hS3.2.2.2.1]; exact hPC i (by omega))
              refine lv_iload hx hb dX1_replan_107 (lv_at hl 2 rfl) ?_
              refine lv_aload_n hx hb dX1_replan_109 rfl (lv_at hl 3 rfl) ?_
              refine gx_get (D := D) (cl := gcl) (ci := 0) (v := .ref (aL s0.heap.size 0)) (C := RX1) (T := TX1) (N := 10) hx hb hts in_X1 hown hK hR.np rfl 1 (by decide) (hts _ q273) (fun _ h9 => h9) rfl dX1_replan_110 ?_
              refine cc_v (va_runV (b := aL s0.heap.size 0) (As := []) (rest := [.int (nI v)]) ⟨hx, hb, hml, hown, hts⟩ (ct_J2_size hE (hR.lob 0 (by omega))) (cwV 0 hts (lw_V q459 q379 q380 q50 q381) rfl rfl rfl (by decide +kernel) ⟨Nat.le_of_ble_eq_true rfl, Nat.le_of_ble_eq_true rfl⟩) (cc_pV hW0 (cc_re hK (hR.lob 0 (by omega)) (show gcl[1]? = _ from rfl))) rfl rfl hl.1 rfl (lv_room (Nat.le_of_ble_eq_true rfl)) dX1_replan_113 ⟨by show (12 + 24 * t + v) + 0 ≤ 300; omega, by show (432 + 864 * t + 36 * v) + 0 ≤ 10800; omega⟩) hL (fun H locs hP1 hL => ?_)
              subst hP1
              refine lv_icmp_ge (tgt := 163) hx hb dX1_replan_116 (by decide) (fun c116 => ?_) (fun c116 => ?_)
              · have hvc : v = kN (c_it C0 t).1 0 := by have := n_ge (b := kN (c_kids (c_net (ci (c_gr (c_t1 (c_it C0 t).1) (kQ (c_it C0 t).1 0)) 12 (kQ (c_it C0 t).1 0) 0) (kQ (c_it C0 t).1 0)) (kQ (c_it C0 t).1 0) v) 0) c116 (by omega) (by omega); omega
                have hR := GR_C (C := (c_kids (c_net (ci (c_gr (c_t1 (c_it C0 t).1) (kQ (c_it C0 t).1 0)) 12 (kQ (c_it C0 t).1 0) 0) (kQ (c_it C0 t).1 0)) (kQ (c_it C0 t).1 0) v)) (C' := (c_kids (c_net (ci (c_gr (c_t1 (c_it C0 t).1) (kQ (c_it C0 t).1 0)) 12 (kQ (c_it C0 t).1 0) 0) (kQ (c_it C0 t).1 0)) (kQ (c_it C0 t).1 0) (kN (c_it C0 t).1 0))) (by rw [hvc]) hR
                refine lv_goto (tgt := 42) hx hb dX1_replan_163 (by decide) ?_
                have e2 : (c_it C0 (t + 1)).2 = (c_it C0 t).2 + 1 := if_pos hsb
                have hR := GR_C (C := (c_kids (c_net (ci (c_gr (c_t1 (c_it C0 t).1) (kQ (c_it C0 t).1 0)) 12 (kQ (c_it C0 t).1 0) 0) (kQ (c_it C0 t).1 0)) (kQ (c_it C0 t).1 0) (kN (c_it C0 t).1 0))) (C' := (c_it C0 (t + 1)).1) (by show _ = c_st _; unfold c_st; rw [if_pos hsb]) hR
                have hl : lv_has ls 5 [(1, .int (nI ((c_it C0 (t + 1)).2))), (2, .ref (aI s0.heap.size (kQ (c_it C0 t).1 0))), (4, .int (nI v)), (0, .ref s0.heap.size)] := by rw [e2]; exact hl
                refine W.widen (k := 12 + 24 * (t + 1)) (n := 432 + 864 * (t + 1)) (by omega) (by omega) ?_
                exact ih Y (t + 1) _ _ _ (by omega) (by omega) (hCC.s4 (c_st_s _)) (c_st_Q hQI h0 hPC) (lv_sub hl [0, 3] rfl) hL hR
              · have hv2 : v < kN (c_kids (c_net (ci (c_gr (c_t1 (c_it C0 t).1) (kQ (c_it C0 t).1 0)) 12 (kQ (c_it C0 t).1 0) 0) (kQ (c_it C0 t).1 0)) (kQ (c_it C0 t).1 0) v) 0 := n_lt c116 (by omega) (by omega)
                have hpv := (hR.lay.2.2.2.1 v hv2).2.2.1
                have hcv := (hR.lay.2.2.2.1 v hv2).2.2.2
                refine lv_aload_n hx hb dX1_replan_119 rfl (lv_at hl 3 rfl) ?_
                refine gx_get (D := D) (cl := gcl) (ci := 0) (v := .ref (aL s0.heap.size 0)) (C := RX1) (T := TX1) (N := 10) hx hb hts in_X1 hown hK hR.np rfl 1 (by decide) (hts _ q273) (fun _ h9 => h9) rfl dX1_replan_120 ?_
                refine lv_iload hx hb dX1_replan_123 (lv_at hl 2 rfl) ?_
                refine cc_v (va_runV (b := aL s0.heap.size 0) (As := [.int (nI v)]) (rest := []) ⟨hx, hb, hml, hown, hts⟩ (ct_J2_get (i := v) hE (hR.lob 0 (by omega)) (hR.lda 0 (by omega) (Nat.lt_of_lt_of_le (Nat.lt_of_le_of_lt (Nat.zero_le _) hv2) (hR.lay.1 0 (by omega)).1)) (by have := (hR.lay.1 0 (by omega)).2; omega) hv2 (hR.lay.1 0 (by omega)).1 (hR.lay.2.1 0 (by omega) v hv2)) (cwV 1 hts (lw_V q460 q383 q384 q50 q385) rfl rfl rfl (by decide +kernel) ⟨Nat.le_of_ble_eq_true rfl, Nat.le_of_ble_eq_true rfl⟩) (cc_pV hW0 (cc_re hK (hR.lob 0 (by omega)) (show gcl[1]? = _ from rfl))) rfl rfl hl.1 rfl (lv_room (Nat.le_of_ble_eq_true rfl)) dX1_replan_125 ⟨by show (12 + 24 * t + v) + 0 ≤ 300; omega, by show (432 + 864 * t + 36 * v) + 0 ≤ 10800; omega⟩) hL (fun H locs hP1 hL => ?_)
                subst hP1
                refine gx_castS (ci := 11) hx hb hown (hts _ q461) hK (hR.lin v hv2) (show gcl[11]? = _ from rfl) dX1_replan_128 ?_
                refine cc_v (va_runV (b := yE Y 0 v) (As := []) (rest := []) ⟨hx, hb, hml, hown, hts⟩ (ct_X12_parent hE hR hv2) (cwV 0 hts (lw_V q462 q463 q464 q71 q465) rfl rfl rfl (by decide +kernel) ⟨Nat.le_of_ble_eq_true rfl, Nat.le_of_ble_eq_true rfl⟩) (cc_pV hW0 (cc_re hK (hR.lin v hv2) (show gcl[11]? = _ from rfl))) rfl rfl hl.1 rfl (lv_room (Nat.le_of_ble_eq_true rfl)) dX1_replan_131 ⟨by show (12 + 24 * t + v) + 0 ≤ 300; omega, by show (432 + 864 * t + 36 * v) + 0 ≤ 10800; omega⟩) hL (fun H locs hP1 hL => ?_)
                subst hP1
                refine lv_aload_n hx hb dX1_replan_134 rfl (lv_at hl 1 rfl) ?_
                refine lv_acmp_ne (rx := some (aI s0.heap.size (kP (c_kids (c_net (ci (c_gr (c_t1 (c_it C0 t).1) (kQ (c_it C0 t).1 0)) 12 (kQ (c_it C0 t).1 0) 0) (kQ (c_it C0 t).1 0)) (kQ (c_it C0 t).1 0) v) v))) (ry := some (aI s0.heap.size (kQ (c_it C0 t).1 0))) (tgt := 157) hx hb dX1_replan_135 (by decide) (fun c135 => ?_) (fun c135 => ?_)
                · have hR := GR_C (C := (c_kids (c_net (ci (c_gr (c_t1 (c_it C0 t).1) (kQ (c_it C0 t).1 0)) 12 (kQ (c_it C0 t).1 0) 0) (kQ (c_it C0 t).1 0)) (kQ (c_it C0 t).1 0) v)) (C' := (c_kids (c_net (ci (c_gr (c_t1 (c_it C0 t).1) (kQ (c_it C0 t).1 0)) 12 (kQ (c_it C0 t).1 0) 0) (kQ (c_it C0 t).1 0)) (kQ (c_it C0 t).1 0) (v + 1))) (by show _ = if kP (c_net (ci (c_gr (c_t1 (c_it C0 t).1) (kQ (c_it C0 t).1 0)) 12 (kQ (c_it C0 t).1 0) 0) (kQ (c_it C0 t).1 0)) v = (kQ (c_it C0 t).1 0) then c_aw (c_kids (c_net (ci (c_gr (c_t1 (c_it C0 t).1) (kQ (c_it C0 t).1 0)) 12 (kQ (c_it C0 t).1 0) 0) (kQ (c_it C0 t).1 0)) (kQ (c_it C0 t).1 0) v) (kC (c_net (ci (c_gr (c_t1 (c_it C0 t).1) (kQ (c_it C0 t).1 0)) 12 (kQ (c_it C0 t).1 0) 0) (kQ (c_it C0 t).1 0)) v) else (c_kids (c_net (ci (c_gr (c_t1 (c_it C0 t).1) (kQ (c_it C0 t).1 0)) 12 (kQ (c_it C0 t).1 0) 0) (kQ (c_it C0 t).1 0)) (kQ (c_it C0 t).1 0) v); rw [if_neg (fun q => c135 (by rw [show kP (c_kids (c_net (ci (c_gr (c_t1 (c_it C0 t).1) (kQ (c_it C0 t).1 0)) 12 (kQ (c_it C0 t).1 0) 0) (kQ (c_it C0 t).1 0)) (kQ (c_it C0 t).1 0) v) v = (kQ (c_it C0 t).1 0) from (congrFun hSv.2.2.1 v).trans q]))]) hR
                  refine lv_iinc (v := nI (v + 1)) (lv' := [(4, .int (nI (v + 1))), (1, .int (nI ((c_it C0 t).2 + 1))), (2, .ref (aI s0.heap.size (kQ (c_it C0 t).1 0))), (0, .ref s0.heap.size)]) hx hb dX1_replan_157 hl (k := 2) rfl (nI_1 v) (by decide) rfl (fun ls hl => ?_)
                  refine lv_goto (tgt := 107) hx hb dX1_replan_160 (by decide) ?_
                  refine W.widen (k := 12 + 24 * t + (v + 1)) (n := 432 + 864 * t + 36 * (v + 1)) (by omega) (by omega) ?_
                  exact ih2 Y (v + 1) _ _ _ (by omega) (by omega) (lv_sub hl [1, 2, 0, 3] rfl) hL hR
                · have hpk : kP (c_net (ci (c_gr (c_t1 (c_it C0 t).1) (kQ (c_it C0 t).1 0)) 12 (kQ (c_it C0 t).1 0) 0) (kQ (c_it C0 t).1 0)) v = (kQ (c_it C0 t).1 0) := (congrFun hSv.2.2.1 v).symm.trans (aI_inj.mp (Option.some.inj c135))
                  refine lv_aload_n hx hb dX1_replan_138 rfl (lv_at hl 3 rfl) ?_
                  refine lv_aload_n hx hb dX1_replan_139 rfl (lv_at hl 3 rfl) ?_
                  refine gx_get (D := D) (cl := gcl) (ci := 0) (v := .ref (aL s0.heap.size 0)) (C := RX1) (T := TX1) (N := 10) hx hb hts in_X1 hown hK hR.np rfl 1 (by decide) (hts _ q273) (fun _ h9 => h9) rfl dX1_replan_140 ?_
                  refine lv_iload hx hb dX1_replan_143 (lv_at hl 2 rfl) ?_
                  refine cc_v (va_runV (b := aL s0.heap.size 0) (As := [.int (nI v)]) (rest := [.ref s0.heap.size]) ⟨hx, hb, hml, hown, hts⟩ (ct_J2_get (i := v) hE (hR.lob 0 (by omega)) (hR.lda 0 (by omega) (Nat.lt_of_lt_of_le (Nat.lt_of_le_of_lt (Nat.zero_le _) hv2) (hR.lay.1 0 (by omega)).1)) (by have := (hR.lay.1 0 (by omega)).2; omega) hv2 (hR.lay.1 0 (by omega)).1 (hR.lay.2.1 0 (by omega) v hv2)) (cwV 1 hts (lw_V q460 q383 q384 q50 q385) rfl rfl rfl (by decide +kernel) ⟨Nat.le_of_ble_eq_true rfl, Nat.le_of_ble_eq_true rfl⟩) (cc_pV hW0 (cc_re hK (hR.lob 0 (by omega)) (show gcl[1]? = _ from rfl))) rfl rfl hl.1 rfl (lv_room (Nat.le_of_ble_eq_true rfl)) dX1_replan_145 ⟨by show (12 + 24 * t + v) + 0 ≤ 300; omega, by show (432 + 864 * t + 36 * v) + 0 ≤ 10800; omega⟩) hL (fun H locs hP1 hL => ?_)
                  subst hP1
                  refine gx_castS (ci := 11) hx hb hown (hts _ q461) hK (hR.lin v hv2) (show gcl[11]? = _ from rfl) dX1_replan_148 ?_
                  refine cc_v (va_runV (b := yE Y 0 v) (As := []) (rest := [.ref s0.heap.size]) ⟨hx, hb, hml, hown, hts⟩ (ct_X12_child hE hR hv2) (cwV 0 hts (lw_V q466 q467 q468 q71 q469) rfl rfl rfl (by decide +kernel) ⟨Nat.le_of_ble_eq_true rfl, Nat.le_of_ble_eq_true rfl⟩) (cc_pV hW0 (cc_re hK (hR.lin v hv2) (show gcl[11]? = _ from rfl))) rfl rfl hl.1 rfl (lv_room (Nat.le_of_ble_eq_true rfl)) dX1_replan_151 ⟨by show (12 + 24 * t + v) + 0 ≤ 300; omega, by show (432 + 864 * t + 36 * v) + 0 ≤ 10800; omega⟩) hL (fun H locs hP1 hL => ?_)
                  subst hP1
                  refine cc_0 (va_runV (b := s0.heap.size) (As := [.ref (aI s0.heap.size (kC (c_kids (c_net (ci (c_gr (c_t1 (c_it C0 t).1) (kQ (c_it C0 t).1 0)) 12 (kQ (c_it C0 t).1 0) 0) (kQ (c_it C0 t).1 0)) (kQ (c_it C0 t).1 0) v) v))]) (rest := []) ⟨hx, hb, hml, hown, hts⟩ (ct_X1_await hE ⟨_, hR⟩ hcv (fun q => hQv.room hcv q)) (cwV 1 hts (lw_V q307 q309 qs0 q47 q310) rfl rfl rfl (by decide +kernel) ⟨Nat.le_of_ble_eq_true rfl, Nat.le_of_ble_eq_true rfl⟩) (cc_pV hW0 (cc_re hK hR.np (show gcl[0]? = _ from rfl))) rfl rfl hl.1 rfl (lv_room (Nat.le_of_ble_eq_true rfl)) dX1_replan_154 ⟨by show 12 + 24 * t + v + 1 ≤ 300; omega, by show 432 + 864 * t + 36 * v + 36 ≤ 10800; omega⟩) hL (fun H locs hP1 hL => ?_)
                  obtain ⟨Y, hR⟩ := hP1
                  have hR := GR_C (C := (c_aw (c_kids (c_net (ci (c_gr (c_t1 (c_it C0 t).1) (kQ (c_it C0 t).1 0)) 12 (kQ (c_it C0 t).1 0) 0) (kQ (c_it C0 t).1 0)) (kQ (c_it C0 t).1 0) v) (kC (c_kids (c_net (ci (c_gr (c_t1 (c_it C0 t).1) (kQ (c_it C0 t).1 0)) 12 (kQ (c_it C0 t).1 0) 0) (kQ (c_it C0 t).1 0)) (kQ (c_it C0 t).1 0) v) v))) (C' := (c_kids (c_net (ci (c_gr (c_t1 (c_it C0 t).1) (kQ (c_it C0 t).1 0)) 12 (kQ (c_it C0 t).1 0) 0) (kQ (c_it C0 t).1 0)) (kQ (c_it C0 t).1 0) (v + 1))) (by show _ = if kP (c_net (ci (c_gr (c_t1 (c_it C0 t).1) (kQ (c_it C0 t).1 0)) 12 (kQ (c_it C0 t).1 0) 0) (kQ (c_it C0 t).1 0)) v = (kQ (c_it C0 t).1 0) then c_aw (c_kids (c_net (ci (c_gr (c_t1 (c_it C0 t).1) (kQ (c_it C0 t).1 0)) 12 (kQ (c_it C0 t).1 0) 0) (kQ (c_it C0 t).1 0)) (kQ (c_it C0 t).1 0) v) (kC (c_net (ci (c_gr (c_t1 (c_it C0 t).1) (kQ (c_it C0 t).1 0)) 12 (kQ (c_it C0 t).1 0) 0) (kQ (c_it C0 t).1 0)) v) else (c_kids (c_net (ci (c_gr (c_t1 (c_it C0 t).1) (kQ (c_it C0 t).1 0)) 12 (kQ (c_it C0 t).1 0) 0) (kQ (c_it C0 t).1 0)) (kQ (c_it C0 t).1 0) v); rw [if_pos hpk, hSv.2.2.2.1]) hR
                  refine lv_iinc (v := nI (v + 1)) (lv' := [(4, .int (nI (v + 1))), (1, .int (nI ((c_it C0 t).2 + 1))), (2, .ref (aI s0.heap.size (kQ (c_it C0 t).1 0))), (0, .ref s0.heap.size)]) hx hb dX1_replan_157 hl (k := 2) rfl (nI_1 v) (by decide) rfl (fun ls hl => ?_)
                  refine lv_goto (tgt := 107) hx hb dX1_replan_160 (by decide) ?_
                  refine W.widen (k := 12 + 24 * t + (v + 1)) (n := 432 + 864 * t + 36 * (v + 1)) (by omega) (by omega) ?_
                  exact ih2 Y (v + 1) _ _ _ (by omega) (by omega) (lv_sub hl [1, 2, 0, 3] rfl) hL hR
          have hR := GR_C (C := (c_net (ci (c_gr (c_t1 (c_it C0 t).1) (kQ (c_it C0 t).1 0)) 12 (kQ (c_it C0 t).1 0) 0) (kQ (c_it C0 t).1 0))) (C' := (c_kids (c_net (ci (c_gr (c_t1 (c_it C0 t).1) (kQ (c_it C0 t).1 0)) 12 (kQ (c_it C0 t).1 0) 0) (kQ (c_it C0 t).1 0)) (kQ (c_it C0 t).1 0) 0)) (rfl) hR
          exact kl (kN (c_it C0 t).1 0 + 1) Y 0 _ _ _ (by omega) (by omega) (lv_sub hl [1, 3, 0, 4] rfl) hL hR
        · refine lv_aload_n hx hb dX1_replan_81 rfl (lv_at hl 1 rfl) ?_
          refine gx_getN (D := D) (cl := gcl) (ci := 8) (v := .int (kI (c_gr (c_t1 (c_it C0 t).1) (kQ (c_it C0 t).1 0)) 12 (kQ (c_it C0 t).1 0))) (C := RX9) (T := TX9) (N := 19) hx hb hts in_X9 hown hK (hR.itm (kQ (c_it C0 t).1 0) hk) rfl 12 (by decide) (hE.nF hW0 q209) (fun _ h9 => h9) rfl dX1_replan_82 ?_
          refine lv_if_ne (tgt := 91) hx hb dX1_replan_85 (by decide) (fun c85 => ?_) (fun c85 => ?_)
          · have hsb : c_sb (c_it C0 t).1 = true := by unfold c_sb; rw [decide_eq_true (show ¬ kI (c_it C0 t).1 12 (kQ (c_it C0 t).1 0) = 0 from fun q => c85 ((c_t1_12 _ _).trans q)), Bool.or_true]
            refine lv_aload_n hx hb dX1_replan_91 rfl (lv_at hl 1 rfl) ?_
            refine lv_iconst (v := 0) hx hb dX1_replan_92 (by decide) ?_
            refine gx_putN (D := D) (cl := gcl) (ci := 8) (v := .int 0) (ty := .boolean) (C := RX9) (T := TX9) (N := 19) hx hb hts in_X9 tyX9 tyX9_ok nmX9 hown hK (hR.itm (kQ (c_it C0 t).1 0) hk) rfl 12 (by decide) (hE.nF hW0 q209) (fun _ h9 => h9) rfl (by decide +kernel) (rfl) rfl (Nat.le_of_ble_eq_true rfl) hL (by (try simp only [aI, aA, aT, aB, aL, mad]); omega) dX1_replan_93 (fun H locs hU hA hL => ?_)
            have hR := GRb.pI (j := 12) (k := (kQ (c_it C0 t).1 0)) (by decide) (by decide) hk hR hU hA
            have hR := GR_C (C := (rI (c_gr (c_t1 (c_it C0 t).1) (kQ (c_it C0 t).1 0)) (up2 (kI (c_gr (c_t1 (c_it C0 t).1) (kQ (c_it C0 t).1 0))) 12 (kQ (c_it C0 t).1 0) 0))) (C' := (ci (c_gr (c_t1 (c_it C0 t).1) (kQ (c_it C0 t).1 0)) 12 (kQ (c_it C0 t).1 0) 0)) (rfl) hR
            refine lv_aload_n hx hb dX1_replan_96 rfl (lv_at hl 3 rfl) ?_
            refine lv_aload_n hx hb dX1_replan_97 rfl (lv_at hl 1 rfl) ?_
            refine cc_0 (va_runV (b := s0.heap.size) (As := [.ref (aI s0.heap.size (kQ (c_it C0 t).1 0))]) (rest := []) ⟨hx, hb, hml, hown, hts⟩ (ct_X1_net hE ⟨_, hR⟩ hk (hCC.s4 ((hS1.tr (c_gr_s _ _)).tr (cS4_ci _ _ _ (by decide))))) (cwV 1 hts (lw_V q479 q481 qs9 q47 q482) rfl rfl rfl (by decide +kernel) ⟨Nat.le_of_ble_eq_true rfl, Nat.le_of_ble_eq_true rfl⟩) (cc_pV hW0 (cc_re hK hR.np (show gcl[0]? = _ from rfl))) rfl rfl hl.1 rfl (lv_room (Nat.le_of_ble_eq_true rfl)) dX1_replan_98 ⟨by show (12 + 24 * t) + 0 ≤ 300; omega, by show (432 + 864 * t) + 0 ≤ 10800; omega⟩) hL (fun H locs hP1 hL => ?_)
            obtain ⟨Y, hR⟩ := hP1
            refine lv_iinc (v := nI ((c_it C0 t).2 + 1)) (lv' := [(1, .int (nI ((c_it C0 t).2 + 1))), (3, .int (bZ (c_df (c_t1 (c_it C0 t).1) (kQ (c_it C0 t).1 0) 12))), (2, .ref (aI s0.heap.size (kQ (c_it C0 t).1 0))), (0, .ref s0.heap.size)]) hx hb dX1_replan_101 hl (k := 2) rfl (nI_1 ((c_it C0 t).2)) (by decide) rfl (fun ls hl => ?_)
            refine lv_iconst (v := 0) hx hb dX1_replan_104 (by decide) ?_
            refine gx_ti (nI 0) (by decide) ?_
            refine lv_istore (lv' := [(4, .int (nI 0)), (1, .int (nI ((c_it C0 t).2 + 1))), (3, .int (bZ (c_df (c_t1 (c_it C0 t).1) (kQ (c_it C0 t).1 0) 12))), (2, .ref (aI s0.heap.size (kQ (c_it C0 t).1 0))), (0, .ref s0.heap.size)]) hx hb dX1_replan_105 hl (by decide) rfl (fun ls hl => ?_)
            have kl : ∀ (n : Nat) (Y : YS) (v : Nat) (H : Heap) (locs : List Loc) (ls : Array Slot), v ≤ kN (c_it C0 t).1 0 → kN (c_it C0 t).1 0 < v + n → lv_has ls 5 [(1, .int (nI ((c_it C0 t).2 + 1))), (2, .ref (aI s0.heap.size (kQ (c_it C0 t).1 0))), (4, .int (nI v)), (0, .ref s0.heap.size)] → gx_L s0.heap.size locs → GRb s0.heap.size s0.heap D DA z0 Y (c_kids (c_net (ci (c_gr (c_t1 (c_it C0 t).1) (kQ (c_it C0 t).1 0)) 12 (kQ (c_it C0 t).1 0) 0) (kQ (c_it C0 t).1 0)) (kQ (c_it C0 t).1 0) v) M o H → W p l e (headSpec (ws_ yX1_replan cX1_replan 5 (some .int)) ({ frames := 9, cells := 300, slots := 10800, locals := 214 })).room s m ([.ref s0.heap.size] : List Value).toArray below meth c H locs (12 + 24 * t + v) (432 + 864 * t + 36 * v) (MQ below (cQv (.int (nI (c_it C0 N).2)) (fun H1 => RR s0 D DA z0 (rT (c_it C0 N).1 0) M o H1)) ([.ref s0.heap.size] : List Value).toArray s 300 10800 (cF s0)) (F0 m 107 ls []) := by
              intro n
              induction n with
              | zero =>
                intro Y v H locs ls hv hn3 hl hL hR
                omega
              | succ n ih2 =>
                intro Y v H locs ls hv hn3 hl hL hR
                have hSv := c_kids_s (c_net (ci (c_gr (c_t1 (c_it C0 t).1) (kQ (c_it C0 t).1 0)) 12 (kQ (c_it C0 t).1 0) 0) (kQ (c_it C0 t).1 0)) (kQ (c_it C0 t).1 0) v
                have e0 : kN (c_kids (c_net (ci (c_gr (c_t1 (c_it C0 t).1) (kQ (c_it C0 t).1 0)) 12 (kQ (c_it C0 t).1 0) 0) (kQ (c_it C0 t).1 0)) (kQ (c_it C0 t).1 0) v) 0 = kN (c_it C0 t).1 0 := (hSv.2.1 0 (by decide)).trans (hS3.2.1 0 (by decide))
                have eC : kC (c_kids (c_net (ci (c_gr (c_t1 (c_it C0 t).1) (kQ (c_it C0 t).1 0)) 12 (kQ (c_it C0 t).1 0) 0) (kQ (c_it C0 t).1 0)) (kQ (c_it C0 t).1 0) v) = kC (c_it C0 t).1 := hSv.2.2.2.1.trans hS3.2.2.2.1
                have hQv : QI (c_kids (c_net (ci (c_gr (c_t1 (c_it C0 t).1) (kQ (c_it C0 t).1 0)) 12 (kQ (c_it C0 t).1 0) 0) (kQ (c_it C0 t).1 0)) (kQ (c_it C0 t).1 0) v) := c_kids_Q hQZ _ (fun i hi => by rw [hS3.2.2.2.1]; exact hPC i (by omega))
                refine lv_iload hx hb dX1_replan_107 (lv_at hl 2 rfl) ?_
                refine lv_aload_n hx hb dX1_replan_109 rfl (lv_at hl 3 rfl) ?_
                refine gx_get (D := D) (cl := gcl) (ci := 0) (v := .ref (aL s0.heap.size 0)) (C := RX1) (T := TX1) (N := 10) hx hb hts in_X1 hown hK hR.np rfl 1 (by decide) (hts _ q273) (fun _ h9 => h9) rfl dX1_replan_110 ?_
                refine cc_v (va_runV (b := aL s0.heap.size 0) (As := []) (rest := [.int (nI v)]) ⟨hx, hb, hml, hown, hts⟩ (ct_J2_size hE (hR.lob 0 (by omega))) (cwV 0 hts (lw_V q459 q379 q380 q50 q381) rfl rfl rfl (by decide +kernel) ⟨Nat.le_of_ble_eq_true rfl, Nat.le_of_ble_eq_true rfl⟩) (cc_pV hW0 (cc_re hK (hR.lob 0 (by omega)) (show gcl[1]? = _ from rfl))) rfl rfl hl.1 rfl (lv_room (Nat.le_of_ble_eq_true rfl)) dX1_replan_113 ⟨by show (12 + 24 * t + v) + 0 ≤ 300; omega, by show (432 + 864 * t + 36 * v) + 0 ≤ 10800; omega⟩) hL (fun H locs hP1 hL => ?_)
                subst hP1
                refine lv_icmp_ge (tgt := 163) hx hb dX1_replan_116 (by decide) (fun c116 => ?_) (fun c116 => ?_)
                · have hvc : v = kN (c_it C0 t).1 0 := by have := n_ge (b := kN (c_kids (c_net (ci (c_gr (c_t1 (c_it C0 t).1) (kQ (c_it C0 t).1 0)) 12 (kQ (c_it C0 t).1 0) 0) (kQ (c_it C0 t).1 0)) (kQ (c_it C0 t).1 0) v) 0) c116 (by omega) (by omega); omega
                  have hR := GR_C (C := (c_kids (c_net (ci (c_gr (c_t1 (c_it C0 t).1) (kQ (c_it C0 t).1 0)) 12 (kQ (c_it C0 t).1 0) 0) (kQ (c_it C0 t).1 0)) (kQ (c_it C0 t).1 0) v)) (C' := (c_kids (c_net (ci (c_gr (c_t1 (c_it C0 t).1) (kQ (c_it C0 t).1 0)) 12 (kQ (c_it C0 t).1 0) 0) (kQ (c_it C0 t).1 0)) (kQ (c_it C0 t).1 0) (kN (c_it C0 t).1 0))) (by rw [hvc]) hR
                  refine lv_goto (tgt := 42) hx hb dX1_replan_163 (by decide) ?_
                  have e2 : (c_it C0 (t + 1)).2 = (c_it C0 t).2 + 1 := if_pos hsb
                  have hR := GR_C (C := (c_kids (c_net (ci (c_gr (c_t1 (c_it C0 t).1) (kQ (c_it C0 t).1 0)) 12 (kQ (c_it C0 t).1 0) 0) (kQ (c_it C0 t).1 0)) (kQ (c_it C0 t).1 0) (kN (c_it C0 t).1 0))) (C' := (c_it C0 (t + 1)).1) (by show _ = c_st _; unfold c_st; rw [if_pos hsb]) hR
                  have hl : lv_has ls 5 [(1, .int (nI ((c_it C0 (t + 1)).2))), (2, .ref (aI s0.heap.size (kQ (c_it C0 t).1 0))), (4, .int (nI v)), (0, .ref s0.heap.size)] := by rw [e2]; exact hl
                  refine W.widen (k := 12 + 24 * (t + 1)) (n := 432 + 864 * (t + 1)) (by omega) (by omega) ?_
                  exact ih Y (t + 1) _ _ _ (by omega) (by omega) (hCC.s4 (c_st_s _)) (c_st_Q hQI h0 hPC) (lv_sub hl [0, 3] rfl) hL hR
                · have hv2 : v < kN (c_kids (c_net (ci (c_gr (c_t1 (c_it C0 t).1) (kQ (c_it C0 t).1 0)) 12 (kQ (c_it C0 t).1 0) 0) (kQ (c_it C0 t).1 0)) (kQ (c_it C0 t).1 0) v) 0 := n_lt c116 (by omega) (by omega)
                  have hpv := (hR.lay.2.2.2.1 v hv2).2.2.1
                  have hcv := (hR.lay.2.2.2.1 v hv2).2.2.2
                  refine lv_aload_n hx hb dX1_replan_119 rfl (lv_at hl 3 rfl) ?_
                  refine gx_get (D := D) (cl := gcl) (ci := 0) (v := .ref (aL s0.heap.size 0)) (C := RX1) (T := TX1) (N := 10) hx hb hts in_X1 hown hK hR.np rfl 1 (by decide) (hts _ q273) (fun _ h9 => h9) rfl dX1_replan_120 ?_
                  refine lv_iload hx hb dX1_replan_123 (lv_at hl 2 rfl) ?_
                  refine cc_v (va_runV (b := aL s0.heap.size 0) (As := [.int (nI v)]) (rest := []) ⟨hx, hb, hml, hown, hts⟩ (ct_J2_get (i := v) hE (hR.lob 0 (by omega)) (hR.lda 0 (by omega) (Nat.lt_of_lt_of_le (Nat.lt_of_le_of_lt (Nat.zero_le _) hv2) (hR.lay.1 0 (by omega)).1)) (by have := (hR.lay.1 0 (by omega)).2; omega) hv2 (hR.lay.1 0 (by omega)).1 (hR.lay.2.1 0 (by omega) v hv2)) (cwV 1 hts (lw_V q460 q383 q384 q50 q385) rfl rfl rfl (by decide +kernel) ⟨Nat.le_of_ble_eq_true rfl, Nat.le_of_ble_eq_true rfl⟩) (cc_pV hW0 (cc_re hK (hR.lob 0 (by omega)) (show gcl[1]? = _ from rfl))) rfl rfl hl.1 rfl (lv_room (Nat.le_of_ble_eq_true rfl)) dX1_replan_125 ⟨by show (12 + 24 * t + v) + 0 ≤ 300; omega, by show (432 + 864 * t + 36 * v) + 0 ≤ 10800; omega⟩) hL (fun H locs hP1 hL => ?_)
                  subst hP1
                  refine gx_castS (ci := 11) hx hb hown (hts _ q461) hK (hR.lin v hv2) (show gcl[11]? = _ from rfl) dX1_replan_128 ?_
                  refine cc_v (va_runV (b := yE Y 0 v) (As := []) (rest := []) ⟨hx, hb, hml, hown, hts⟩ (ct_X12_parent hE hR hv2) (cwV 0 hts (lw_V q462 q463 q464 q71 q465) rfl rfl rfl (by decide +kernel) ⟨Nat.le_of_ble_eq_true rfl, Nat.le_of_ble_eq_true rfl⟩) (cc_pV hW0 (cc_re hK (hR.lin v hv2) (show gcl[11]? = _ from rfl))) rfl rfl hl.1 rfl (lv_room (Nat.le_of_ble_eq_true rfl)) dX1_replan_131 ⟨by show (12 + 24 * t + v) + 0 ≤ 300; omega, by show (432 + 864 * t + 36 * v) + 0 ≤ 10800; omega⟩) hL (fun H locs hP1 hL => ?_)
                  subst hP1
                  refine lv_aload_n hx hb dX1_replan_134 rfl (lv_at hl 1 rfl) ?_
                  refine lv_acmp_ne (rx := some (aI s0.heap.size (kP (c_kids (c_net (ci (c_gr (c_t1 (c_it C0 t).1) (kQ (c_it C0 t).1 0)) 12 (kQ (c_it C0 t).1 0) 0) (kQ (c_it C0 t).1 0)) (kQ (c_it C0 t).1 0) v) v))) (ry := some (aI s0.heap.size (kQ (c_it C0 t).1 0))) (tgt := 157) hx hb dX1_replan_135 (by decide) (fun c135 => ?_) (fun c135 => ?_)
                  · have hR := GR_C (C := (c_kids (c_net (ci (c_gr (c_t1 (c_it C0 t).1) (kQ (c_it C0 t).1 0)) 12 (kQ (c_it C0 t).1 0) 0) (kQ (c_it C0 t).1 0)) (kQ (c_it C0 t).1 0) v)) (C' := (c_kids (c_net (ci (c_gr (c_t1 (c_it C0 t).1) (kQ (c_it C0 t).1 0)) 12 (kQ (c_it C0 t).1 0) 0) (kQ (c_it C0 t).1 0)) (kQ (c_it C0 t).1 0) (v + 1))) (by show _ = if kP (c_net (ci (c_gr (c_t1 (c_it C0 t).1) (kQ (c_it C0 t).1 0)) 12 (kQ (c_it C0 t).1 0) 0) (kQ (c_it C0 t).1 0)) v = (kQ (c_it C0 t).1 0) then c_aw (c_kids (c_net (ci (c_gr (c_t1 (c_it C0 t).1) (kQ (c_it C0 t).1 0)) 12 (kQ (c_it C0 t).1 0) 0) (kQ (c_it C0 t).1 0)) (kQ (c_it C0 t).1 0) v) (kC (c_net (ci (c_gr (c_t1 (c_it C0 t).1) (kQ (c_it C0 t).1 0)) 12 (kQ (c_it C0 t).1 0) 0) (kQ (c_it C0 t).1 0)) v) else (c_kids (c_net (ci (c_gr (c_t1 (c_it C0 t).1) (kQ (c_it C0 t).1 0)) 12 (kQ (c_it C0 t).1 0) 0) (kQ (c_it C0 t).1 0)) (kQ (c_it C0 t).1 0) v); rw [if_neg (fun q => c135 (by rw [show kP (c_kids (c_net (ci (c_gr (c_t1 (c_it C0 t).1) (kQ (c_it C0 t).1 0)) 12 (kQ (c_it C0 t).1 0) 0) (kQ (c_it C0 t).1 0)) (kQ (c_it C0 t).1 0) v) v = (kQ (c_it C0 t).1 0) from (congrFun hSv.2.2.1 v).trans q]))]) hR
                    refine lv_iinc (v := nI (v + 1)) (lv' := [(4, .int (nI (v + 1))), (1, .int (nI ((c_it C0 t).2 + 1))), (2, .ref (aI s0.heap.size (kQ (c_it C0 t).1 0))), (0, .ref s0.heap.size)]) hx hb dX1_replan_157 hl (k := 2) rfl (nI_1 v) (by decide) rfl (fun ls hl => ?_)
                    refine lv_goto (tgt := 107) hx hb dX1_replan_160 (by decide) ?_
                    refine W.widen (k := 12 + 24 * t + (v + 1)) (n := 432 + 864 * t + 36 * (v + 1)) (by omega) (by omega) ?_
                    exact ih2 Y (v + 1) _ _ _ (by omega) (by omega) (lv_sub hl [1, 2, 0, 3] rfl) hL hR
                  · have hpk : kP (c_net (ci (c_gr (c_t1 (c_it C0 t).1) (kQ (c_it C0 t).1 0)) 12 (kQ (c_it C0 t).1 0) 0) (kQ (c_it C0 t).1 0)) v = (kQ (c_it C0 t).1 0) := (congrFun hSv.2.2.1 v).symm.trans (aI_inj.mp (Option.some.inj c135))
                    refine lv_aload_n hx hb dX1_replan_138 rfl (lv_at hl 3 rfl) ?_
                    refine lv_aload_n hx hb dX1_replan_139 rfl (lv_at hl 3 rfl) ?_
                    refine gx_get (D := D) (cl := gcl) (ci := 0) (v := .ref (aL s0.heap.size 0)) (C := RX1) (T := TX1) (N := 10) hx hb hts in_X1 hown hK hR.np rfl 1 (by decide) (hts _ q273) (fun _ h9 => h9) rfl dX1_replan_140 ?_
                    refine lv_iload hx hb dX1_replan_143 (lv_at hl 2 rfl) ?_
                    refine cc_v (va_runV (b := aL s0.heap.size 0) (As := [.int (nI v)]) (rest := [.ref s0.heap.size]) ⟨hx, hb, hml, hown, hts⟩ (ct_J2_get (i := v) hE (hR.lob 0 (by omega)) (hR.lda 0 (by omega) (Nat.lt_of_lt_of_le (Nat.lt_of_le_of_lt (Nat.zero_le _) hv2) (hR.lay.1 0 (by omega)).1)) (by have := (hR.lay.1 0 (by omega)).2; omega) hv2 (hR.lay.1 0 (by omega)).1 (hR.lay.2.1 0 (by omega) v hv2)) (cwV 1 hts (lw_V q460 q383 q384 q50 q385) rfl rfl rfl (by decide +kernel) ⟨Nat.le_of_ble_eq_true rfl, Nat.le_of_ble_eq_true rfl⟩) (cc_pV hW0 (cc_re hK (hR.lob 0 (by omega)) (show gcl[1]? = _ from rfl))) rfl rfl hl.1 rfl (lv_room (Nat.le_of_ble_eq_true rfl)) dX1_replan_145 ⟨by show (12 + 24 * t + v) + 0 ≤ 300; omega, by show (432 + 864 * t + 36 * v) + 0 ≤ 10800; omega⟩) hL (fun H locs hP1 hL => ?_)
                    subst hP1
                    refine gx_castS (ci := 11) hx hb hown (hts _ q461) hK (hR.lin v hv2) (show gcl[11]? = _ from rfl) dX1_replan_148 ?_
                    refine cc_v (va_runV (b := yE Y 0 v) (As := []) (rest := [.ref s0.heap.size]) ⟨hx, hb, hml, hown, hts⟩ (ct_X12_child hE hR hv2) (cwV 0 hts (lw_V q466 q467 q468 q71 q469) rfl rfl rfl (by decide +kernel) ⟨Nat.le_of_ble_eq_true rfl, Nat.le_of_ble_eq_true rfl⟩) (cc_pV hW0 (cc_re hK (hR.lin v hv2) (show gcl[11]? = _ from rfl))) rfl rfl hl.1 rfl (lv_room (Nat.le_of_ble_eq_true rfl)) dX1_replan_151 ⟨by show (12 + 24 * t + v) + 0 ≤ 300; omega, by show (432 + 864 * t + 36 * v) + 0 ≤ 10800; omega⟩) hL (fun H locs hP1 hL => ?_)
                    subst hP1
                    refine cc_0 (va_runV (b := s0.heap.size) (As := [.ref (aI s0.heap.size (kC (c_kids (c_net (ci (c_gr (c_t1 (c_it C0 t).1) (kQ (c_it C0 t).1 0)) 12 (kQ (c_it C0 t).1 0) 0) (kQ (c_it C0 t).1 0)) (kQ (c_it C0 t).1 0) v) v))]) (rest := []) ⟨hx, hb, hml, hown, hts⟩ (ct_X1_await hE ⟨_, hR⟩ hcv (fun q => hQv.room hcv q)) (cwV 1 hts (lw_V q307 q309 qs0 q47 q310) rfl rfl rfl (by decide +kernel) ⟨Nat.le_of_ble_eq_true rfl, Nat.le_of_ble_eq_true rfl⟩) (cc_pV hW0 (cc_re hK hR.np (show gcl[0]? = _ from rfl))) rfl rfl hl.1 rfl (lv_room (Nat.le_of_ble_eq_true rfl)) dX1_replan_154 ⟨by show 12 + 24 * t + v + 1 ≤ 300; omega, by show 432 + 864 * t + 36 * v + 36 ≤ 10800; omega⟩) hL (fun H locs hP1 hL => ?_)
                    obtain ⟨Y, hR⟩ := hP1
                    have hR := GR_C (C := (c_aw (c_kids (c_net (ci (c_gr (c_t1 (c_it C0 t).1) (kQ (c_it C0 t).1 0)) 12 (kQ (c_it C0 t).1 0) 0) (kQ (c_it C0 t).1 0)) (kQ (c_it C0 t).1 0) v) (kC (c_kids (c_net (ci (c_gr (c_t1 (c_it C0 t).1) (kQ (c_it C0 t).1 0)) 12 (kQ (c_it C0 t).1 0) 0) (kQ (c_it C0 t).1 0)) (kQ (c_it C0 t).1 0) v) v))) (C' := (c_kids (c_net (ci (c_gr (c_t1 (c_it C0 t).1) (kQ (c_it C0 t).1 0)) 12 (kQ (c_it C0 t).1 0) 0) (kQ (c_it C0 t).1 0)) (kQ (c_it C0 t).1 0) (v + 1))) (by show _ = if kP (c_net (ci (c_gr (c_t1 (c_it C0 t).1) (kQ (c_it C0 t).1 0)) 12 (kQ (c_it C0 t).1 0) 0) (kQ (c_it C0 t).1 0)) v = (kQ (c_it C0 t).1 0) then c_aw (c_kids (c_net (ci (c_gr (c_t1 (c_it C0 t).1) (kQ (c_it C0 t).1 0)) 12 (kQ (c_it C0 t).1 0) 0) (kQ (c_it C0 t).1 0)) (kQ (c_it C0 t).1 0) v) (kC (c_net (ci (c_gr (c_t1 (c_it C0 t).1) (kQ (c_it C0 t).1 0)) 12 (kQ (c_it C0 t).1 0) 0) (kQ (c_it C0 t).1 0)) v) else (c_kids (c_net (ci (c_gr (c_t1 (c_it C0 t).1) (kQ (c_it C0 t).1 0)) 12 (kQ (c_it C0 t).1 0) 0) (kQ (c_it C0 t).1 0)) (kQ (c_it C0 t).1 0) v); rw [if_pos hpk, hSv.2.2.2.1]) hR
                    refine lv_iinc (v := nI (v + 1)) (lv' := [(4, .int (nI (v + 1))), (1, .int (nI ((c_it C0 t).2 + 1))), (2, .ref (aI s0.heap.size (kQ (c_it C0 t).1 0))), (0, .ref s0.heap.size)]) hx hb dX1_replan_157 hl (k := 2) rfl (nI_1 v) (by decide) rfl (fun ls hl => ?_)
                    refine lv_goto (tgt := 107) hx hb dX1_replan_160 (by decide) ?_
                    refine W.widen (k := 12 + 24 * t + (v + 1)) (n := 432 + 864 * t + 36 * (v + 1)) (by omega) (by omega) ?_
                    exact ih2 Y (v + 1) _ _ _ (by omega) (by omega) (lv_sub hl [1, 2, 0, 3] rfl) hL hR
            have hR := GR_C (C := (c_net (ci (c_gr (c_t1 (c_it C0 t).1) (kQ (c_it C0 t).1 0)) 12 (kQ (c_it C0 t).1 0) 0) (kQ (c_it C0 t).1 0))) (C' := (c_kids (c_net (ci (c_gr (c_t1 (c_it C0 t).1) (kQ (c_it C0 t).1 0)) 12 (kQ (c_it C0 t).1 0) 0) (kQ (c_it C0 t).1 0)) (kQ (c_it C0 t).1 0) 0)) (rfl) hR
            exact kl (kN (c_it C0 t).1 0 + 1) Y 0 _ _ _ (by omega) (by omega) (lv_sub hl [1, 3, 0, 4] rfl) hL hR
          · have hsb : ¬ c_sb (c_it C0 t).1 = true := by unfold c_sb; rw [bZ_0.mp c78, decide_eq_false (fun q => q ((c_t1_12 _ _).symm.trans c85))]; decide
            refine lv_goto (tgt := 42) hx hb dX1_replan_88 (by decide) ?_
            have e2 : (c_it C0 (t + 1)).2 = (c_it C0 t).2 := if_neg hsb
            have hR := GR_C (C := (c_gr (c_t1 (c_it C0 t).1) (kQ (c_it C0 t).1 0))) (C' := (c_it C0 (t + 1)).1) (by show _ = c_st _; unfold c_st; rw [if_neg hsb]) hR
            have hl : lv_has ls 5 [(3, .int (bZ (c_df (c_t1 (c_it C0 t).1) (kQ (c_it C0 t).1 0) 12))), (2, .ref (aI s0.heap.size (kQ (c_it C0 t).1 0))), (1, .int (nI ((c_it C0 (t + 1)).2))), (0, .ref s0.heap.size)] := by rw [e2]; exact hl
            refine W.widen (k := 12 + 24 * (t + 1)) (n := 432 + 864 * (t + 1)) (by omega) (by omega) ?_
            exact ih Y (t + 1) _ _ _ (by omega) (by omega) (hCC.s4 (c_st_s _)) (c_st_Q hQI h0 hPC) (lv_sub hl [2, 3] rfl) hL hR
  have k0 : ∀ (n : Nat) (Y : YS) (v : Nat) (H : Heap) (locs : List Loc) (ls : Array Slot), v ≤ 12 → 12 < v + n → lv_has ls 5 [(3, .int (nI v)), (1, .ref (s0.heap.size + 1)), (2, .int (nI 12)), (0, .ref s0.heap.size)] → gx_L s0.heap.size locs → GRb s0.heap.size s0.heap D DA z0 Y (c_r0 C v) M o H → W p l e (headSpec (ws_ yX1_replan cX1_replan 5 (some .int)) ({ frames := 9, cells := 300, slots := 10800, locals := 214 })).room s m ([.ref s0.heap.size] : List Value).toArray below meth c H locs (v) (36 * v) (MQ below (cQv (.int (nI (c_it C0 N).2)) (fun H1 => RR s0 D DA z0 (rT (c_it C0 N).1 0) M o H1)) ([.ref s0.heap.size] : List Value).toArray s 300 10800 (cF s0)) (F0 m 10 ls []) := by
    intro n
    induction n with
    | zero =>
      intro Y v H locs ls hv hn hl hL hR
      omega
    | succ n ih =>
      intro Y v H locs ls hv hn hl hL hR
      have hQv : QI (c_r0 C v) := c_r0_Q hQI0 hv
      refine lv_iload_n hx hb dX1_replan_10 rfl (lv_at hl 0 rfl) ?_
      refine lv_iload_n hx hb dX1_replan_11 rfl (lv_at hl 2 rfl) ?_
      refine lv_icmp_ge (tgt := 40) hx hb dX1_replan_12 (by decide) (fun c12 => ?_) (fun c12 => ?_)
      · have hkc : v = 12 := by have := n_ge (b := 12) c12 (by omega) (by omega); omega
        subst hkc
        refine lv_iconst (v := 0) hx hb dX1_replan_40 (by decide) ?_
        refine gx_ti (nI (c_it C0 0).2) (by show (0 : Int32) = nI 0; decide) ?_
        refine lv_istore_n (lv' := [(1, .int (nI (c_it C0 0).2)), (3, .int (nI 12)), (2, .int (nI 12)), (0, .ref s0.heap.size)]) hx hb dX1_replan_41 rfl hl (by decide) rfl (fun ls hl => ?_)
        have hR := GR_C (C := (c_r0 C 12)) (C' := C0) (hC0.symm) hR
        have hR := GR_C (C := C0) (C' := (c_it C0 0).1) (rfl) hR
        exact key (N + 1) Y 0 _ _ _ (by omega) (by omega) hCC1 hQI1 (lv_sub hl [0, 3] rfl) hL hR
      · have hkc : v < 12 := n_lt (b := 12) c12 (by omega) (by omega)
        refine lv_aload_n hx hb dX1_replan_15 rfl (lv_at hl 1 rfl) ?_
        refine lv_iload_n hx hb dX1_replan_16 rfl (lv_at hl 0 rfl) ?_
        refine gx_aald (x := aI s0.heap.size v) hx hb hK 3 hR.its rfl v (rfl) (hkc) (by decide) rfl dX1_replan_17 ?_
        refine lv_astore (lv' := [(4, .ref (aI s0.heap.size v)), (3, .int (nI v)), (1, .ref (s0.heap.size + 1)), (2, .int (nI 12)), (0, .ref s0.heap.size)]) hx hb dX1_replan_18 hl (by decide) rfl (fun ls hl => ?_)
        refine lv_aload hx hb dX1_replan_20 (lv_at hl 0 rfl) ?_
        refine gx_getN (D := D) (cl := gcl) (ci := 8) (v := .int (kI (c_r0 C v) 12 v)) (C := RX9) (T := TX9) (N := 19) hx hb hts in_X9 hown hK (hR.itm v hkc) rfl 12 (by decide) (hE.nF hW0 q209) (fun _ h9 => h9) rfl dX1_replan_22 ?_
        refine lv_if_eq (tgt := 34) hx hb dX1_replan_25 (by decide) (fun c25 => ?_) (fun c25 => ?_)
        · have hR := GR_C (C := (c_r0 C v)) (C' := (c_r0 C (v + 1))) (by show _ = if kI (c_r0 C v) 12 v = 0 then (c_r0 C v) else c_aw (c_r0 C v) v; rw [if_pos c25]) hR
          refine lv_iinc (v := nI (v + 1)) (lv' := [(3, .int (nI (v + 1))), (4, .ref (aI s0.heap.size v)), (1, .ref (s0.heap.size + 1)), (2, .int (nI 12)), (0, .ref s0.heap.size)]) hx hb dX1_replan_34 hl (k := 1) rfl (nI_1 v) (by decide) rfl (fun ls hl => ?_)
          refine lv_goto (tgt := 10) hx hb dX1_replan_37 (by decide) ?_
          refine W.widen (k := v + 1) (n := 36 * (v + 1)) (by omega) (by omega) ?_
          exact ih Y (v + 1) _ _ _ (by omega) (by omega) (lv_sub hl [0, 2, 3, 4] rfl) hL hR
        · refine lv_aload_n hx hb dX1_replan_28 rfl (lv_at hl 4 rfl) ?_
          refine lv_aload hx hb dX1_replan_29 (lv_at hl 0 rfl) ?_
          refine cc_0 (va_runV (b := s0.heap.size) (As := [.ref (aI s0.heap.size v)]) (rest := []) ⟨hx, hb, hml, hown, hts⟩ (ct_X1_await hE ⟨_, hR⟩ hkc (fun q => hQv.room hkc q)) (cwV 1 hts (lw_V q307 q309 qs0 q47 q310) rfl rfl rfl (by decide +kernel) ⟨Nat.le_of_ble_eq_true rfl, Nat.le_of_ble_eq_true rfl⟩) (cc_pV hW0 (cc_re hK hR.np (show gcl[0]? = _ from rfl))) rfl rfl hl.1 rfl (lv_room (Nat.le_of_ble_eq_true rfl)) dX1_replan_31 ⟨by show v + 1 ≤ 300; omega, by show 36 * v + 36 ≤ 10800; omega⟩) hL (fun H locs hP1 hL => ?_)
          obtain ⟨Y, hR⟩ := hP1
          have hR := GR_C (C := (c_aw (c_r0 C v) v)) (C' := (c_r0 C (v + 1))) (by show _ = if kI (c_r0 C v) 12 v = 0 then (c_r0 C v) else c_aw (c_r0 C v) v; rw [if_neg c25]) hR
          refine lv_iinc (v := nI (v + 1)) (lv' := [(3, .int (nI (v + 1))), (4, .ref (aI s0.heap.size v)), (1, .ref (s0.heap.size + 1)), (2, .int (nI 12)), (0, .ref s0.heap.size)]) hx hb dX1_replan_34 hl (k := 1) rfl (nI_1 v) (by decide) rfl (fun ls hl => ?_)
          refine lv_goto (tgt := 10) hx hb dX1_replan_37 (by decide) ?_
          refine W.widen (k := v + 1) (n := 36 * (v + 1)) (by omega) (by omega) ?_
          exact ih Y (v + 1) _ _ _ (by omega) (by omega) (lv_sub hl [0, 2, 3, 4] rfl) hL hR
  refine lv_aload_n hx hb dX1_replan_0 rfl (lv_at hl 0 rfl) ?_
  refine gx_get (D := D) (cl := gcl) (ci := 0) (v := .ref (s0.heap.size + 1)) (C := RX1) (T := TX1) (N := 10) hx hb hts in_X1 hown hK hR.np rfl 0 (by decide) (hts _ q272) (fun _ h9 => h9) rfl dX1_replan_1 ?_
  refine lv_astore_n (lv' := [(1, .ref (s0.heap.size + 1)), (0, .ref s0.heap.size)]) hx hb dX1_replan_4 rfl hl (by decide) rfl (fun ls hl => ?_)
  refine lv_aload_n hx hb dX1_replan_5 rfl (lv_at hl 0 rfl) ?_
  refine gx_alen hx hb hK 3 hR.its rfl dX1_replan_6 ?_
  refine gx_ti (nI 12) rfl ?_
  refine lv_istore_n (lv' := [(2, .int (nI 12)), (1, .ref (s0.heap.size + 1)), (0, .ref s0.heap.size)]) hx hb dX1_replan_7 rfl hl (by decide) rfl (fun ls hl => ?_)
  refine lv_iconst (v := 0) hx hb dX1_replan_8 (by decide) ?_
  refine gx_ti (nI 0) (by decide) ?_
  refine lv_istore_n (lv' := [(3, .int (nI 0)), (2, .int (nI 12)), (1, .ref (s0.heap.size + 1)), (0, .ref s0.heap.size)]) hx hb dX1_replan_9 rfl hl (by decide) rfl (fun ls hl => ?_)
  have hR := GR_C (C := C) (C' := (c_r0 C 0)) (rfl) hR
  exact k0 13 Y 0 _ _ _ (by omega) (by omega) (lv_sub hl [0, 2, 1, 3] rfl) hL hR
