set_option maxHeartbeats 4000000 in
set_option maxRecDepth 100000 in
/-- load -/
theorem ct_X11_load {l : Launch} {s0 : State} {D : va_G} {DA : Nat → ClassId} {z0 : Nat} {C : CS} {M : MS} {o : Int64} {H : Heap} (hE : G0 l s0 D DA z0) (hR : RR s0 D DA z0 C M o H) (ce w : Int32) (hC : MC M) : Met l yX11_load (ws_ yX11_load cX11_load 7 (some .long)) ({ frames := 2, cells := 0, slots := 0, locals := 42 }) (cP s0 [.ref (s0.heap.size + 104), .int ce, .int w] H) (cQv (.long (m_ldr M ce w)) (fun H1 => RR s0 D DA z0 C (mz M 0 (x_load M ce w)) o H1)) 0 0 (cF s0) := by
  refine Met.ofW (cc := cX11_load) (maxL := 7) (ret := (some .long)) (by decide) rfl ?_
  intro p e s m args below meth c s₁ Bd hml hv
  obtain ⟨rfl, rfl, hW0⟩ := hv
  have hx := Bd.exec
  have hb := Bd.bytes
  have hr := Bd.returns
  have hts := atoms_spec (ws := (ws_ yX11_load cX11_load 7 (some .long))) Bd.pre
  have hts : ∀ w ∈ lw_all, w.before _ s = true := fun w h => hts w (List.mem_cons_of_mem _ h)
  have hown : s.vm.findClass RX11 = some m.cls := findClass_of_methodNamed Bd.named
  have hlocks := Bd.notSynchronized
  have hK := va_K.moved hW0.alike hE.K
  have hL : gx_L s0.heap.size ([] : List Loc) := gx_L0
  obtain ⟨Y, hR⟩ := hR
  have hl := lv_entry ([.ref (s0.heap.size + 104), .int ce, .int w]) (n := 7) (Nat.le_of_ble_eq_true rfl)
  rw [lg_entry_eq]
  generalize (lg_sl ([.ref (s0.heap.size + 104), .int ce, .int w]) ++ List.replicate (7 - (lg_sl ([.ref (s0.heap.size + 104), .int ce, .int w])).length) Slot.unset).toArray = ls at hl ⊢
  have hl : lv_has ls 7 [(0, .ref (s0.heap.size + 104)), (1, .int ce), (2, .int w)] := hl
  refine lv_aload_n hx hb dX11_load_0 rfl (lv_at hl 0 rfl) ?_
  refine lv_iload_n hx hb dX11_load_1 rfl (lv_at hl 1 rfl) ?_
  refine lv_iconst (v := 0) hx hb dX11_load_2 (by decide) ?_
  refine lv_iconst (v := 2) hx hb dX11_load_3 (by decide) ?_
  refine cc_v (va_runS (As := [.int ce, .int 0, .int 2]) (rest := [.ref (s0.heap.size + 104)]) ⟨hx, hb, hml, hown, hts⟩ (ct_X11_isIn hE ce 0 2) (va_cwS 3 hts (lw_S q977 q978 q61 q979) rfl rfl rfl (by decide +kernel) ⟨Nat.le_of_ble_eq_true rfl, Nat.le_of_ble_eq_true rfl⟩) (cc_pS hW0) rfl rfl hl.1 rfl (lv_room (Nat.le_of_ble_eq_true rfl)) dX11_load_4 ⟨Nat.le_of_ble_eq_true rfl, Nat.le_of_ble_eq_true rfl⟩) hL (fun H locs hP1 hL => ?_)
  subst hP1
  refine lv_if_eq (tgt := 17) hx hb dX11_load_7 (by decide) (fun c7 => ?_) (fun c7 => ?_)
  · refine lv_iconst (v := 1) hx hb dX11_load_17 (by decide) ?_
    refine lv_goto (tgt := 33) hx hb dX11_load_18 (by decide) ?_
    refine cc_v (va_runV (b := s0.heap.size + 104) (As := [.int 1]) (rest := []) ⟨hx, hb, hml, hown, hts⟩ (ct_X11_refused hE ⟨_, hR⟩ 1) (cwV 1 hts (lw_V q983 q985 qs23 q61 q986) rfl rfl rfl (by decide +kernel) ⟨Nat.le_of_ble_eq_true rfl, Nat.le_of_ble_eq_true rfl⟩) (cc_pV hW0 (cc_re hK hR.mo (show gcl[10]? = _ from rfl))) rfl rfl hl.1 rfl (lv_room (Nat.le_of_ble_eq_true rfl)) dX11_load_33 ⟨Nat.le_of_ble_eq_true rfl, Nat.le_of_ble_eq_true rfl⟩) hL (fun H locs hP1 hL => ?_)
    obtain ⟨Y, hR⟩ := hP1
    refine lv_if_eq (tgt := 41) hx hb dX11_load_36 (by decide) (fun c36 => ?_) (fun c36 => ?_)
    · exact absurd c36 (by decide)
    · refine lv_lconst (v := 0) hx hb dX11_load_39 (by decide) ?_
      exact W.lret (v := 0) hx hb hr (fun t ht hW => ⟨ovJ (by rw [m_ldr, xl_1 (by rw [bZ_0.mp c7]; rfl)]; rfl), by rw [ht]; exact (by rw [xl_1 (by rw [bZ_0.mp c7]; rfl)]; exact ⟨_, hR⟩)⟩) hL dX11_load_40
  · refine lv_iload_n hx hb dX11_load_10 rfl (lv_at hl 2 rfl) ?_
    refine cc_v (va_runS (As := [.int w]) (rest := [.ref (s0.heap.size + 104)]) ⟨hx, hb, hml, hown, hts⟩ (ct_X11_isTwelve hE w) (va_cwS 1 hts (lw_S q980 q981 q61 q982) rfl rfl rfl (by decide +kernel) ⟨Nat.le_of_ble_eq_true rfl, Nat.le_of_ble_eq_true rfl⟩) (cc_pS hW0) rfl rfl hl.1 rfl (lv_room (Nat.le_of_ble_eq_true rfl)) dX11_load_11 ⟨Nat.le_of_ble_eq_true rfl, Nat.le_of_ble_eq_true rfl⟩) hL (fun H locs hP1 hL => ?_)
    subst hP1
    refine lv_if_ne (tgt := 21) hx hb dX11_load_14 (by decide) (fun c14 => ?_) (fun c14 => ?_)
    · refine lv_aload_n hx hb dX11_load_21 rfl (lv_at hl 0 rfl) ?_
      refine gx_get (D := D) (cl := gcl) (ci := 10) (v := .int (mS M 20)) (C := RX11) (T := TX11) (N := 27) hx hb hts in_X11 hown hK hR.mo rfl 20 (by decide) (hts _ q906) (fun _ h9 => h9) rfl dX11_load_22 ?_
      refine lv_if_eq (tgt := 32) hx hb dX11_load_25 (by decide) (fun c25 => ?_) (fun c25 => ?_)
      · obtain ⟨wk, hb2, rfl⟩ := in12_t (bZ_1.mp c14)
        have hx0 : x_load M ce (nI wk) = 0 := xl_0 (by rw [bZ_1.mp c7, bZ_1.mp c14]; rfl) c25
        refine lv_iconst (v := 0) hx hb dX11_load_32 (by decide) ?_
        refine cc_v (va_runV (b := s0.heap.size + 104) (As := [.int 0]) (rest := []) ⟨hx, hb, hml, hown, hts⟩ (ct_X11_refused hE ⟨_, hR⟩ 0) (cwV 1 hts (lw_V q983 q985 qs23 q61 q986) rfl rfl rfl (by decide +kernel) ⟨Nat.le_of_ble_eq_true rfl, Nat.le_of_ble_eq_true rfl⟩) (cc_pV hW0 (cc_re hK hR.mo (show gcl[10]? = _ from rfl))) rfl rfl hl.1 rfl (lv_room (Nat.le_of_ble_eq_true rfl)) dX11_load_33 ⟨Nat.le_of_ble_eq_true rfl, Nat.le_of_ble_eq_true rfl⟩) hL (fun H locs hP1 hL => ?_)
        obtain ⟨Y, hR⟩ := hP1
        refine lv_if_eq (tgt := 41) hx hb dX11_load_36 (by decide) (fun c36 => ?_) (fun c36 => ?_)
        · have key : ∀ (n : Nat) (k : Nat) (locs : List Loc) (ls : Array Slot), k ≤ 12 → 12 < k + n → lv_has ls 7 [(3, .long (m_ld M ce wk k)), (5, .int (nI k)), (0, .ref (s0.heap.size + 104)), (1, .int ce), (2, .int (nI wk))] → gx_L s0.heap.size locs → W p l e (headSpec (ws_ yX11_load cX11_load 7 (some .long)) ({ frames := 2, cells := 0, slots := 0, locals := 42 })).room s m ([.ref (s0.heap.size + 104), .int ce, .int (nI wk)] : List Value).toArray below meth c H locs 0 0 (MQ below (cQv (.long (m_ldr M ce (nI wk))) (fun H1 => RR s0 D DA z0 C (mz M 0 (x_load M ce (nI wk))) o H1)) ([.ref (s0.heap.size + 104), .int ce, .int (nI wk)] : List Value).toArray s 0 0 (cF s0)) (F0 m 46 ls []) := by
            intro n
            induction n with
            | zero =>
              intro k locs ls hk hn hl hL
              omega
            | succ n ih =>
              intro k locs ls hk hn hl hL
              have h4 : k < 12 → mLd M k ≤ 4 := fun h => hC.l4 h
              refine lv_iload hx hb dX11_load_46 (lv_at hl 1 rfl) ?_
              refine lv_bipush (v := 12) hx hb dX11_load_48 (by decide) ?_
              refine lv_icmp_ge (tgt := 117) hx hb dX11_load_50 (by decide) (fun c50 => ?_) (fun c50 => ?_)
              · have hkc : k = 12 := by have := n_ge (b := 12) c50 (by omega) (by omega); omega
                refine lv_lload_n hx hb dX11_load_117 rfl (lv_at hl 0 rfl) ?_
                exact W.lret (v := (m_ld M ce wk k)) hx hb hr (fun t ht hW => ⟨ovJ (by rw [m_ldr, if_pos hx0, nI_cl hb2, hkc]), by rw [ht]; exact (by rw [hx0]; exact ⟨_, hR⟩)⟩) hL dX11_load_118
              · have hkc : k < 12 := by have := n_lt (b := 12) c50 (by omega) (by omega); omega
                have h4 := h4 hkc
                refine lv_iload_n hx hb dX11_load_53 rfl (lv_at hl 4 rfl) ?_
                refine lv_aload_n hx hb dX11_load_54 rfl (lv_at hl 2 rfl) ?_
                refine gx_get (D := D) (cl := gcl) (ci := 10) (v := .ref (mad s0.heap.size 2)) (C := RX11) (T := TX11) (N := 27) hx hb hts in_X11 hown hK hR.mo rfl 3 (by decide) (hts _ q889) (fun _ h9 => h9) rfl dX11_load_55 ?_
                refine lv_iload hx hb dX11_load_58 (lv_at hl 1 rfl) ?_
                refine gx_iald (n := 12) hx hb hK 1 (hR.mia 2 (by decide)) rfl k (rfl) (by omega) (by decide) dX11_load_60 ?_
                refine gx_ti (nI (mLd M k)) (hC.ld hkc) ?_
                refine lv_iadd hx hb dX11_load_61 ?_
                refine gx_ti (nI (wk + (mLd M k))) (nI_add wk (mLd M k)) ?_
                refine lv_istore (lv' := [(6, .int (nI (wk + (mLd M k)))), (3, .long (m_ld M ce wk k)), (5, .int (nI k)), (0, .ref (s0.heap.size + 104)), (1, .int ce), (2, .int (nI wk))]) hx hb dX11_load_62 hl (by decide) rfl (fun ls hl => ?_)
                refine lv_aload_n hx hb dX11_load_64 rfl (lv_at hl 3 rfl) ?_
                refine gx_get (D := D) (cl := gcl) (ci := 10) (v := .ref (mad s0.heap.size 8)) (C := RX11) (T := TX11) (N := 27) hx hb hts in_X11 hown hK hR.mo rfl 9 (by decide) (hts _ q895) (fun _ h9 => h9) rfl dX11_load_65 ?_
                refine lv_iload hx hb dX11_load_68 (lv_at hl 2 rfl) ?_
                refine gx_iald (n := 12) hx hb hK 1 (hR.mia 8 (by decide)) rfl k (rfl) (by omega) (by decide) dX11_load_70 ?_
                refine lv_iload_n hx hb dX11_load_71 rfl (lv_at hl 4 rfl) ?_
                refine lv_icmp_ne (tgt := 109) hx hb dX11_load_72 (by decide) (fun c72 => ?_) (fun c72 => ?_)
                · refine lv_lload_n hx hb dX11_load_109 rfl (lv_at hl 1 rfl) ?_
                  refine gx_tl (m_ld M ce wk (k + 1)) (by rw [m_ld, if_neg (fun q => c72 q.1)]; try rfl) ?_
                  refine lv_lstore_n (lv' := [(3, .long (m_ld M ce wk (k + 1))), (6, .int (nI (wk + (mLd M k)))), (5, .int (nI k)), (0, .ref (s0.heap.size + 104)), (1, .int ce), (2, .int (nI wk))]) hx hb dX11_load_110 rfl hl (by decide) rfl (fun ls hl => ?_)
                  refine lv_iinc (v := nI (k + 1)) (lv' := [(5, .int (nI (k + 1))), (3, .long (m_ld M ce wk (k + 1))), (6, .int (nI (wk + (mLd M k)))), (0, .ref (s0.heap.size + 104)), (1, .int ce), (2, .int (nI wk))]) hx hb dX11_load_111 hl (k := 2) rfl (nI_1 k) (by decide) rfl (fun ls hl => ?_)
                  refine lv_goto (tgt := 46) hx hb dX11_load_114 (by decide) ?_
                  exact ih (k + 1) _ _ (by omega) (by omega) (lv_sub hl [1, 0, 3, 4, 5] rfl) hL
                · refine lv_iload hx hb dX11_load_75 (lv_at hl 0 rfl) ?_
                  refine lv_bipush (v := 12) hx hb dX11_load_77 (by decide) ?_
                  refine lv_icmp_ge (tgt := 109) hx hb dX11_load_79 (by decide) (fun c79 => ?_) (fun c79 => ?_)
                  · refine lv_lload_n hx hb dX11_load_109 rfl (lv_at hl 1 rfl) ?_
                    refine gx_tl (m_ld M ce wk (k + 1)) (by rw [m_ld, if_neg (fun q => absurd q.2 (by have := n_ge (b := 12) c79 (by omega) (by omega); omega))]; try rfl) ?_
                    refine lv_lstore_n (lv' := [(3, .long (m_ld M ce wk (k + 1))), (6, .int (nI (wk + (mLd M k)))), (5, .int (nI k)), (0, .ref (s0.heap.size + 104)), (1, .int ce), (2, .int (nI wk))]) hx hb dX11_load_110 rfl hl (by decide) rfl (fun ls hl => ?_)
                    refine lv_iinc (v := nI (k + 1)) (lv' := [(5, .int (nI (k + 1))), (3, .long (m_ld M ce wk (k + 1))), (6, .int (nI (wk + (mLd M k)))), (0, .ref (s0.heap.size + 104)), (1, .int ce), (2, .int (nI wk))]) hx hb dX11_load_111 hl (k := 2) rfl (nI_1 k) (by decide) rfl (fun ls hl => ?_)
                    refine lv_goto (tgt := 46) hx hb dX11_load_114 (by decide) ?_
                    exact ih (k + 1) _ _ (by omega) (by omega) (lv_sub hl [1, 0, 3, 4, 5] rfl) hL
                  · have h79 := n_lt (b := 12) c79 (by omega) (by omega)
                    refine lv_lload_n hx hb dX11_load_82 rfl (lv_at hl 1 rfl) ?_
                    refine lv_aload_n hx hb dX11_load_83 rfl (lv_at hl 3 rfl) ?_
                    refine gx_get (D := D) (cl := gcl) (ci := 10) (v := .ref (mad s0.heap.size 9)) (C := RX11) (T := TX11) (N := 27) hx hb hts in_X11 hown hK hR.mo rfl 10 (by decide) (hts _ q896) (fun _ h9 => h9) rfl dX11_load_84 ?_
                    refine lv_iload hx hb dX11_load_87 (lv_at hl 2 rfl) ?_
                    refine gx_iald (n := 12) hx hb hK 1 (hR.mia 9 (by decide)) rfl k (rfl) (by omega) (by decide) dX11_load_89 ?_
                    refine lv_i2l (v := (mI (mz M 0 0) 9 k).toInt64) hx hb dX11_load_90 rfl ?_
                    refine lv_aload_n hx hb dX11_load_91 rfl (lv_at hl 3 rfl) ?_
                    refine gx_get (D := D) (cl := gcl) (ci := 10) (v := .ref (mad s0.heap.size 19)) (C := RX11) (T := TX11) (N := 27) hx hb hts in_X11 hown hK hR.mo rfl 23 (by decide) (hts _ q909) (fun _ h9 => h9) rfl dX11_load_92 ?_
                    refine lv_bipush (v := 12) hx hb dX11_load_95 (by decide) ?_
                    refine lv_iload hx hb dX11_load_97 (lv_at hl 2 rfl) ?_
                    refine lv_imul hx hb dX11_load_99 ?_
                    refine gx_ti (nI (12 * k)) (pk_mul 12 k) ?_
                    refine lv_iload hx hb dX11_load_100 (lv_at hl 0 rfl) ?_
                    refine lv_iadd hx hb dX11_load_102 ?_
                    refine gx_ti (nI (12 * k + (wk + (mLd M k)))) (nI_add (12 * k) (wk + (mLd M k))) ?_
                    refine gx_lald (n := 144) hx hb hK 0 (hR.mla 19 (by decide) (by decide)) rfl (12 * k + (wk + (mLd M k))) (rfl) (by omega) (by decide) dX11_load_103 ?_
                    refine lv_lmul hx hb dX11_load_104 ?_
                    refine lv_ladd hx hb dX11_load_105 ?_
                    refine lv_goto (tgt := 110) hx hb dX11_load_106 (by decide) ?_
                    refine gx_tl (m_ld M ce wk (k + 1)) (by rw [m_ld, if_pos ⟨c72, h79⟩]; try rfl) ?_
                    refine lv_lstore_n (lv' := [(3, .long (m_ld M ce wk (k + 1))), (6, .int (nI (wk + (mLd M k)))), (5, .int (nI k)), (0, .ref (s0.heap.size + 104)), (1, .int ce), (2, .int (nI wk))]) hx hb dX11_load_110 rfl hl (by decide) rfl (fun ls hl => ?_)
                    refine lv_iinc (v := nI (k + 1)) (lv' := [(5, .int (nI (k + 1))), (3, .long (m_ld M ce wk (k + 1))), (6, .int (nI (wk + (mLd M k)))), (0, .ref (s0.heap.size + 104)), (1, .int ce), (2, .int (nI wk))]) hx hb dX11_load_111 hl (k := 2) rfl (nI_1 k) (by decide) rfl (fun ls hl => ?_)
                    refine lv_goto (tgt := 46) hx hb dX11_load_114 (by decide) ?_
                    exact ih (k + 1) _ _ (by omega) (by omega) (lv_sub hl [1, 0, 3, 4, 5] rfl) hL
          refine lv_lconst (v := 0) hx hb dX11_load_41 (by decide) ?_
          refine gx_tl (m_ld M ce wk 0) (rfl) ?_
          refine lv_lstore_n (lv' := [(3, .long (m_ld M ce wk 0)), (0, .ref (s0.heap.size + 104)), (1, .int ce), (2, .int (nI wk))]) hx hb dX11_load_42 rfl hl (by decide) rfl (fun ls hl => ?_)
          refine lv_iconst (v := 0) hx hb dX11_load_43 (by decide) ?_
          refine gx_ti (nI 0) (by decide) ?_
          refine lv_istore (lv' := [(5, .int (nI 0)), (3, .long (m_ld M ce wk 0)), (0, .ref (s0.heap.size + 104)), (1, .int ce), (2, .int (nI wk))]) hx hb dX11_load_44 hl (by decide) rfl (fun ls hl => ?_)
          exact key 13 0 _ _ (by omega) (by omega) (lv_sub hl [1, 0, 2, 3, 4] rfl) hL
        · exact absurd c36 (by decide)
      · refine lv_iconst (v := 2) hx hb dX11_load_28 (by decide) ?_
        refine lv_goto (tgt := 33) hx hb dX11_load_29 (by decide) ?_
        refine cc_v (va_runV (b := s0.heap.size + 104) (As := [.int 2]) (rest := []) ⟨hx, hb, hml, hown, hts⟩ (ct_X11_refused hE ⟨_, hR⟩ 2) (cwV 1 hts (lw_V q983 q985 qs23 q61 q986) rfl rfl rfl (by decide +kernel) ⟨Nat.le_of_ble_eq_true rfl, Nat.le_of_ble_eq_true rfl⟩) (cc_pV hW0 (cc_re hK hR.mo (show gcl[10]? = _ from rfl))) rfl rfl hl.1 rfl (lv_room (Nat.le_of_ble_eq_true rfl)) dX11_load_33 ⟨Nat.le_of_ble_eq_true rfl, Nat.le_of_ble_eq_true rfl⟩) hL (fun H locs hP1 hL => ?_)
        obtain ⟨Y, hR⟩ := hP1
        refine lv_if_eq (tgt := 41) hx hb dX11_load_36 (by decide) (fun c36 => ?_) (fun c36 => ?_)
        · exact absurd c36 (by decide)
        · refine lv_lconst (v := 0) hx hb dX11_load_39 (by decide) ?_
          exact W.lret (v := 0) hx hb hr (fun t ht hW => ⟨ovJ (by rw [m_ldr, xl_2 (by rw [bZ_1.mp c7, bZ_1.mp c14]; rfl) c25]; rfl), by rw [ht]; exact (by rw [xl_2 (by rw [bZ_1.mp c7, bZ_1.mp c14]; rfl) c25]; exact ⟨_, hR⟩)⟩) hL dX11_load_40
    · refine lv_iconst (v := 1) hx hb dX11_load_17 (by decide) ?_
      refine lv_goto (tgt := 33) hx hb dX11_load_18 (by decide) ?_
      refine cc_v (va_runV (b := s0.heap.size + 104) (As := [.int 1]) (rest := []) ⟨hx, hb, hml, hown, hts⟩ (ct_X11_refused hE ⟨_, hR⟩ 1) (cwV 1 hts (lw_V q983 q985 qs23 q61 q986) rfl rfl rfl (by decide +kernel) ⟨Nat.le_of_ble_eq_true rfl, Nat.le_of_ble_eq_true rfl⟩) (cc_pV hW0 (cc_re hK hR.mo (show gcl[10]? = _ from rfl))) rfl rfl hl.1 rfl (lv_room (Nat.le_of_ble_eq_true rfl)) dX11_load_33 ⟨Nat.le_of_ble_eq_true rfl, Nat.le_of_ble_eq_true rfl⟩) hL (fun H locs hP1 hL => ?_)
      obtain ⟨Y, hR⟩ := hP1
      refine lv_if_eq (tgt := 41) hx hb dX11_load_36 (by decide) (fun c36 => ?_) (fun c36 => ?_)
      · exact absurd c36 (by decide)
      · refine lv_lconst (v := 0) hx hb dX11_load_39 (by decide) ?_
        exact W.lret (v := 0) hx hb hr (fun t ht hW => ⟨ovJ (by rw [m_ldr, xl_1 (by rw [bZ_0.mp c14, Bool.and_false])]; rfl), by rw [ht]; exact (by rw [xl_1 (by rw [bZ_0.mp c14, Bool.and_false])]; exact ⟨_, hR⟩)⟩) hL dX11_load_40
set_option maxHeartbeats 4000000 in
set_option maxRecDepth 100000 in
/-- promise -/
theorem ct_X11_promise {l : Launch} {s0 : State} {D : va_G} {DA : Nat → ClassId} {z0 : Nat} {C : CS} {M : MS} {o : Int64} {H : Heap} (hE : G0 l s0 D DA z0) (hR : RR s0 D DA z0 C M o H) (i nn w : Int32) (hC : MC M) : Met l yX11_promise (ws_ yX11_promise cX11_promise 5 (some .int)) ({ frames := 3, cells := 0, slots := 0, locals := 73 }) (cP s0 [.ref (s0.heap.size + 104), .int i, .int nn, .int w] H) (cQv (.int (m_prr M i nn w)) (fun H1 => RR s0 D DA z0 C (mz M 0 (x_prom M i nn w)) o H1)) 0 0 (cF s0) := by
  refine Met.ofW (cc := cX11_promise) (maxL := 5) (ret := (some .int)) (by decide) rfl ?_
  intro p e s m args below meth c s₁ Bd hml hv
  obtain ⟨rfl, rfl, hW0⟩ := hv
  have hx := Bd.exec
  have hb := Bd.bytes
  have hr := Bd.returns
  have hts := atoms_spec (ws := (ws_ yX11_promise cX11_promise 5 (some .int))) Bd.pre
  have hts : ∀ w ∈ lw_all, w.before _ s = true := fun w h => hts w (List.mem_cons_of_mem _ h)
  have hown : s.vm.findClass RX11 = some m.cls := findClass_of_methodNamed Bd.named
  have hlocks := Bd.notSynchronized
  have hK := va_K.moved hW0.alike hE.K
  have hL : gx_L s0.heap.size ([] : List Loc) := gx_L0
  obtain ⟨Y, hR⟩ := hR
  have hl := lv_entry ([.ref (s0.heap.size + 104), .int i, .int nn, .int w]) (n := 5) (Nat.le_of_ble_eq_true rfl)
  rw [lg_entry_eq]
  generalize (lg_sl ([.ref (s0.heap.size + 104), .int i, .int nn, .int w]) ++ List.replicate (5 - (lg_sl ([.ref (s0.heap.size + 104), .int i, .int nn, .int w])).length) Slot.unset).toArray = ls at hl ⊢
  have hl : lv_has ls 5 [(0, .ref (s0.heap.size + 104)), (1, .int i), (2, .int nn), (3, .int w)] := hl
  refine lv_aload_n hx hb dX11_promise_0 rfl (lv_at hl 0 rfl) ?_
  refine lv_iload_n hx hb dX11_promise_1 rfl (lv_at hl 1 rfl) ?_
  refine cc_v (va_runS (As := [.int i]) (rest := [.ref (s0.heap.size + 104)]) ⟨hx, hb, hml, hown, hts⟩ (ct_X11_isTwelve hE i) (va_cwS 1 hts (lw_S q980 q981 q61 q982) rfl rfl rfl (by decide +kernel) ⟨Nat.le_of_ble_eq_true rfl, Nat.le_of_ble_eq_true rfl⟩) (cc_pS hW0) rfl rfl hl.1 rfl (lv_room (Nat.le_of_ble_eq_true rfl)) dX11_promise_2 ⟨Nat.le_of_ble_eq_true rfl, Nat.le_of_ble_eq_true rfl⟩) hL (fun H locs hP1 hL => ?_)
  subst hP1
  refine lv_if_eq (tgt := 15) hx hb dX11_promise_5 (by decide) (fun c5 => ?_) (fun c5 => ?_)
  · refine lv_iconst (v := 1) hx hb dX11_promise_15 (by decide) ?_
    refine lv_goto (tgt := 46) hx hb dX11_promise_16 (by decide) ?_
    refine cc_v (va_runV (b := s0.heap.size + 104) (As := [.int 1]) (rest := []) ⟨hx, hb, hml, hown, hts⟩ (ct_X11_refused hE ⟨_, hR⟩ 1) (cwV 1 hts (lw_V q983 q985 qs23 q61 q986) rfl rfl rfl (by decide +kernel) ⟨Nat.le_of_ble_eq_true rfl, Nat.le_of_ble_eq_true rfl⟩) (cc_pV hW0 (cc_re hK hR.mo (show gcl[10]? = _ from rfl))) rfl rfl hl.1 rfl (lv_room (Nat.le_of_ble_eq_true rfl)) dX11_promise_46 ⟨Nat.le_of_ble_eq_true rfl, Nat.le_of_ble_eq_true rfl⟩) hL (fun H locs hP1 hL => ?_)
    obtain ⟨Y, hR⟩ := hP1
    refine lv_if_eq (tgt := 54) hx hb dX11_promise_49 (by decide) (fun c49 => ?_) (fun c49 => ?_)
    · exact absurd c49 (by decide)
    · refine lv_iconst (v := 0) hx hb dX11_promise_52 (by decide) ?_
      exact W.iret (v := 0) hx hb hr (fun t ht hW => ⟨ovI (by rw [m_prr, xp_1 (by rw [bZ_0.mp c5]; rfl)]; rfl), by rw [ht]; exact (by rw [xp_1 (by rw [bZ_0.mp c5]; rfl)]; exact ⟨_, hR⟩)⟩) hL dX11_promise_53
  · refine lv_iload_n hx hb dX11_promise_8 rfl (lv_at hl 3 rfl) ?_
    refine cc_v (va_runS (As := [.int w]) (rest := [.ref (s0.heap.size + 104)]) ⟨hx, hb, hml, hown, hts⟩ (ct_X11_isTwelve hE w) (va_cwS 1 hts (lw_S q980 q981 q61 q982) rfl rfl rfl (by decide +kernel) ⟨Nat.le_of_ble_eq_true rfl, Nat.le_of_ble_eq_true rfl⟩) (cc_pS hW0) rfl rfl hl.1 rfl (lv_room (Nat.le_of_ble_eq_true rfl)) dX11_promise_9 ⟨Nat.le_of_ble_eq_true rfl, Nat.le_of_ble_eq_true rfl⟩) hL (fun H locs hP1 hL => ?_)
    subst hP1
    refine lv_if_ne (tgt := 19) hx hb dX11_promise_12 (by decide) (fun c12 => ?_) (fun c12 => ?_)
    · refine lv_iload_n hx hb dX11_promise_19 rfl (lv_at hl 2 rfl) ?_
      refine lv_iconst (v := 1) hx hb dX11_promise_20 (by decide) ?_
      refine lv_sipush (v := 1000) hx hb dX11_promise_21 (by decide) ?_
      refine cc_v (va_runS (As := [.int nn, .int 1, .int 1000]) (rest := [.ref (s0.heap.size + 104)]) ⟨hx, hb, hml, hown, hts⟩ (ct_X11_isIn hE nn 1 1000) (va_cwS 3 hts (lw_S q977 q978 q61 q979) rfl rfl rfl (by decide +kernel) ⟨Nat.le_of_ble_eq_true rfl, Nat.le_of_ble_eq_true rfl⟩) (cc_pS hW0) rfl rfl hl.1 rfl (lv_room (Nat.le_of_ble_eq_true rfl)) dX11_promise_24 ⟨Nat.le_of_ble_eq_true rfl, Nat.le_of_ble_eq_true rfl⟩) hL (fun H locs hP1 hL => ?_)
      subst hP1
      refine lv_if_ne (tgt := 34) hx hb dX11_promise_27 (by decide) (fun c27 => ?_) (fun c27 => ?_)
      · refine lv_aload_n hx hb dX11_promise_34 rfl (lv_at hl 0 rfl) ?_
        refine gx_get (D := D) (cl := gcl) (ci := 10) (v := .int (mS M 20)) (C := RX11) (T := TX11) (N := 27) hx hb hts in_X11 hown hK hR.mo rfl 20 (by decide) (hts _ q906) (fun _ h9 => h9) rfl dX11_promise_35 ?_
        refine lv_if_eq (tgt := 45) hx hb dX11_promise_38 (by decide) (fun c38 => ?_) (fun c38 => ?_)
        · obtain ⟨a, ha, rfl⟩ := in12_t (bZ_1.mp c5)
          obtain ⟨b, hb2, rfl⟩ := in12_t (bZ_1.mp c12)
          have hx0 : x_prom M (nI a) nn (nI b) = 0 := xp_0 (by rw [in12_n ha, in12_n hb2]; rfl) (bZ_1.mp c27) c38
          refine lv_iconst (v := 0) hx hb dX11_promise_45 (by decide) ?_
          refine cc_v (va_runV (b := s0.heap.size + 104) (As := [.int 0]) (rest := []) ⟨hx, hb, hml, hown, hts⟩ (ct_X11_refused hE ⟨_, hR⟩ 0) (cwV 1 hts (lw_V q983 q985 qs23 q61 q986) rfl rfl rfl (by decide +kernel) ⟨Nat.le_of_ble_eq_true rfl, Nat.le_of_ble_eq_true rfl⟩) (cc_pV hW0 (cc_re hK hR.mo (show gcl[10]? = _ from rfl))) rfl rfl hl.1 rfl (lv_room (Nat.le_of_ble_eq_true rfl)) dX11_promise_46 ⟨Nat.le_of_ble_eq_true rfl, Nat.le_of_ble_eq_true rfl⟩) hL (fun H locs hP1 hL => ?_)
          obtain ⟨Y, hR⟩ := hP1
          refine lv_if_eq (tgt := 54) hx hb dX11_promise_49 (by decide) (fun c49 => ?_) (fun c49 => ?_)
          · have key : ∀ (n : Nat) (v : Nat) (locs : List Loc) (ls : Array Slot), v ≤ 12 → 12 < v + n → m_pr M a nn (12 - v) v = m_pr M a nn (12 - b) b → lv_has ls 5 [(4, .int (nI v)), (0, .ref (s0.heap.size + 104)), (1, .int (nI a)), (2, .int nn)] → gx_L s0.heap.size locs → W p l e (headSpec (ws_ yX11_promise cX11_promise 5 (some .int)) ({ frames := 3, cells := 0, slots := 0, locals := 73 })).room s m ([.ref (s0.heap.size + 104), .int (nI a), .int nn, .int (nI b)] : List Value).toArray below meth c H locs 0 0 (MQ below (cQv (.int (m_prr M (nI a) nn (nI b))) (fun H1 => RR s0 D DA z0 C (mz M 0 (x_prom M (nI a) nn (nI b))) o H1)) ([.ref (s0.heap.size + 104), .int (nI a), .int nn, .int (nI b)] : List Value).toArray s 0 0 (cF s0)) (F0 m 57 ls []) := by
              intro n
              induction n with
              | zero =>
                intro v locs ls hk hn hv hl hL
                omega
              | succ n ih =>
                intro v locs ls hk hn hv hl hL
                refine lv_iload hx hb dX11_promise_57 (lv_at hl 0 rfl) ?_
                refine lv_bipush (v := 12) hx hb dX11_promise_59 (by decide) ?_
                refine lv_icmp_ge (tgt := 84) hx hb dX11_promise_61 (by decide) (fun c61 => ?_) (fun c61 => ?_)
                · have hkc : v = 12 := by have := n_ge (b := 12) c61 (by omega) (by omega); omega
                  subst hkc
                  have hv3 : (-1 : Int32) = m_pr M a nn (12 - b) b := by rw [← hv]; rfl
                  refine lv_iconst (v := (-1)) hx hb dX11_promise_84 (by decide) ?_
                  exact W.iret (v := (-1)) hx hb hr (fun t ht hW => ⟨ovI (by rw [m_prr_0 ha hb2 hx0]; exact hv3), by rw [ht]; exact (by rw [hx0]; exact ⟨_, hR⟩)⟩) hL dX11_promise_85
                · have hkc : v < 12 := by have := n_lt (b := 12) c61 (by omega) (by omega); omega
                  refine lv_aload_n hx hb dX11_promise_64 rfl (lv_at hl 1 rfl) ?_
                  refine lv_iload_n hx hb dX11_promise_65 rfl (lv_at hl 2 rfl) ?_
                  refine lv_iload_n hx hb dX11_promise_66 rfl (lv_at hl 3 rfl) ?_
                  refine lv_iload hx hb dX11_promise_67 (lv_at hl 0 rfl) ?_
                  refine cc_v (va_runV (b := s0.heap.size + 104) (As := [.int (nI a), .int nn, .int (nI v)]) (rest := []) ⟨hx, hb, hml, hown, hts⟩ (ct_X11_isTrue (i := a) (wk := v) (nn := nn) hE ⟨_, hR⟩ ha (by omega) (hC.of rfl)) (cwV 3 hts (lw_V q1129 q1131 qs44 q61 q1132) rfl rfl rfl (by decide +kernel) ⟨Nat.le_of_ble_eq_true rfl, Nat.le_of_ble_eq_true rfl⟩) (cc_pV hW0 (cc_re hK hR.mo (show gcl[10]? = _ from rfl))) rfl rfl hl.1 rfl (lv_room (Nat.le_of_ble_eq_true rfl)) dX11_promise_69 ⟨Nat.le_of_ble_eq_true rfl, Nat.le_of_ble_eq_true rfl⟩) hL (fun H locs hP1 hL => ?_)
                  subst hP1
                  refine gx_ti (bZ (m_tr M a nn v (12 - v))) (congrArg bZ (m_tr_c (M := M) (M' := mz M 0 0) rfl rfl rfl a nn v (12 - v))) ?_
                  refine lv_if_eq (tgt := 78) hx hb dX11_promise_72 (by decide) (fun c72 => ?_) (fun c72 => ?_)
                  · have hv2 : m_pr M a nn (12 - (v + 1)) (v + 1) = m_pr M a nn (12 - b) b := by rw [← hv, show 12 - v = (12 - (v + 1)) + 1 by omega, m_pr, if_neg (by rw [bZ_0.mp c72]; decide)]
                    refine lv_iinc (v := nI (v + 1)) (lv' := [(4, .int (nI (v + 1))), (0, .ref (s0.heap.size + 104)), (1, .int (nI a)), (2, .int nn)]) hx hb dX11_promise_78 hl (k := 0) rfl (nI_1 v) (by decide) rfl (fun ls hl => ?_)
                    refine lv_goto (tgt := 57) hx hb dX11_promise_81 (by decide) ?_
                    exact ih (v + 1) _ _ (by omega) (by omega) (hv2) (lv_sub hl [0, 1, 2, 3] rfl) hL
                  · have hv2 : nI v = m_pr M a nn (12 - b) b := by rw [← hv, show 12 - v = (12 - (v + 1)) + 1 by omega, m_pr, if_pos (bZ_1.mp c72)]
                    refine lv_iload hx hb dX11_promise_75 (lv_at hl 0 rfl) ?_
                    exact W.iret (v := (nI v)) hx hb hr (fun t ht hW => ⟨ovI (by rw [m_prr_0 ha hb2 hx0]; exact hv2), by rw [ht]; exact (by rw [hx0]; exact ⟨_, hR⟩)⟩) hL dX11_promise_77
            refine lv_iload_n hx hb dX11_promise_54 rfl (lv_at hl 3 rfl) ?_
            refine lv_istore (lv' := [(4, .int (nI b)), (0, .ref (s0.heap.size + 104)), (1, .int (nI a)), (2, .int nn), (3, .int (nI b))]) hx hb dX11_promise_55 hl (by decide) rfl (fun ls hl => ?_)
            exact key 13 b _ _ (by omega) (by omega) rfl (lv_sub hl [0, 1, 2, 3] rfl) hL
          · exact absurd c49 (by decide)
        · refine lv_iconst (v := 3) hx hb dX11_promise_41 (by decide) ?_
          refine lv_goto (tgt := 46) hx hb dX11_promise_42 (by decide) ?_
          refine cc_v (va_runV (b := s0.heap.size + 104) (As := [.int 3]) (rest := []) ⟨hx, hb, hml, hown, hts⟩ (ct_X11_refused hE ⟨_, hR⟩ 3) (cwV 1 hts (lw_V q983 q985 qs23 q61 q986) rfl rfl rfl (by decide +kernel) ⟨Nat.le_of_ble_eq_true rfl, Nat.le_of_ble_eq_true rfl⟩) (cc_pV hW0 (cc_re hK hR.mo (show gcl[10]? = _ from rfl))) rfl rfl hl.1 rfl (lv_room (Nat.le_of_ble_eq_true rfl)) dX11_promise_46 ⟨Nat.le_of_ble_eq_true rfl, Nat.le_of_ble_eq_true rfl⟩) hL (fun H locs hP1 hL => ?_)
          obtain ⟨Y, hR⟩ := hP1
          refine lv_if_eq (tgt := 54) hx hb dX11_promise_49 (by decide) (fun c49 => ?_) (fun c49 => ?_)
          · exact absurd c49 (by decide)
          · refine lv_iconst (v := 0) hx hb dX11_promise_52 (by decide) ?_
            exact W.iret (v := 0) hx hb hr (fun t ht hW => ⟨ovI (by rw [m_prr, xp_3 (by rw [bZ_1.mp c5, bZ_1.mp c12]; rfl) (bZ_1.mp c27) c38]; rfl), by rw [ht]; exact (by rw [xp_3 (by rw [bZ_1.mp c5, bZ_1.mp c12]; rfl) (bZ_1.mp c27) c38]; exact ⟨_, hR⟩)⟩) hL dX11_promise_53
      · refine lv_iconst (v := 2) hx hb dX11_promise_30 (by decide) ?_
        refine lv_goto (tgt := 46) hx hb dX11_promise_31 (by decide) ?_
        refine cc_v (va_runV (b := s0.heap.size + 104) (As := [.int 2]) (rest := []) ⟨hx, hb, hml, hown, hts⟩ (ct_X11_refused hE ⟨_, hR⟩ 2) (cwV 1 hts (lw_V q983 q985 qs23 q61 q986) rfl rfl rfl (by decide +kernel) ⟨Nat.le_of_ble_eq_true rfl, Nat.le_of_ble_eq_true rfl⟩) (cc_pV hW0 (cc_re hK hR.mo (show gcl[10]? = _ from rfl))) rfl rfl hl.1 rfl (lv_room (Nat.le_of_ble_eq_true rfl)) dX11_promise_46 ⟨Nat.le_of_ble_eq_true rfl, Nat.le_of_ble_eq_true rfl⟩) hL (fun H locs hP1 hL => ?_)
        obtain ⟨Y, hR⟩ := hP1
        refine lv_if_eq (tgt := 54) hx hb dX11_promise_49 (by decide) (fun c49 => ?_) (fun c49 => ?_)
        · exact absurd c49 (by decide)
        · refine lv_iconst (v := 0) hx hb dX11_promise_52 (by decide) ?_
          exact W.iret (v := 0) hx hb hr (fun t ht hW => ⟨ovI (by rw [m_prr, xp_2 (by rw [bZ_1.mp c5, bZ_1.mp c12]; rfl) (bZ_0.mp c27)]; rfl), by rw [ht]; exact (by rw [xp_2 (by rw [bZ_1.mp c5, bZ_1.mp c12]; rfl) (bZ_0.mp c27)]; exact ⟨_, hR⟩)⟩) hL dX11_promise_53
    · refine lv_iconst (v := 1) hx hb dX11_promise_15 (by decide) ?_
      refine lv_goto (tgt := 46) hx hb dX11_promise_16 (by decide) ?_
      refine cc_v (va_runV (b := s0.heap.size + 104) (As := [.int 1]) (rest := []) ⟨hx, hb, hml, hown, hts⟩ (ct_X11_refused hE ⟨_, hR⟩ 1) (cwV 1 hts (lw_V q983 q985 qs23 q61 q986) rfl rfl rfl (by decide +kernel) ⟨Nat.le_of_ble_eq_true rfl, Nat.le_of_ble_eq_true rfl⟩) (cc_pV hW0 (cc_re hK hR.mo (show gcl[10]? = _ from rfl))) rfl rfl hl.1 rfl (lv_room (Nat.le_of_ble_eq_true rfl)) dX11_promise_46 ⟨Nat.le_of_ble_eq_true rfl, Nat.le_of_ble_eq_true rfl⟩) hL (fun H locs hP1 hL => ?_)
      obtain ⟨Y, hR⟩ := hP1
      refine lv_if_eq (tgt := 54) hx hb dX11_promise_49 (by decide) (fun c49 => ?_) (fun c49 => ?_)
      · exact absurd c49 (by decide)
      · refine lv_iconst (v := 0) hx hb dX11_promise_52 (by decide) ?_
        exact W.iret (v := 0) hx hb hr (fun t ht hW => ⟨ovI (by rw [m_prr, xp_1 (by rw [bZ_0.mp c12, Bool.and_false])]; rfl), by rw [ht]; exact (by rw [xp_1 (by rw [bZ_0.mp c12, Bool.and_false])]; exact ⟨_, hR⟩)⟩) hL dX11_promise_53
set_option maxHeartbeats 4000000 in
set_option maxRecDepth 100000 in
/-- reserve -/
theorem ct_X11_reserve {l : Launch} {s0 : State} {D : va_G} {DA : Nat → ClassId} {z0 : Nat} {C : CS} {M : MS} {o : Int64} {H : Heap} (hE : G0 l s0 D DA z0) (hR : RR s0 D DA z0 C M o H) (i nn w : Int32) (hC : MC M) : Met l yX11_reserve (ws_ yX11_reserve cX11_reserve 5 (some .int)) ({ frames := 3, cells := 0, slots := 0, locals := 73 }) (cP s0 [.ref (s0.heap.size + 104), .int i, .int nn, .int w] H) (cQv (.int (m_resr M i nn w)) (fun H1 => RR s0 D DA z0 C (m_res M i nn w) o H1)) 0 0 (cF s0) := by
  refine Met.ofW (cc := cX11_reserve) (maxL := 5) (ret := (some .int)) (by decide) rfl ?_
  intro p e s m args below meth c s₁ Bd hml hv
  obtain ⟨rfl, rfl, hW0⟩ := hv
  have hx := Bd.exec
  have hb := Bd.bytes
  have hr := Bd.returns
  have hts := atoms_spec (ws := (ws_ yX11_reserve cX11_reserve 5 (some .int))) Bd.pre
  have hts : ∀ w ∈ lw_all, w.before _ s = true := fun w h => hts w (List.mem_cons_of_mem _ h)
  have hown : s.vm.findClass RX11 = some m.cls := findClass_of_methodNamed Bd.named
  have hlocks := Bd.notSynchronized
  have hK := va_K.moved hW0.alike hE.K
  have hL : gx_L s0.heap.size ([] : List Loc) := gx_L0
  obtain ⟨Y, hR⟩ := hR
  have hl := lv_entry ([.ref (s0.heap.size + 104), .int i, .int nn, .int w]) (n := 5) (Nat.le_of_ble_eq_true rfl)
  rw [lg_entry_eq]
  generalize (lg_sl ([.ref (s0.heap.size + 104), .int i, .int nn, .int w]) ++ List.replicate (5 - (lg_sl ([.ref (s0.heap.size + 104), .int i, .int nn, .int w])).length) Slot.unset).toArray = ls at hl ⊢
  have hl : lv_has ls 5 [(0, .ref (s0.heap.size + 104)), (1, .int i), (2, .int nn), (3, .int w)] := hl
  refine lv_iload_n hx hb dX11_reserve_0 rfl (lv_at hl 1 rfl) ?_
  refine cc_v (va_runS (As := [.int i]) (rest := []) ⟨hx, hb, hml, hown, hts⟩ (ct_X11_isTwelve hE i) (va_cwS 1 hts (lw_S q980 q981 q61 q982) rfl rfl rfl (by decide +kernel) ⟨Nat.le_of_ble_eq_true rfl, Nat.le_of_ble_eq_true rfl⟩) (cc_pS hW0) rfl rfl hl.1 rfl (lv_room (Nat.le_of_ble_eq_true rfl)) dX11_reserve_1 ⟨Nat.le_of_ble_eq_true rfl, Nat.le_of_ble_eq_true rfl⟩) hL (fun H locs hP1 hL => ?_)
  subst hP1
  refine lv_if_eq (tgt := 18) hx hb dX11_reserve_4 (by decide) (fun c4 => ?_) (fun c4 => ?_)
  · refine lv_iconst (v := 0) hx hb dX11_reserve_18 (by decide) ?_
    refine lv_istore (lv' := [(4, .int 0), (0, .ref (s0.heap.size + 104)), (1, .int i), (2, .int nn), (3, .int w)]) hx hb dX11_reserve_19 hl (by decide) rfl (fun ls hl => ?_)
    refine lv_aload_n hx hb dX11_reserve_21 rfl (lv_at hl 1 rfl) ?_
    refine lv_iload hx hb dX11_reserve_22 (lv_at hl 0 rfl) ?_
    refine lv_if_ne (tgt := 31) hx hb dX11_reserve_24 (by decide) (fun c24 => ?_) (fun c24 => ?_)
    · exact absurd rfl c24
    · refine lv_iconst (v := 1) hx hb dX11_reserve_27 (by decide) ?_
      refine lv_goto (tgt := 69) hx hb dX11_reserve_28 (by decide) ?_
      refine cc_v (va_runV (b := s0.heap.size + 104) (As := [.int 1]) (rest := []) ⟨hx, hb, hml, hown, hts⟩ (ct_X11_refused hE ⟨_, hR⟩ 1) (cwV 1 hts (lw_V q983 q985 qs23 q61 q986) rfl rfl rfl (by decide +kernel) ⟨Nat.le_of_ble_eq_true rfl, Nat.le_of_ble_eq_true rfl⟩) (cc_pV hW0 (cc_re hK hR.mo (show gcl[10]? = _ from rfl))) rfl rfl hl.1 rfl (lv_room (Nat.le_of_ble_eq_true rfl)) dX11_reserve_69 ⟨Nat.le_of_ble_eq_true rfl, Nat.le_of_ble_eq_true rfl⟩) hL (fun H locs hP1 hL => ?_)
      obtain ⟨Y, hR⟩ := hP1
      refine lv_if_eq (tgt := 77) hx hb dX11_reserve_72 (by decide) (fun c72 => ?_) (fun c72 => ?_)
      · exact absurd c72 (by decide)
      · refine lv_iconst (v := 0) hx hb dX11_reserve_75 (by decide) ?_
        exact W.iret (v := 0) hx hb hr (fun t ht hW => ⟨ovI (m_res_x (xr_1 (by rw [bZ_0.mp c4]; rfl)) (by decide)).2.symm, by rw [ht]; exact (RR_M ((m_res_x (xr_1 (by rw [bZ_0.mp c4]; rfl)) (by decide)).1) ⟨_, hR⟩)⟩) hL dX11_reserve_76
  · refine lv_iload_n hx hb dX11_reserve_7 rfl (lv_at hl 3 rfl) ?_
    refine cc_v (va_runS (As := [.int w]) (rest := []) ⟨hx, hb, hml, hown, hts⟩ (ct_X11_isTwelve hE w) (va_cwS 1 hts (lw_S q980 q981 q61 q982) rfl rfl rfl (by decide +kernel) ⟨Nat.le_of_ble_eq_true rfl, Nat.le_of_ble_eq_true rfl⟩) (cc_pS hW0) rfl rfl hl.1 rfl (lv_room (Nat.le_of_ble_eq_true rfl)) dX11_reserve_8 ⟨Nat.le_of_ble_eq_true rfl, Nat.le_of_ble_eq_true rfl⟩) hL (fun H locs hP1 hL => ?_)
    subst hP1
    refine lv_if_eq (tgt := 18) hx hb dX11_reserve_11 (by decide) (fun c11 => ?_) (fun c11 => ?_)
    · refine lv_iconst (v := 0) hx hb dX11_reserve_18 (by decide) ?_
      refine lv_istore (lv' := [(4, .int 0), (0, .ref (s0.heap.size + 104)), (1, .int i), (2, .int nn), (3, .int w)]) hx hb dX11_reserve_19 hl (by decide) rfl (fun ls hl => ?_)
      refine lv_aload_n hx hb dX11_reserve_21 rfl (lv_at hl 1 rfl) ?_
      refine lv_iload hx hb dX11_reserve_22 (lv_at hl 0 rfl) ?_
      refine lv_if_ne (tgt := 31) hx hb dX11_reserve_24 (by decide) (fun c24 => ?_) (fun c24 => ?_)
      · exact absurd rfl c24
      · refine lv_iconst (v := 1) hx hb dX11_reserve_27 (by decide) ?_
        refine lv_goto (tgt := 69) hx hb dX11_reserve_28 (by decide) ?_
        refine cc_v (va_runV (b := s0.heap.size + 104) (As := [.int 1]) (rest := []) ⟨hx, hb, hml, hown, hts⟩ (ct_X11_refused hE ⟨_, hR⟩ 1) (cwV 1 hts (lw_V q983 q985 qs23 q61 q986) rfl rfl rfl (by decide +kernel) ⟨Nat.le_of_ble_eq_true rfl, Nat.le_of_ble_eq_true rfl⟩) (cc_pV hW0 (cc_re hK hR.mo (show gcl[10]? = _ from rfl))) rfl rfl hl.1 rfl (lv_room (Nat.le_of_ble_eq_true rfl)) dX11_reserve_69 ⟨Nat.le_of_ble_eq_true rfl, Nat.le_of_ble_eq_true rfl⟩) hL (fun H locs hP1 hL => ?_)
        obtain ⟨Y, hR⟩ := hP1
        refine lv_if_eq (tgt := 77) hx hb dX11_reserve_72 (by decide) (fun c72 => ?_) (fun c72 => ?_)
        · exact absurd c72 (by decide)
        · refine lv_iconst (v := 0) hx hb dX11_reserve_75 (by decide) ?_
          exact W.iret (v := 0) hx hb hr (fun t ht hW => ⟨ovI (m_res_x (xr_1 (by rw [bZ_0.mp c11, Bool.and_false])) (by decide)).2.symm, by rw [ht]; exact (RR_M ((m_res_x (xr_1 (by rw [bZ_0.mp c11, Bool.and_false])) (by decide)).1) ⟨_, hR⟩)⟩) hL dX11_reserve_76
    · refine lv_iconst (v := 1) hx hb dX11_reserve_14 (by decide) ?_
      refine lv_goto (tgt := 19) hx hb dX11_reserve_15 (by decide) ?_
      refine lv_istore (lv' := [(4, .int 1), (0, .ref (s0.heap.size + 104)), (1, .int i), (2, .int nn), (3, .int w)]) hx hb dX11_reserve_19 hl (by decide) rfl (fun ls hl => ?_)
      refine lv_aload_n hx hb dX11_reserve_21 rfl (lv_at hl 1 rfl) ?_
      refine lv_iload hx hb dX11_reserve_22 (lv_at hl 0 rfl) ?_
      refine lv_if_ne (tgt := 31) hx hb dX11_reserve_24 (by decide) (fun c24 => ?_) (fun c24 => ?_)
      · refine lv_iload_n hx hb dX11_reserve_31 rfl (lv_at hl 3 rfl) ?_
        refine lv_iconst (v := 1) hx hb dX11_reserve_32 (by decide) ?_
        refine lv_sipush (v := 1000) hx hb dX11_reserve_33 (by decide) ?_
        refine cc_v (va_runS (As := [.int nn, .int 1, .int 1000]) (rest := [.ref (s0.heap.size + 104)]) ⟨hx, hb, hml, hown, hts⟩ (ct_X11_isIn hE nn 1 1000) (va_cwS 3 hts (lw_S q977 q978 q61 q979) rfl rfl rfl (by decide +kernel) ⟨Nat.le_of_ble_eq_true rfl, Nat.le_of_ble_eq_true rfl⟩) (cc_pS hW0) rfl rfl hl.1 rfl (lv_room (Nat.le_of_ble_eq_true rfl)) dX11_reserve_36 ⟨Nat.le_of_ble_eq_true rfl, Nat.le_of_ble_eq_true rfl⟩) hL (fun H locs hP1 hL => ?_)
        subst hP1
        refine lv_if_ne (tgt := 46) hx hb dX11_reserve_39 (by decide) (fun c39 => ?_) (fun c39 => ?_)
        · refine lv_aload_n hx hb dX11_reserve_46 rfl (lv_at hl 1 rfl) ?_
          refine gx_get (D := D) (cl := gcl) (ci := 10) (v := .int (mS M 20)) (C := RX11) (T := TX11) (N := 27) hx hb hts in_X11 hown hK hR.mo rfl 20 (by decide) (hts _ q906) (fun _ h9 => h9) rfl dX11_reserve_47 ?_
          refine lv_if_ne (tgt := 64) hx hb dX11_reserve_50 (by decide) (fun c50 => ?_) (fun c50 => ?_)
          · refine lv_iconst (v := 3) hx hb dX11_reserve_64 (by decide) ?_
            refine lv_goto (tgt := 69) hx hb dX11_reserve_65 (by decide) ?_
            refine cc_v (va_runV (b := s0.heap.size + 104) (As := [.int 3]) (rest := []) ⟨hx, hb, hml, hown, hts⟩ (ct_X11_refused hE ⟨_, hR⟩ 3) (cwV 1 hts (lw_V q983 q985 qs23 q61 q986) rfl rfl rfl (by decide +kernel) ⟨Nat.le_of_ble_eq_true rfl, Nat.le_of_ble_eq_true rfl⟩) (cc_pV hW0 (cc_re hK hR.mo (show gcl[10]? = _ from rfl))) rfl rfl hl.1 rfl (lv_room (Nat.le_of_ble_eq_true rfl)) dX11_reserve_69 ⟨Nat.le_of_ble_eq_true rfl, Nat.le_of_ble_eq_true rfl⟩) hL (fun H locs hP1 hL => ?_)
            obtain ⟨Y, hR⟩ := hP1
            refine lv_if_eq (tgt := 77) hx hb dX11_reserve_72 (by decide) (fun c72 => ?_) (fun c72 => ?_)
            · exact absurd c72 (by decide)
            · refine lv_iconst (v := 0) hx hb dX11_reserve_75 (by decide) ?_
              exact W.iret (v := 0) hx hb hr (fun t ht hW => ⟨ovI (m_res_x (xr_3 (by rw [bZ_1.mp c4, bZ_1.mp c11]; rfl) (bZ_1.mp c39) (fun q => c50 q.1)) (by decide)).2.symm, by rw [ht]; exact (RR_M ((m_res_x (xr_3 (by rw [bZ_1.mp c4, bZ_1.mp c11]; rfl) (bZ_1.mp c39) (fun q => c50 q.1)) (by decide)).1) ⟨_, hR⟩)⟩) hL dX11_reserve_76
          · refine lv_aload_n hx hb dX11_reserve_53 rfl (lv_at hl 1 rfl) ?_
            refine gx_get (D := D) (cl := gcl) (ci := 10) (v := .ref (mad s0.heap.size 13)) (C := RX11) (T := TX11) (N := 27) hx hb hts in_X11 hown hK hR.mo rfl 15 (by decide) (hts _ q901) (fun _ h9 => h9) rfl dX11_reserve_54 ?_
            refine lv_iconst (v := 2) hx hb dX11_reserve_57 (by decide) ?_
            refine gx_iald (n := 3) hx hb hK 1 (hR.mia 13 (by decide)) rfl 2 ((by decide)) (by omega) (by decide) dX11_reserve_58 ?_
            refine lv_bipush (v := 24) hx hb dX11_reserve_59 (by decide) ?_
            refine lv_icmp_ne (tgt := 68) hx hb dX11_reserve_61 (by decide) (fun c61 => ?_) (fun c61 => ?_)
            · obtain ⟨a, ha, rfl⟩ := in12_t (bZ_1.mp c4)
              obtain ⟨b, hb2, rfl⟩ := in12_t (bZ_1.mp c11)
              have hx0 : x_res M (nI a) nn (nI b) = 0 := xr_0 (by rw [in12_n ha, in12_n hb2]; rfl) (bZ_1.mp c39) ⟨c50, c61⟩
              have hc2 : mCt M 2 < 24 := by have h1 := hC.c24 (K := 2) (by decide); have h2 := hC.ct (K := 2) (by decide); rcases Nat.lt_or_ge (mCt M 2) 24 with q | q; exact q; exact absurd (by rw [h2, show mCt M 2 = 24 by omega]; decide) c61
              refine lv_iconst (v := 0) hx hb dX11_reserve_68 (by decide) ?_
              refine cc_v (va_runV (b := s0.heap.size + 104) (As := [.int 0]) (rest := []) ⟨hx, hb, hml, hown, hts⟩ (ct_X11_refused hE ⟨_, hR⟩ 0) (cwV 1 hts (lw_V q983 q985 qs23 q61 q986) rfl rfl rfl (by decide +kernel) ⟨Nat.le_of_ble_eq_true rfl, Nat.le_of_ble_eq_true rfl⟩) (cc_pV hW0 (cc_re hK hR.mo (show gcl[10]? = _ from rfl))) rfl rfl hl.1 rfl (lv_room (Nat.le_of_ble_eq_true rfl)) dX11_reserve_69 ⟨Nat.le_of_ble_eq_true rfl, Nat.le_of_ble_eq_true rfl⟩) hL (fun H locs hP1 hL => ?_)
              obtain ⟨Y, hR⟩ := hP1
              refine lv_if_eq (tgt := 77) hx hb dX11_reserve_72 (by decide) (fun c72 => ?_) (fun c72 => ?_)
              · refine lv_aload_n hx hb dX11_reserve_77 rfl (lv_at hl 1 rfl) ?_
                refine lv_iload_n hx hb dX11_reserve_78 rfl (lv_at hl 2 rfl) ?_
                refine lv_iload_n hx hb dX11_reserve_79 rfl (lv_at hl 3 rfl) ?_
                refine lv_iload_n hx hb dX11_reserve_80 rfl (lv_at hl 4 rfl) ?_
                refine cc_v (va_runV (b := s0.heap.size + 104) (As := [.int (nI a), .int nn, .int (nI b)]) (rest := []) ⟨hx, hb, hml, hown, hts⟩ (ct_X11_isTrue (i := a) (wk := b) (nn := nn) hE ⟨_, hR⟩ ha (by omega) (hC.of rfl)) (cwV 3 hts (lw_V q1129 q1131 qs44 q61 q1132) rfl rfl rfl (by decide +kernel) ⟨Nat.le_of_ble_eq_true rfl, Nat.le_of_ble_eq_true rfl⟩) (cc_pV hW0 (cc_re hK hR.mo (show gcl[10]? = _ from rfl))) rfl rfl hl.1 rfl (lv_room (Nat.le_of_ble_eq_true rfl)) dX11_reserve_81 ⟨Nat.le_of_ble_eq_true rfl, Nat.le_of_ble_eq_true rfl⟩) hL (fun H locs hP1 hL => ?_)
                subst hP1
                refine gx_ti (bZ (m_tr M a nn b (12 - b))) (congrArg bZ (m_tr_c (M := M) (M' := mz M 0 0) rfl rfl rfl a nn b (12 - b))) ?_
                refine lv_if_eq (tgt := 98) hx hb dX11_reserve_84 (by decide) (fun c84 => ?_) (fun c84 => ?_)
                · have hq := m_res_f ha hb2 hx0 (bZ_0.mp c84)
                  refine lv_iconst (v := (-1)) hx hb dX11_reserve_98 (by decide) ?_
                  exact W.iret (v := (-1)) hx hb hr (fun t ht hW => ⟨ovI hq.2.symm, by rw [ht]; exact (RR_M (hq.1) ⟨_, hR⟩)⟩) hL dX11_reserve_99
                · have hq := m_res_t ha hb2 hx0 (bZ_1.mp c84)
                  refine lv_aload_n hx hb dX11_reserve_87 rfl (lv_at hl 1 rfl) ?_
                  refine lv_iconst (v := 2) hx hb dX11_reserve_88 (by decide) ?_
                  refine gx_ti (nI 2) (by decide) ?_
                  refine lv_iload_n hx hb dX11_reserve_89 rfl (lv_at hl 2 rfl) ?_
                  refine lv_iload_n hx hb dX11_reserve_90 rfl (lv_at hl 4 rfl) ?_
                  refine lv_iload_n hx hb dX11_reserve_91 rfl (lv_at hl 3 rfl) ?_
                  refine cc_v (va_runV (b := s0.heap.size + 104) (As := [.int (nI 2), .int (nI a), .int (nI b), .int nn]) (rest := []) ⟨hx, hb, hml, hown, hts⟩ (ct_X11_add (K := 2) hE ⟨_, hR⟩ (by decide) (nI a) (nI b) nn hc2 (hC.of rfl)) (cwV 4 hts (lw_V q1028 q1030 qs29 q61 q1031) rfl rfl rfl (by decide +kernel) ⟨Nat.le_of_ble_eq_true rfl, Nat.le_of_ble_eq_true rfl⟩) (cc_pV hW0 (cc_re hK hR.mo (show gcl[10]? = _ from rfl))) rfl rfl hl.1 rfl (lv_room (Nat.le_of_ble_eq_true rfl)) dX11_reserve_92 ⟨Nat.le_of_ble_eq_true rfl, Nat.le_of_ble_eq_true rfl⟩) hL (fun H locs hP1 hL => ?_)
                  obtain ⟨Y, hR⟩ := hP1
                  refine lv_goto (tgt := 99) hx hb dX11_reserve_95 (by decide) ?_
                  exact W.iret (v := (nI (mCt M 2))) hx hb hr (fun t ht hW => ⟨ovI hq.2.symm, by rw [ht]; exact (RR_M (hq.1) ⟨_, hR⟩)⟩) hL dX11_reserve_99
              · exact absurd c72 (by decide)
            · refine lv_iconst (v := 3) hx hb dX11_reserve_64 (by decide) ?_
              refine lv_goto (tgt := 69) hx hb dX11_reserve_65 (by decide) ?_
              refine cc_v (va_runV (b := s0.heap.size + 104) (As := [.int 3]) (rest := []) ⟨hx, hb, hml, hown, hts⟩ (ct_X11_refused hE ⟨_, hR⟩ 3) (cwV 1 hts (lw_V q983 q985 qs23 q61 q986) rfl rfl rfl (by decide +kernel) ⟨Nat.le_of_ble_eq_true rfl, Nat.le_of_ble_eq_true rfl⟩) (cc_pV hW0 (cc_re hK hR.mo (show gcl[10]? = _ from rfl))) rfl rfl hl.1 rfl (lv_room (Nat.le_of_ble_eq_true rfl)) dX11_reserve_69 ⟨Nat.le_of_ble_eq_true rfl, Nat.le_of_ble_eq_true rfl⟩) hL (fun H locs hP1 hL => ?_)
              obtain ⟨Y, hR⟩ := hP1
              refine lv_if_eq (tgt := 77) hx hb dX11_reserve_72 (by decide) (fun c72 => ?_) (fun c72 => ?_)
              · exact absurd c72 (by decide)
              · refine lv_iconst (v := 0) hx hb dX11_reserve_75 (by decide) ?_
                exact W.iret (v := 0) hx hb hr (fun t ht hW => ⟨ovI (m_res_x (xr_3 (by rw [bZ_1.mp c4, bZ_1.mp c11]; rfl) (bZ_1.mp c39) (fun q => q.2 c61)) (by decide)).2.symm, by rw [ht]; exact (RR_M ((m_res_x (xr_3 (by rw [bZ_1.mp c4, bZ_1.mp c11]; rfl) (bZ_1.mp c39) (fun q => q.2 c61)) (by decide)).1) ⟨_, hR⟩)⟩) hL dX11_reserve_76
        · refine lv_iconst (v := 2) hx hb dX11_reserve_42 (by decide) ?_
          refine lv_goto (tgt := 69) hx hb dX11_reserve_43 (by decide) ?_
          refine cc_v (va_runV (b := s0.heap.size + 104) (As := [.int 2]) (rest := []) ⟨hx, hb, hml, hown, hts⟩ (ct_X11_refused hE ⟨_, hR⟩ 2) (cwV 1 hts (lw_V q983 q985 qs23 q61 q986) rfl rfl rfl (by decide +kernel) ⟨Nat.le_of_ble_eq_true rfl, Nat.le_of_ble_eq_true rfl⟩) (cc_pV hW0 (cc_re hK hR.mo (show gcl[10]? = _ from rfl))) rfl rfl hl.1 rfl (lv_room (Nat.le_of_ble_eq_true rfl)) dX11_reserve_69 ⟨Nat.le_of_ble_eq_true rfl, Nat.le_of_ble_eq_true rfl⟩) hL (fun H locs hP1 hL => ?_)
          obtain ⟨Y, hR⟩ := hP1
          refine lv_if_eq (tgt := 77) hx hb dX11_reserve_72 (by decide) (fun c72 => ?_) (fun c72 => ?_)
          · exact absurd c72 (by decide)
          · refine lv_iconst (v := 0) hx hb dX11_reserve_75 (by decide) ?_
            exact W.iret (v := 0) hx hb hr (fun t ht hW => ⟨ovI (m_res_x (xr_2 (by rw [bZ_1.mp c4, bZ_1.mp c11]; rfl) (bZ_0.mp c39)) (by decide)).2.symm, by rw [ht]; exact (RR_M ((m_res_x (xr_2 (by rw [bZ_1.mp c4, bZ_1.mp c11]; rfl) (bZ_0.mp c39)) (by decide)).1) ⟨_, hR⟩)⟩) hL dX11_reserve_76
      · exact absurd c24 (by decide)
set_option maxHeartbeats 4000000 in
set_option maxRecDepth 100000 in
/-- supplied, kind 1 -/
theorem ct_X11_supplied1 {l : Launch} {s0 : State} {D : va_G} {DA : Nat → ClassId} {z0 : Nat} {C : CS} {M : MS} {o : Int64} {H : Heap} (hE : G0 l s0 D DA z0) (hR : RR s0 D DA z0 C M o H) {i v b : Nat} (hi : i < 12) (hb12 : b < 12) (hv : v < mCt M 1) (eb : mI M 15 (24 + v) = nI b) (hC : MC M) : Met l yX11_supplied (ws_ yX11_supplied cX11_supplied 9 (some .long)) ({ frames := 1, cells := 0, slots := 0, locals := 25 }) (cP s0 [.ref (s0.heap.size + 104), .int (nI i), .int 1, .int (nI v)] H) (cQv (.long (m_supr M i b false v)) (fun H1 => H1 = H)) 0 0 (cF s0) := by
  refine Met.ofW (cc := cX11_supplied) (maxL := 9) (ret := (some .long)) (by decide) rfl ?_
  intro p e s m args below meth c s₁ Bd hml hv
  obtain ⟨rfl, rfl, hW0⟩ := hv
  have hx := Bd.exec
  have hb := Bd.bytes
  have hr := Bd.returns
  have hts := atoms_spec (ws := (ws_ yX11_supplied cX11_supplied 9 (some .long))) Bd.pre
  have hts : ∀ w ∈ lw_all, w.before _ s = true := fun w h => hts w (List.mem_cons_of_mem _ h)
  have hown : s.vm.findClass RX11 = some m.cls := findClass_of_methodNamed Bd.named
  have hlocks := Bd.notSynchronized
  have hK := va_K.moved hW0.alike hE.K
  have hL : gx_L s0.heap.size ([] : List Loc) := gx_L0
  obtain ⟨Y, hR⟩ := hR
  have hl := lv_entry ([.ref (s0.heap.size + 104), .int (nI i), .int 1, .int (nI v)]) (n := 9) (Nat.le_of_ble_eq_true rfl)
  rw [lg_entry_eq]
  generalize (lg_sl ([.ref (s0.heap.size + 104), .int (nI i), .int 1, .int (nI v)]) ++ List.replicate (9 - (lg_sl ([.ref (s0.heap.size + 104), .int (nI i), .int 1, .int (nI v)])).length) Slot.unset).toArray = ls at hl ⊢
  have hl : lv_has ls 9 [(0, .ref (s0.heap.size + 104)), (1, .int (nI i)), (2, .int 1), (3, .int (nI v))] := hl
  have key : ∀ (n : Nat) (k : Nat) (locs : List Loc) (ls : Array Slot), k ≤ mCt M 1 → mCt M 1 < k + n → lv_has ls 9 [(5, .long (m_sup M i b false v k)), (7, .int (nI (24 + k))), (0, .ref (s0.heap.size + 104)), (1, .int (nI i)), (2, .int 1), (3, .int (nI v)), (4, .int (nI b))] → gx_L s0.heap.size locs → W p l e (headSpec (ws_ yX11_supplied cX11_supplied 9 (some .long)) ({ frames := 1, cells := 0, slots := 0, locals := 25 })).room s m ([.ref (s0.heap.size + 104), .int (nI i), .int 1, .int (nI v)] : List Value).toArray below meth c s.heap locs 0 0 (MQ below (cQv (.long (m_supr M i b false v)) (fun H1 => H1 = s.heap)) ([.ref (s0.heap.size + 104), .int (nI i), .int 1, .int (nI v)] : List Value).toArray s 0 0 (cF s0)) (F0 m 33 ls []) := by
    intro n
    induction n with
    | zero =>
      intro k locs ls hk hn hl hL
      omega
    | succ n ih =>
      intro k locs ls hk hn hl hL
      have c24 := hC.c24 (K := 1) (by decide)
      refine lv_iload hx hb dX11_supplied_33 (lv_at hl 1 rfl) ?_
      refine lv_bipush (v := 24) hx hb dX11_supplied_35 (by decide) ?_
      refine lv_aload_n hx hb dX11_supplied_37 rfl (lv_at hl 2 rfl) ?_
      refine gx_get (D := D) (cl := gcl) (ci := 10) (v := .ref (mad s0.heap.size 13)) (C := RX11) (T := TX11) (N := 27) hx hb hts in_X11 hown hK hR.mo rfl 15 (by decide) (hts _ q901) (fun _ h9 => h9) rfl dX11_supplied_38 ?_
      refine lv_iconst (v := 1) hx hb dX11_supplied_41 (by decide) ?_
      refine gx_iald (n := 3) hx hb hK 1 (hR.mia 13 (by decide)) rfl 1 (by decide) (by decide) (by decide) dX11_supplied_42 ?_
      refine gx_ti (nI (mCt M 1)) (hC.ct (by decide)) ?_
      refine lv_iadd hx hb dX11_supplied_43 ?_
      refine gx_ti (nI (24 + (mCt M 1))) (nI_add 24 (mCt M 1)) ?_
      refine lv_icmp_ge (tgt := 132) hx hb dX11_supplied_44 (by decide) (fun c44 => ?_) (fun c44 => ?_)
      · have hkc : k = mCt M 1 := by have := n_ge c44 (by omega) (by omega); omega
        subst hkc
        refine lv_lload hx hb dX11_supplied_132 (lv_at hl 0 rfl) ?_
        refine lv_iload hx hb dX11_supplied_134 (lv_at hl 6 rfl) ?_
        refine lv_if_le (tgt := 154) hx hb dX11_supplied_136 (by decide) (fun c136 => ?_) (fun c136 => ?_)
        · refine lv_lconst (v := 0) hx hb dX11_supplied_154 (by decide) ?_
          refine lv_ladd hx hb dX11_supplied_155 ?_
          exact W.lret (v := ((m_sup M i b false v (mCt M 1)) + 0)) hx hb hr (fun t ht hW => ⟨ovJ (by rw [m_supr, if_neg (by have := n_ge (b := b) (a := 0) c136 (by omega) (by omega); omega)]), ht⟩) hL dX11_supplied_156
        · have h0 : 0 < b := by have := n_lt (b := b) (a := 0) c136 (by omega) (by omega); omega
          refine lv_aload_n hx hb dX11_supplied_139 rfl (lv_at hl 2 rfl) ?_
          refine gx_get (D := D) (cl := gcl) (ci := 10) (v := .ref (mad s0.heap.size 19)) (C := RX11) (T := TX11) (N := 27) hx hb hts in_X11 hown hK hR.mo rfl 23 (by decide) (hts _ q909) (fun _ h9 => h9) rfl dX11_supplied_140 ?_
          refine lv_iload_n hx hb dX11_supplied_143 rfl (lv_at hl 3 rfl) ?_
          refine lv_iload hx hb dX11_supplied_144 (lv_at hl 6 rfl) ?_
          refine lv_iconst (v := 1) hx hb dX11_supplied_146 (by decide) ?_
          refine lv_isub hx hb dX11_supplied_147 ?_
          refine gx_ti (nI (b - 1)) (by exact pk_sub (a := b) (b := 1) h0) ?_
          refine cc_v (va_runS (As := [.ref (mad s0.heap.size 19), .int (nI i), .int (nI (b - 1))]) (rest := [.long (m_sup M i b false v (mCt M 1))]) ⟨hx, hb, hml, hown, hts⟩ (ct_X11_upTo (f := mL M 19) (a := mad s0.heap.size 19) (n1 := 144) (n0 := b) (i := i) (wk := nI (b - 1)) hE (hR.mla 19 (by decide) (by decide)) (by decide) (by omega) (fun k h1 h2 => by have := n_gt h2 (by omega) (by omega); omega) (fun k h1 h2 => by have := n_le h2 (by omega) (by omega); omega) (fun k h1 => by omega)) (va_cwS 3 hts (lw_S q1074 q1075 q61 q1076) rfl rfl rfl (by decide +kernel) ⟨Nat.le_of_ble_eq_true rfl, Nat.le_of_ble_eq_true rfl⟩) (cc_pS hW0) rfl rfl hl.1 rfl (lv_room (Nat.le_of_ble_eq_true rfl)) dX11_supplied_148 ⟨Nat.le_of_ble_eq_true rfl, Nat.le_of_ble_eq_true rfl⟩) hL (fun H locs hP1 hL => ?_)
          subst hP1
          refine lv_goto (tgt := 155) hx hb dX11_supplied_151 (by decide) ?_
          refine lv_ladd hx hb dX11_supplied_155 ?_
          exact W.lret (v := ((m_sup M i b false v (mCt M 1)) + (m_up (mL M 19) i b))) hx hb hr (fun t ht hW => ⟨ovJ (by rw [m_supr, if_pos h0]), ht⟩) hL dX11_supplied_156
      · have hkc : k < mCt M 1 := by have := n_lt c44 (by omega) (by omega); omega
        refine lv_aload_n hx hb dX11_supplied_47 rfl (lv_at hl 2 rfl) ?_
        refine gx_get (D := D) (cl := gcl) (ci := 10) (v := .ref (mad s0.heap.size 15)) (C := RX11) (T := TX11) (N := 27) hx hb hts in_X11 hown hK hR.mo rfl 17 (by decide) (hts _ q903) (fun _ h9 => h9) rfl dX11_supplied_48 ?_
        refine lv_iload hx hb dX11_supplied_51 (lv_at hl 1 rfl) ?_
        refine gx_iald (n := 72) hx hb hK 1 (hR.mia 15 (by decide)) rfl (24 + k) (rfl) (by omega) (by decide) dX11_supplied_53 ?_
        refine lv_iload hx hb dX11_supplied_54 (lv_at hl 6 rfl) ?_
        refine lv_icmp_ne (tgt := 77) hx hb dX11_supplied_56 (by decide) (fun c56 => ?_) (fun c56 => ?_)
        · refine lv_iconst (v := 0) hx hb dX11_supplied_77 (by decide) ?_
          have hs : ¬ (mI M 15 (24 + k) = nI b ∧ (false = true ∨ k < v)) := fun q => c56 q.1
          refine lv_istore (lv' := [(8, .int 0), (5, .long (m_sup M i b false v k)), (7, .int (nI (24 + k))), (0, .ref (s0.heap.size + 104)), (1, .int (nI i)), (2, .int 1), (3, .int (nI v)), (4, .int (nI b))]) hx hb dX11_supplied_78 hl (by decide) rfl (fun ls hl => ?_)
          refine lv_aload_n hx hb dX11_supplied_80 rfl (lv_at hl 3 rfl) ?_
          refine gx_get (D := D) (cl := gcl) (ci := 10) (v := .ref (mad s0.heap.size 14)) (C := RX11) (T := TX11) (N := 27) hx hb hts in_X11 hown hK hR.mo rfl 16 (by decide) (hts _ q902) (fun _ h9 => h9) rfl dX11_supplied_81 ?_
          refine lv_iload hx hb dX11_supplied_84 (lv_at hl 2 rfl) ?_
          refine gx_iald (n := 72) hx hb hK 1 (hR.mia 14 (by decide)) rfl (24 + k) (rfl) (by omega) (by decide) dX11_supplied_86 ?_
          refine lv_iload_n hx hb dX11_supplied_87 rfl (lv_at hl 4 rfl) ?_
          refine lv_icmp_ne (tgt := 122) hx hb dX11_supplied_88 (by decide) (fun c88 => ?_) (fun c88 => ?_)
          · refine lv_lload hx hb dX11_supplied_122 (lv_at hl 1 rfl) ?_
            refine gx_tl (m_sup M i b false v (k + 1)) (by rw [m_sup, if_neg (fun q => c88 q.1)]) ?_
            refine lv_lstore (lv' := [(5, .long (m_sup M i b false v (k + 1))), (8, .int 0), (7, .int (nI (24 + k))), (0, .ref (s0.heap.size + 104)), (1, .int (nI i)), (2, .int 1), (3, .int (nI v)), (4, .int (nI b))]) hx hb dX11_supplied_124 hl (by decide) rfl (fun ls hl => ?_)
            refine lv_iinc (v := nI (24 + (k + 1))) (lv' := [(7, .int (nI (24 + (k + 1)))), (5, .long (m_sup M i b false v (k + 1))), (8, .int 0), (0, .ref (s0.heap.size + 104)), (1, .int (nI i)), (2, .int 1), (3, .int (nI v)), (4, .int (nI b))]) hx hb dX11_supplied_126 hl (k := 2) rfl (nI_1 (24 + k)) (by decide) rfl (fun ls hl => ?_)
            refine lv_goto (tgt := 33) hx hb dX11_supplied_129 (by decide) ?_
            exact ih (k + 1) _ _ (by omega) (by omega) (lv_sub hl [1, 0, 3, 4, 5, 6, 7] rfl) hL
          · refine lv_aload_n hx hb dX11_supplied_91 rfl (lv_at hl 3 rfl) ?_
            refine gx_get (D := D) (cl := gcl) (ci := 10) (v := .ref (mad s0.heap.size 15)) (C := RX11) (T := TX11) (N := 27) hx hb hts in_X11 hown hK hR.mo rfl 17 (by decide) (hts _ q903) (fun _ h9 => h9) rfl dX11_supplied_92 ?_
            refine lv_iload hx hb dX11_supplied_95 (lv_at hl 2 rfl) ?_
            refine gx_iald (n := 72) hx hb hK 1 (hR.mia 15 (by decide)) rfl (24 + k) (rfl) (by omega) (by decide) dX11_supplied_97 ?_
            refine lv_iload hx hb dX11_supplied_98 (lv_at hl 7 rfl) ?_
            refine lv_icmp_lt (tgt := 108) hx hb dX11_supplied_100 (by decide) (fun c100 => ?_) (fun c100 => ?_)
            · refine lv_lload hx hb dX11_supplied_108 (lv_at hl 1 rfl) ?_
              refine lv_aload_n hx hb dX11_supplied_110 rfl (lv_at hl 3 rfl) ?_
              refine gx_get (D := D) (cl := gcl) (ci := 10) (v := .ref (mad s0.heap.size 16)) (C := RX11) (T := TX11) (N := 27) hx hb hts in_X11 hown hK hR.mo rfl 18 (by decide) (hts _ q904) (fun _ h9 => h9) rfl dX11_supplied_111 ?_
              refine lv_iload hx hb dX11_supplied_114 (lv_at hl 2 rfl) ?_
              refine gx_iald (n := 72) hx hb hK 1 (hR.mia 16 (by decide)) rfl (24 + k) (rfl) (by omega) (by decide) dX11_supplied_116 ?_
              refine lv_i2l (v := (mI M 16 (24 + k)).toInt64) hx hb dX11_supplied_117 rfl ?_
              refine lv_ladd hx hb dX11_supplied_118 ?_
              refine lv_goto (tgt := 124) hx hb dX11_supplied_119 (by decide) ?_
              refine gx_tl (m_sup M i b false v (k + 1)) (by rw [m_sup, if_pos ⟨c88, Or.inl c100⟩]) ?_
              refine lv_lstore (lv' := [(5, .long (m_sup M i b false v (k + 1))), (8, .int 0), (7, .int (nI (24 + k))), (0, .ref (s0.heap.size + 104)), (1, .int (nI i)), (2, .int 1), (3, .int (nI v)), (4, .int (nI b))]) hx hb dX11_supplied_124 hl (by decide) rfl (fun ls hl => ?_)
              refine lv_iinc (v := nI (24 + (k + 1))) (lv' := [(7, .int (nI (24 + (k + 1)))), (5, .long (m_sup M i b false v (k + 1))), (8, .int 0), (0, .ref (s0.heap.size + 104)), (1, .int (nI i)), (2, .int 1), (3, .int (nI v)), (4, .int (nI b))]) hx hb dX11_supplied_126 hl (k := 2) rfl (nI_1 (24 + k)) (by decide) rfl (fun ls hl => ?_)
              refine lv_goto (tgt := 33) hx hb dX11_supplied_129 (by decide) ?_
              exact ih (k + 1) _ _ (by omega) (by omega) (lv_sub hl [1, 0, 3, 4, 5, 6, 7] rfl) hL
            · refine lv_iload hx hb dX11_supplied_103 (lv_at hl 0 rfl) ?_
              refine lv_if_eq (tgt := 122) hx hb dX11_supplied_105 (by decide) (fun c105 => ?_) (fun c105 => ?_)
              · refine lv_lload hx hb dX11_supplied_122 (lv_at hl 1 rfl) ?_
                refine gx_tl (m_sup M i b false v (k + 1)) (by rw [m_sup, if_neg (fun q => q.2.elim c100 hs)]) ?_
                refine lv_lstore (lv' := [(5, .long (m_sup M i b false v (k + 1))), (8, .int 0), (7, .int (nI (24 + k))), (0, .ref (s0.heap.size + 104)), (1, .int (nI i)), (2, .int 1), (3, .int (nI v)), (4, .int (nI b))]) hx hb dX11_supplied_124 hl (by decide) rfl (fun ls hl => ?_)
                refine lv_iinc (v := nI (24 + (k + 1))) (lv' := [(7, .int (nI (24 + (k + 1)))), (5, .long (m_sup M i b false v (k + 1))), (8, .int 0), (0, .ref (s0.heap.size + 104)), (1, .int (nI i)), (2, .int 1), (3, .int (nI v)), (4, .int (nI b))]) hx hb dX11_supplied_126 hl (k := 2) rfl (nI_1 (24 + k)) (by decide) rfl (fun ls hl => ?_)
                refine lv_goto (tgt := 33) hx hb dX11_supplied_129 (by decide) ?_
                exact ih (k + 1) _ _ (by omega) (by omega) (lv_sub hl [1, 0, 3, 4, 5, 6, 7] rfl) hL
              · exact absurd rfl c105
        · refine lv_iload_n hx hb dX11_supplied_59 rfl (lv_at hl 4 rfl) ?_
          refine lv_iconst (v := 2) hx hb dX11_supplied_60 (by decide) ?_
          refine lv_icmp_eq (tgt := 73) hx hb dX11_supplied_61 (by decide) (fun c61 => ?_) (fun c61 => ?_)
          · exact absurd c61 (by decide)
          · refine lv_iload hx hb dX11_supplied_64 (lv_at hl 1 rfl) ?_
            refine lv_bipush (v := 24) hx hb dX11_supplied_66 (by decide) ?_
            refine lv_iload_n hx hb dX11_supplied_68 rfl (lv_at hl 5 rfl) ?_
            refine lv_iadd hx hb dX11_supplied_69 ?_
            refine gx_ti (nI (24 + v)) (nI_add 24 v) ?_
            refine lv_icmp_ge (tgt := 77) hx hb dX11_supplied_70 (by decide) (fun c70 => ?_) (fun c70 => ?_)
            · refine lv_iconst (v := 0) hx hb dX11_supplied_77 (by decide) ?_
              have hs : ¬ (mI M 15 (24 + k) = nI b ∧ (false = true ∨ k < v)) := fun q => q.2.elim (fun z => by cases z) (fun z => absurd z (by have := n_ge c70 (by omega) (by omega); omega))
              refine lv_istore (lv' := [(8, .int 0), (5, .long (m_sup M i b false v k)), (7, .int (nI (24 + k))), (0, .ref (s0.heap.size + 104)), (1, .int (nI i)), (2, .int 1), (3, .int (nI v)), (4, .int (nI b))]) hx hb dX11_supplied_78 hl (by decide) rfl (fun ls hl => ?_)
              refine lv_aload_n hx hb dX11_supplied_80 rfl (lv_at hl 3 rfl) ?_
              refine gx_get (D := D) (cl := gcl) (ci := 10) (v := .ref (mad s0.heap.size 14)) (C := RX11) (T := TX11) (N := 27) hx hb hts in_X11 hown hK hR.mo rfl 16 (by decide) (hts _ q902) (fun _ h9 => h9) rfl dX11_supplied_81 ?_
              refine lv_iload hx hb dX11_supplied_84 (lv_at hl 2 rfl) ?_
              refine gx_iald (n := 72) hx hb hK 1 (hR.mia 14 (by decide)) rfl (24 + k) (rfl) (by omega) (by decide) dX11_supplied_86 ?_
              refine lv_iload_n hx hb dX11_supplied_87 rfl (lv_at hl 4 rfl) ?_
              refine lv_icmp_ne (tgt := 122) hx hb dX11_supplied_88 (by decide) (fun c88 => ?_) (fun c88 => ?_)
              · refine lv_lload hx hb dX11_supplied_122 (lv_at hl 1 rfl) ?_
                refine gx_tl (m_sup M i b false v (k + 1)) (by rw [m_sup, if_neg (fun q => c88 q.1)]) ?_
                refine lv_lstore (lv' := [(5, .long (m_sup M i b false v (k + 1))), (8, .int 0), (7, .int (nI (24 + k))), (0, .ref (s0.heap.size + 104)), (1, .int (nI i)), (2, .int 1), (3, .int (nI v)), (4, .int (nI b))]) hx hb dX11_supplied_124 hl (by decide) rfl (fun ls hl => ?_)
                refine lv_iinc (v := nI (24 + (k + 1))) (lv' := [(7, .int (nI (24 + (k + 1)))), (5, .long (m_sup M i b false v (k + 1))), (8, .int 0), (0, .ref (s0.heap.size + 104)), (1, .int (nI i)), (2, .int 1), (3, .int (nI v)), (4, .int (nI b))]) hx hb dX11_supplied_126 hl (k := 2) rfl (nI_1 (24 + k)) (by decide) rfl (fun ls hl => ?_)
                refine lv_goto (tgt := 33) hx hb dX11_supplied_129 (by decide) ?_
                exact ih (k + 1) _ _ (by omega) (by omega) (lv_sub hl [1, 0, 3, 4, 5, 6, 7] rfl) hL
              · refine lv_aload_n hx hb dX11_supplied_91 rfl (lv_at hl 3 rfl) ?_
                refine gx_get (D := D) (cl := gcl) (ci := 10) (v := .ref (mad s0.heap.size 15)) (C := RX11) (T := TX11) (N := 27) hx hb hts in_X11 hown hK hR.mo rfl 17 (by decide) (hts _ q903) (fun _ h9 => h9) rfl dX11_supplied_92 ?_
                refine lv_iload hx hb dX11_supplied_95 (lv_at hl 2 rfl) ?_
                refine gx_iald (n := 72) hx hb hK 1 (hR.mia 15 (by decide)) rfl (24 + k) (rfl) (by omega) (by decide) dX11_supplied_97 ?_
                refine lv_iload hx hb dX11_supplied_98 (lv_at hl 7 rfl) ?_
                refine lv_icmp_lt (tgt := 108) hx hb dX11_supplied_100 (by decide) (fun c100 => ?_) (fun c100 => ?_)
                · refine lv_lload hx hb dX11_supplied_108 (lv_at hl 1 rfl) ?_
                  refine lv_aload_n hx hb dX11_supplied_110 rfl (lv_at hl 3 rfl) ?_
                  refine gx_get (D := D) (cl := gcl) (ci := 10) (v := .ref (mad s0.heap.size 16)) (C := RX11) (T := TX11) (N := 27) hx hb hts in_X11 hown hK hR.mo rfl 18 (by decide) (hts _ q904) (fun _ h9 => h9) rfl dX11_supplied_111 ?_
                  refine lv_iload hx hb dX11_supplied_114 (lv_at hl 2 rfl) ?_
                  refine gx_iald (n := 72) hx hb hK 1 (hR.mia 16 (by decide)) rfl (24 + k) (rfl) (by omega) (by decide) dX11_supplied_116 ?_
                  refine lv_i2l (v := (mI M 16 (24 + k)).toInt64) hx hb dX11_supplied_117 rfl ?_
                  refine lv_ladd hx hb dX11_supplied_118 ?_
                  refine lv_goto (tgt := 124) hx hb dX11_supplied_119 (by decide) ?_
                  refine gx_tl (m_sup M i b false v (k + 1)) (by rw [m_sup, if_pos ⟨c88, Or.inl c100⟩]) ?_
                  refine lv_lstore (lv' := [(5, .long (m_sup M i b false v (k + 1))), (8, .int 0), (7, .int (nI (24 + k))), (0, .ref (s0.heap.size + 104)), (1, .int (nI i)), (2, .int 1), (3, .int (nI v)), (4, .int (nI b))]) hx hb dX11_supplied_124 hl (by decide) rfl (fun ls hl => ?_)
                  refine lv_iinc (v := nI (24 + (k + 1))) (lv' := [(7, .int (nI (24 + (k + 1)))), (5, .long (m_sup M i b false v (k + 1))), (8, .int 0), (0, .ref (s0.heap.size + 104)), (1, .int (nI i)), (2, .int 1), (3, .int (nI v)), (4, .int (nI b))]) hx hb dX11_supplied_126 hl (k := 2) rfl (nI_1 (24 + k)) (by decide) rfl (fun ls hl => ?_)
                  refine lv_goto (tgt := 33) hx hb dX11_supplied_129 (by decide) ?_
                  exact ih (k + 1) _ _ (by omega) (by omega) (lv_sub hl [1, 0, 3, 4, 5, 6, 7] rfl) hL
                · refine lv_iload hx hb dX11_supplied_103 (lv_at hl 0 rfl) ?_
                  refine lv_if_eq (tgt := 122) hx hb dX11_supplied_105 (by decide) (fun c105 => ?_) (fun c105 => ?_)
                  · refine lv_lload hx hb dX11_supplied_122 (lv_at hl 1 rfl) ?_
                    refine gx_tl (m_sup M i b false v (k + 1)) (by rw [m_sup, if_neg (fun q => q.2.elim c100 hs)]) ?_
                    refine lv_lstore (lv' := [(5, .long (m_sup M i b false v (k + 1))), (8, .int 0), (7, .int (nI (24 + k))), (0, .ref (s0.heap.size + 104)), (1, .int (nI i)), (2, .int 1), (3, .int (nI v)), (4, .int (nI b))]) hx hb dX11_supplied_124 hl (by decide) rfl (fun ls hl => ?_)
                    refine lv_iinc (v := nI (24 + (k + 1))) (lv' := [(7, .int (nI (24 + (k + 1)))), (5, .long (m_sup M i b false v (k + 1))), (8, .int 0), (0, .ref (s0.heap.size + 104)), (1, .int (nI i)), (2, .int 1), (3, .int (nI v)), (4, .int (nI b))]) hx hb dX11_supplied_126 hl (k := 2) rfl (nI_1 (24 + k)) (by decide) rfl (fun ls hl => ?_)
                    refine lv_goto (tgt := 33) hx hb dX11_supplied_129 (by decide) ?_
                    exact ih (k + 1) _ _ (by omega) (by omega) (lv_sub hl [1, 0, 3, 4, 5, 6, 7] rfl) hL
                  · exact absurd rfl c105
            · refine lv_iconst (v := 1) hx hb dX11_supplied_73 (by decide) ?_
              refine lv_goto (tgt := 78) hx hb dX11_supplied_74 (by decide) ?_
              have hs : (mI M 15 (24 + k) = nI b ∧ (false = true ∨ k < v)) := ⟨c56, Or.inr (by have := n_lt c70 (by omega) (by omega); omega)⟩
              refine lv_istore (lv' := [(8, .int 1), (5, .long (m_sup M i b false v k)), (7, .int (nI (24 + k))), (0, .ref (s0.heap.size + 104)), (1, .int (nI i)), (2, .int 1), (3, .int (nI v)), (4, .int (nI b))]) hx hb dX11_supplied_78 hl (by decide) rfl (fun ls hl => ?_)
              refine lv_aload_n hx hb dX11_supplied_80 rfl (lv_at hl 3 rfl) ?_
              refine gx_get (D := D) (cl := gcl) (ci := 10) (v := .ref (mad s0.heap.size 14)) (C := RX11) (T := TX11) (N := 27) hx hb hts in_X11 hown hK hR.mo rfl 16 (by decide) (hts _ q902) (fun _ h9 => h9) rfl dX11_supplied_81 ?_
              refine lv_iload hx hb dX11_supplied_84 (lv_at hl 2 rfl) ?_
              refine gx_iald (n := 72) hx hb hK 1 (hR.mia 14 (by decide)) rfl (24 + k) (rfl) (by omega) (by decide) dX11_supplied_86 ?_
              refine lv_iload_n hx hb dX11_supplied_87 rfl (lv_at hl 4 rfl) ?_
              refine lv_icmp_ne (tgt := 122) hx hb dX11_supplied_88 (by decide) (fun c88 => ?_) (fun c88 => ?_)
              · refine lv_lload hx hb dX11_supplied_122 (lv_at hl 1 rfl) ?_
                refine gx_tl (m_sup M i b false v (k + 1)) (by rw [m_sup, if_neg (fun q => c88 q.1)]) ?_
                refine lv_lstore (lv' := [(5, .long (m_sup M i b false v (k + 1))), (8, .int 1), (7, .int (nI (24 + k))), (0, .ref (s0.heap.size + 104)), (1, .int (nI i)), (2, .int 1), (3, .int (nI v)), (4, .int (nI b))]) hx hb dX11_supplied_124 hl (by decide) rfl (fun ls hl => ?_)
                refine lv_iinc (v := nI (24 + (k + 1))) (lv' := [(7, .int (nI (24 + (k + 1)))), (5, .long (m_sup M i b false v (k + 1))), (8, .int 1), (0, .ref (s0.heap.size + 104)), (1, .int (nI i)), (2, .int 1), (3, .int (nI v)), (4, .int (nI b))]) hx hb dX11_supplied_126 hl (k := 2) rfl (nI_1 (24 + k)) (by decide) rfl (fun ls hl => ?_)
                refine lv_goto (tgt := 33) hx hb dX11_supplied_129 (by decide) ?_
                exact ih (k + 1) _ _ (by omega) (by omega) (lv_sub hl [1, 0, 3, 4, 5, 6, 7] rfl) hL
              · refine lv_aload_n hx hb dX11_supplied_91 rfl (lv_at hl 3 rfl) ?_
                refine gx_get (D := D) (cl := gcl) (ci := 10) (v := .ref (mad s0.heap.size 15)) (C := RX11) (T := TX11) (N := 27) hx hb hts in_X11 hown hK hR.mo rfl 17 (by decide) (hts _ q903) (fun _ h9 => h9) rfl dX11_supplied_92 ?_
                refine lv_iload hx hb dX11_supplied_95 (lv_at hl 2 rfl) ?_
                refine gx_iald (n := 72) hx hb hK 1 (hR.mia 15 (by decide)) rfl (24 + k) (rfl) (by omega) (by decide) dX11_supplied_97 ?_
                refine lv_iload hx hb dX11_supplied_98 (lv_at hl 7 rfl) ?_
                refine lv_icmp_lt (tgt := 108) hx hb dX11_supplied_100 (by decide) (fun c100 => ?_) (fun c100 => ?_)
                · refine lv_lload hx hb dX11_supplied_108 (lv_at hl 1 rfl) ?_
                  refine lv_aload_n hx hb dX11_supplied_110 rfl (lv_at hl 3 rfl) ?_
                  refine gx_get (D := D) (cl := gcl) (ci := 10) (v := .ref (mad s0.heap.size 16)) (C := RX11) (T := TX11) (N := 27) hx hb hts in_X11 hown hK hR.mo rfl 18 (by decide) (hts _ q904) (fun _ h9 => h9) rfl dX11_supplied_111 ?_
                  refine lv_iload hx hb dX11_supplied_114 (lv_at hl 2 rfl) ?_
                  refine gx_iald (n := 72) hx hb hK 1 (hR.mia 16 (by decide)) rfl (24 + k) (rfl) (by omega) (by decide) dX11_supplied_116 ?_
                  refine lv_i2l (v := (mI M 16 (24 + k)).toInt64) hx hb dX11_supplied_117 rfl ?_
                  refine lv_ladd hx hb dX11_supplied_118 ?_
                  refine lv_goto (tgt := 124) hx hb dX11_supplied_119 (by decide) ?_
                  refine gx_tl (m_sup M i b false v (k + 1)) (by rw [m_sup, if_pos ⟨c88, Or.inl c100⟩]) ?_
                  refine lv_lstore (lv' := [(5, .long (m_sup M i b false v (k + 1))), (8, .int 1), (7, .int (nI (24 + k))), (0, .ref (s0.heap.size + 104)), (1, .int (nI i)), (2, .int 1), (3, .int (nI v)), (4, .int (nI b))]) hx hb dX11_supplied_124 hl (by decide) rfl (fun ls hl => ?_)
                  refine lv_iinc (v := nI (24 + (k + 1))) (lv' := [(7, .int (nI (24 + (k + 1)))), (5, .long (m_sup M i b false v (k + 1))), (8, .int 1), (0, .ref (s0.heap.size + 104)), (1, .int (nI i)), (2, .int 1), (3, .int (nI v)), (4, .int (nI b))]) hx hb dX11_supplied_126 hl (k := 2) rfl (nI_1 (24 + k)) (by decide) rfl (fun ls hl => ?_)
                  refine lv_goto (tgt := 33) hx hb dX11_supplied_129 (by decide) ?_
                  exact ih (k + 1) _ _ (by omega) (by omega) (lv_sub hl [1, 0, 3, 4, 5, 6, 7] rfl) hL
                · refine lv_iload hx hb dX11_supplied_103 (lv_at hl 0 rfl) ?_
                  refine lv_if_eq (tgt := 122) hx hb dX11_supplied_105 (by decide) (fun c105 => ?_) (fun c105 => ?_)
                  · exact absurd c105 (by decide)
                  · refine lv_lload hx hb dX11_supplied_108 (lv_at hl 1 rfl) ?_
                    refine lv_aload_n hx hb dX11_supplied_110 rfl (lv_at hl 3 rfl) ?_
                    refine gx_get (D := D) (cl := gcl) (ci := 10) (v := .ref (mad s0.heap.size 16)) (C := RX11) (T := TX11) (N := 27) hx hb hts in_X11 hown hK hR.mo rfl 18 (by decide) (hts _ q904) (fun _ h9 => h9) rfl dX11_supplied_111 ?_
                    refine lv_iload hx hb dX11_supplied_114 (lv_at hl 2 rfl) ?_
                    refine gx_iald (n := 72) hx hb hK 1 (hR.mia 16 (by decide)) rfl (24 + k) (rfl) (by omega) (by decide) dX11_supplied_116 ?_
                    refine lv_i2l (v := (mI M 16 (24 + k)).toInt64) hx hb dX11_supplied_117 rfl ?_
                    refine lv_ladd hx hb dX11_supplied_118 ?_
                    refine lv_goto (tgt := 124) hx hb dX11_supplied_119 (by decide) ?_
                    refine gx_tl (m_sup M i b false v (k + 1)) (by rw [m_sup, if_pos ⟨c88, Or.inr hs⟩]) ?_
                    refine lv_lstore (lv' := [(5, .long (m_sup M i b false v (k + 1))), (8, .int 1), (7, .int (nI (24 + k))), (0, .ref (s0.heap.size + 104)), (1, .int (nI i)), (2, .int 1), (3, .int (nI v)), (4, .int (nI b))]) hx hb dX11_supplied_124 hl (by decide) rfl (fun ls hl => ?_)
                    refine lv_iinc (v := nI (24 + (k + 1))) (lv' := [(7, .int (nI (24 + (k + 1)))), (5, .long (m_sup M i b false v (k + 1))), (8, .int 1), (0, .ref (s0.heap.size + 104)), (1, .int (nI i)), (2, .int 1), (3, .int (nI v)), (4, .int (nI b))]) hx hb dX11_supplied_126 hl (k := 2) rfl (nI_1 (24 + k)) (by decide) rfl (fun ls hl => ?_)
                    refine lv_goto (tgt := 33) hx hb dX11_supplied_129 (by decide) ?_
                    exact ih (k + 1) _ _ (by omega) (by omega) (lv_sub hl [1, 0, 3, 4, 5, 6, 7] rfl) hL
  have c24 := hC.c24 (K := 1) (by decide)
  refine lv_iload_n hx hb dX11_supplied_0 rfl (lv_at hl 2 rfl) ?_
  refine lv_iconst (v := 1) hx hb dX11_supplied_1 (by decide) ?_
  refine lv_icmp_ne (tgt := 17) hx hb dX11_supplied_2 (by decide) (fun c2 => ?_) (fun c2 => ?_)
  · exact absurd rfl c2
  · refine lv_aload_n hx hb dX11_supplied_5 rfl (lv_at hl 0 rfl) ?_
    refine gx_get (D := D) (cl := gcl) (ci := 10) (v := .ref (mad s0.heap.size 15)) (C := RX11) (T := TX11) (N := 27) hx hb hts in_X11 hown hK hR.mo rfl 17 (by decide) (hts _ q903) (fun _ h9 => h9) rfl dX11_supplied_6 ?_
    refine lv_bipush (v := 24) hx hb dX11_supplied_9 (by decide) ?_
    refine lv_iload_n hx hb dX11_supplied_11 rfl (lv_at hl 3 rfl) ?_
    refine lv_iadd hx hb dX11_supplied_12 ?_
    refine gx_ti (nI (24 + v)) (nI_add 24 v) ?_
    refine gx_iald (n := 72) hx hb hK 1 (hR.mia 15 (by decide)) rfl (24 + v) (rfl) (by omega) (by decide) dX11_supplied_13 ?_
    refine gx_ti (nI b) (eb) ?_
    refine lv_goto (tgt := 18) hx hb dX11_supplied_14 (by decide) ?_
    refine lv_istore (lv' := [(4, .int (nI b)), (0, .ref (s0.heap.size + 104)), (1, .int (nI i)), (2, .int 1), (3, .int (nI v))]) hx hb dX11_supplied_18 hl (by decide) rfl (fun ls hl => ?_)
    refine lv_aload_n hx hb dX11_supplied_20 rfl (lv_at hl 1 rfl) ?_
    refine gx_get (D := D) (cl := gcl) (ci := 10) (v := .ref (mad s0.heap.size 7)) (C := RX11) (T := TX11) (N := 27) hx hb hts in_X11 hown hK hR.mo rfl 8 (by decide) (hts _ q894) (fun _ h9 => h9) rfl dX11_supplied_21 ?_
    refine lv_iload_n hx hb dX11_supplied_24 rfl (lv_at hl 2 rfl) ?_
    refine gx_iald (n := 12) hx hb hK 1 (hR.mia 7 (by decide)) rfl i (rfl) (by omega) (by decide) dX11_supplied_25 ?_
    refine lv_i2l (v := (mI M 7 i).toInt64) hx hb dX11_supplied_26 rfl ?_
    refine gx_tl (m_sup M i b false v 0) (rfl) ?_
    refine lv_lstore (lv' := [(5, .long (m_sup M i b false v 0)), (4, .int (nI b)), (0, .ref (s0.heap.size + 104)), (1, .int (nI i)), (2, .int 1), (3, .int (nI v))]) hx hb dX11_supplied_27 hl (by decide) rfl (fun ls hl => ?_)
    refine lv_bipush (v := 24) hx hb dX11_supplied_29 (by decide) ?_
    refine gx_ti (nI (24 + 0)) (rfl) ?_
    refine lv_istore (lv' := [(7, .int (nI (24 + 0))), (5, .long (m_sup M i b false v 0)), (4, .int (nI b)), (0, .ref (s0.heap.size + 104)), (1, .int (nI i)), (2, .int 1), (3, .int (nI v))]) hx hb dX11_supplied_31 hl (by decide) rfl (fun ls hl => ?_)
    exact key (mCt M 1 + 1) 0 _ _ (by omega) (by omega) (lv_sub hl [1, 0, 3, 4, 5, 6, 2] rfl) hL
set_option maxHeartbeats 4000000 in
set_option maxRecDepth 100000 in
/-- supplied, kind 2 -/
theorem ct_X11_supplied2 {l : Launch} {s0 : State} {D : va_G} {DA : Nat → ClassId} {z0 : Nat} {C : CS} {M : MS} {o : Int64} {H : Heap} (hE : G0 l s0 D DA z0) (hR : RR s0 D DA z0 C M o H) {i b : Nat} (hi : i < 12) (hb12 : b < 12) (hC : MC M) : Met l yX11_supplied (ws_ yX11_supplied cX11_supplied 9 (some .long)) ({ frames := 1, cells := 0, slots := 0, locals := 25 }) (cP s0 [.ref (s0.heap.size + 104), .int (nI i), .int 2, .int (nI b)] H) (cQv (.long (m_supr M i b true b)) (fun H1 => H1 = H)) 0 0 (cF s0) := by
  refine Met.ofW (cc := cX11_supplied) (maxL := 9) (ret := (some .long)) (by decide) rfl ?_
  intro p e s m args below meth c s₁ Bd hml hv
  obtain ⟨rfl, rfl, hW0⟩ := hv
  have hx := Bd.exec
  have hb := Bd.bytes
  have hr := Bd.returns
  have hts := atoms_spec (ws := (ws_ yX11_supplied cX11_supplied 9 (some .long))) Bd.pre
  have hts : ∀ w ∈ lw_all, w.before _ s = true := fun w h => hts w (List.mem_cons_of_mem _ h)
  have hown : s.vm.findClass RX11 = some m.cls := findClass_of_methodNamed Bd.named
  have hlocks := Bd.notSynchronized
  have hK := va_K.moved hW0.alike hE.K
  have hL : gx_L s0.heap.size ([] : List Loc) := gx_L0
  obtain ⟨Y, hR⟩ := hR
  have hl := lv_entry ([.ref (s0.heap.size + 104), .int (nI i), .int 2, .int (nI b)]) (n := 9) (Nat.le_of_ble_eq_true rfl)
  rw [lg_entry_eq]
  generalize (lg_sl ([.ref (s0.heap.size + 104), .int (nI i), .int 2, .int (nI b)]) ++ List.replicate (9 - (lg_sl ([.ref (s0.heap.size + 104), .int (nI i), .int 2, .int (nI b)])).length) Slot.unset).toArray = ls at hl ⊢
  have hl : lv_has ls 9 [(0, .ref (s0.heap.size + 104)), (1, .int (nI i)), (2, .int 2), (3, .int (nI b))] := hl
  have key : ∀ (n : Nat) (k : Nat) (locs : List Loc) (ls : Array Slot), k ≤ mCt M 1 → mCt M 1 < k + n → lv_has ls 9 [(5, .long (m_sup M i b true b k)), (7, .int (nI (24 + k))), (0, .ref (s0.heap.size + 104)), (1, .int (nI i)), (2, .int 2), (3, .int (nI b)), (4, .int (nI b))] → gx_L s0.heap.size locs → W p l e (headSpec (ws_ yX11_supplied cX11_supplied 9 (some .long)) ({ frames := 1, cells := 0, slots := 0, locals := 25 })).room s m ([.ref (s0.heap.size + 104), .int (nI i), .int 2, .int (nI b)] : List Value).toArray below meth c s.heap locs 0 0 (MQ below (cQv (.long (m_supr M i b true b)) (fun H1 => H1 = s.heap)) ([.ref (s0.heap.size + 104), .int (nI i), .int 2, .int (nI b)] : List Value).toArray s 0 0 (cF s0)) (F0 m 33 ls []) := by
    intro n
    induction n with
    | zero =>
      intro k locs ls hk hn hl hL
      omega
    | succ n ih =>
      intro k locs ls hk hn hl hL
      have c24 := hC.c24 (K := 1) (by decide)
      refine lv_iload hx hb dX11_supplied_33 (lv_at hl 1 rfl) ?_
      refine lv_bipush (v := 24) hx hb dX11_supplied_35 (by decide) ?_
      refine lv_aload_n hx hb dX11_supplied_37 rfl (lv_at hl 2 rfl) ?_
      refine gx_get (D := D) (cl := gcl) (ci := 10) (v := .ref (mad s0.heap.size 13)) (C := RX11) (T := TX11) (N := 27) hx hb hts in_X11 hown hK hR.mo rfl 15 (by decide) (hts _ q901) (fun _ h9 => h9) rfl dX11_supplied_38 ?_
      refine lv_iconst (v := 1) hx hb dX11_supplied_41 (by decide) ?_
      refine gx_iald (n := 3) hx hb hK 1 (hR.mia 13 (by decide)) rfl 1 (by decide) (by decide) (by decide) dX11_supplied_42 ?_
      refine gx_ti (nI (mCt M 1)) (hC.ct (by decide)) ?_
      refine lv_iadd hx hb dX11_supplied_43 ?_
      refine gx_ti (nI (24 + (mCt M 1))) (nI_add 24 (mCt M 1)) ?_
      refine lv_icmp_ge (tgt := 132) hx hb dX11_supplied_44 (by decide) (fun c44 => ?_) (fun c44 => ?_)
      · have hkc : k = mCt M 1 := by have := n_ge c44 (by omega) (by omega); omega
        subst hkc
        refine lv_lload hx hb dX11_supplied_132 (lv_at hl 0 rfl) ?_
        refine lv_iload hx hb dX11_supplied_134 (lv_at hl 6 rfl) ?_
        refine lv_if_le (tgt := 154) hx hb dX11_supplied_136 (by decide) (fun c136 => ?_) (fun c136 => ?_)
        · refine lv_lconst (v := 0) hx hb dX11_supplied_154 (by decide) ?_
          refine lv_ladd hx hb dX11_supplied_155 ?_
          exact W.lret (v := ((m_sup M i b true b (mCt M 1)) + 0)) hx hb hr (fun t ht hW => ⟨ovJ (by rw [m_supr, if_neg (by have := n_ge (b := b) (a := 0) c136 (by omega) (by omega); omega)]), ht⟩) hL dX11_supplied_156
        · have h0 : 0 < b := by have := n_lt (b := b) (a := 0) c136 (by omega) (by omega); omega
          refine lv_aload_n hx hb dX11_supplied_139 rfl (lv_at hl 2 rfl) ?_
          refine gx_get (D := D) (cl := gcl) (ci := 10) (v := .ref (mad s0.heap.size 19)) (C := RX11) (T := TX11) (N := 27) hx hb hts in_X11 hown hK hR.mo rfl 23 (by decide) (hts _ q909) (fun _ h9 => h9) rfl dX11_supplied_140 ?_
          refine lv_iload_n hx hb dX11_supplied_143 rfl (lv_at hl 3 rfl) ?_
          refine lv_iload hx hb dX11_supplied_144 (lv_at hl 6 rfl) ?_
          refine lv_iconst (v := 1) hx hb dX11_supplied_146 (by decide) ?_
          refine lv_isub hx hb dX11_supplied_147 ?_
          refine gx_ti (nI (b - 1)) (by exact pk_sub (a := b) (b := 1) h0) ?_
          refine cc_v (va_runS (As := [.ref (mad s0.heap.size 19), .int (nI i), .int (nI (b - 1))]) (rest := [.long (m_sup M i b true b (mCt M 1))]) ⟨hx, hb, hml, hown, hts⟩ (ct_X11_upTo (f := mL M 19) (a := mad s0.heap.size 19) (n1 := 144) (n0 := b) (i := i) (wk := nI (b - 1)) hE (hR.mla 19 (by decide) (by decide)) (by decide) (by omega) (fun k h1 h2 => by have := n_gt h2 (by omega) (by omega); omega) (fun k h1 h2 => by have := n_le h2 (by omega) (by omega); omega) (fun k h1 => by omega)) (va_cwS 3 hts (lw_S q1074 q1075 q61 q1076) rfl rfl rfl (by decide +kernel) ⟨Nat.le_of_ble_eq_true rfl, Nat.le_of_ble_eq_true rfl⟩) (cc_pS hW0) rfl rfl hl.1 rfl (lv_room (Nat.le_of_ble_eq_true rfl)) dX11_supplied_148 ⟨Nat.le_of_ble_eq_true rfl, Nat.le_of_ble_eq_true rfl⟩) hL (fun H locs hP1 hL => ?_)
          subst hP1
          refine lv_goto (tgt := 155) hx hb dX11_supplied_151 (by decide) ?_
          refine lv_ladd hx hb dX11_supplied_155 ?_
          exact W.lret (v := ((m_sup M i b true b (mCt M 1)) + (m_up (mL M 19) i b))) hx hb hr (fun t ht hW => ⟨ovJ (by rw [m_supr, if_pos h0]), ht⟩) hL dX11_supplied_156
      · have hkc : k < mCt M 1 := by have := n_lt c44 (by omega) (by omega); omega
        refine lv_aload_n hx hb dX11_supplied_47 rfl (lv_at hl 2 rfl) ?_
        refine gx_get (D := D) (cl := gcl) (ci := 10) (v := .ref (mad s0.heap.size 15)) (C := RX11) (T := TX11) (N := 27) hx hb hts in_X11 hown hK hR.mo rfl 17 (by decide) (hts _ q903) (fun _ h9 => h9) rfl dX11_supplied_48 ?_
        refine lv_iload hx hb dX11_supplied_51 (lv_at hl 1 rfl) ?_
        refine gx_iald (n := 72) hx hb hK 1 (hR.mia 15 (by decide)) rfl (24 + k) (rfl) (by omega) (by decide) dX11_supplied_53 ?_
        refine lv_iload hx hb dX11_supplied_54 (lv_at hl 6 rfl) ?_
        refine lv_icmp_ne (tgt := 77) hx hb dX11_supplied_56 (by decide) (fun c56 => ?_) (fun c56 => ?_)
        · refine lv_iconst (v := 0) hx hb dX11_supplied_77 (by decide) ?_
          have hs : ¬ (mI M 15 (24 + k) = nI b ∧ (true = true ∨ k < b)) := fun q => c56 q.1
          refine lv_istore (lv' := [(8, .int 0), (5, .long (m_sup M i b true b k)), (7, .int (nI (24 + k))), (0, .ref (s0.heap.size + 104)), (1, .int (nI i)), (2, .int 2), (3, .int (nI b)), (4, .int (nI b))]) hx hb dX11_supplied_78 hl (by decide) rfl (fun ls hl => ?_)
          refine lv_aload_n hx hb dX11_supplied_80 rfl (lv_at hl 3 rfl) ?_
          refine gx_get (D := D) (cl := gcl) (ci := 10) (v := .ref (mad s0.heap.size 14)) (C := RX11) (T := TX11) (N := 27) hx hb hts in_X11 hown hK hR.mo rfl 16 (by decide) (hts _ q902) (fun _ h9 => h9) rfl dX11_supplied_81 ?_
          refine lv_iload hx hb dX11_supplied_84 (lv_at hl 2 rfl) ?_
          refine gx_iald (n := 72) hx hb hK 1 (hR.mia 14 (by decide)) rfl (24 + k) (rfl) (by omega) (by decide) dX11_supplied_86 ?_
          refine lv_iload_n hx hb dX11_supplied_87 rfl (lv_at hl 4 rfl) ?_
          refine lv_icmp_ne (tgt := 122) hx hb dX11_supplied_88 (by decide) (fun c88 => ?_) (fun c88 => ?_)
          · refine lv_lload hx hb dX11_supplied_122 (lv_at hl 1 rfl) ?_
            refine gx_tl (m_sup M i b true b (k + 1)) (by rw [m_sup, if_neg (fun q => c88 q.1)]) ?_
            refine lv_lstore (lv' := [(5, .long (m_sup M i b true b (k + 1))), (8, .int 0), (7, .int (nI (24 + k))), (0, .ref (s0.heap.size + 104)), (1, .int (nI i)), (2, .int 2), (3, .int (nI b)), (4, .int (nI b))]) hx hb dX11_supplied_124 hl (by decide) rfl (fun ls hl => ?_)
            refine lv_iinc (v := nI (24 + (k + 1))) (lv' := [(7, .int (nI (24 + (k + 1)))), (5, .long (m_sup M i b true b (k + 1))), (8, .int 0), (0, .ref (s0.heap.size + 104)), (1, .int (nI i)), (2, .int 2), (3, .int (nI b)), (4, .int (nI b))]) hx hb dX11_supplied_126 hl (k := 2) rfl (nI_1 (24 + k)) (by decide) rfl (fun ls hl => ?_)
            refine lv_goto (tgt := 33) hx hb dX11_supplied_129 (by decide) ?_
            exact ih (k + 1) _ _ (by omega) (by omega) (lv_sub hl [1, 0, 3, 4, 5, 6, 7] rfl) hL
          · refine lv_aload_n hx hb dX11_supplied_91 rfl (lv_at hl 3 rfl) ?_
            refine gx_get (D := D) (cl := gcl) (ci := 10) (v := .ref (mad s0.heap.size 15)) (C := RX11) (T := TX11) (N := 27) hx hb hts in_X11 hown hK hR.mo rfl 17 (by decide) (hts _ q903) (fun _ h9 => h9) rfl dX11_supplied_92 ?_
            refine lv_iload hx hb dX11_supplied_95 (lv_at hl 2 rfl) ?_
            refine gx_iald (n := 72) hx hb hK 1 (hR.mia 15 (by decide)) rfl (24 + k) (rfl) (by omega) (by decide) dX11_supplied_97 ?_
            refine lv_iload hx hb dX11_supplied_98 (lv_at hl 7 rfl) ?_
            refine lv_icmp_lt (tgt := 108) hx hb dX11_supplied_100 (by decide) (fun c100 => ?_) (fun c100 => ?_)
            · refine lv_lload hx hb dX11_supplied_108 (lv_at hl 1 rfl) ?_
              refine lv_aload_n hx hb dX11_supplied_110 rfl (lv_at hl 3 rfl) ?_
              refine gx_get (D := D) (cl := gcl) (ci := 10) (v := .ref (mad s0.heap.size 16)) (C := RX11) (T := TX11) (N := 27) hx hb hts in_X11 hown hK hR.mo rfl 18 (by decide) (hts _ q904) (fun _ h9 => h9) rfl dX11_supplied_111 ?_
              refine lv_iload hx hb dX11_supplied_114 (lv_at hl 2 rfl) ?_
              refine gx_iald (n := 72) hx hb hK 1 (hR.mia 16 (by decide)) rfl (24 + k) (rfl) (by omega) (by decide) dX11_supplied_116 ?_
              refine lv_i2l (v := (mI M 16 (24 + k)).toInt64) hx hb dX11_supplied_117 rfl ?_
              refine lv_ladd hx hb dX11_supplied_118 ?_
              refine lv_goto (tgt := 124) hx hb dX11_supplied_119 (by decide) ?_
              refine gx_tl (m_sup M i b true b (k + 1)) (by rw [m_sup, if_pos ⟨c88, Or.inl c100⟩]) ?_
              refine lv_lstore (lv' := [(5, .long (m_sup M i b true b (k + 1))), (8, .int 0), (7, .int (nI (24 + k))), (0, .ref (s0.heap.size + 104)), (1, .int (nI i)), (2, .int 2), (3, .int (nI b)), (4, .int (nI b))]) hx hb dX11_supplied_124 hl (by decide) rfl (fun ls hl => ?_)
              refine lv_iinc (v := nI (24 + (k + 1))) (lv' := [(7, .int (nI (24 + (k + 1)))), (5, .long (m_sup M i b true b (k + 1))), (8, .int 0), (0, .ref (s0.heap.size + 104)), (1, .int (nI i)), (2, .int 2), (3, .int (nI b)), (4, .int (nI b))]) hx hb dX11_supplied_126 hl (k := 2) rfl (nI_1 (24 + k)) (by decide) rfl (fun ls hl => ?_)
              refine lv_goto (tgt := 33) hx hb dX11_supplied_129 (by decide) ?_
              exact ih (k + 1) _ _ (by omega) (by omega) (lv_sub hl [1, 0, 3, 4, 5, 6, 7] rfl) hL
            · refine lv_iload hx hb dX11_supplied_103 (lv_at hl 0 rfl) ?_
              refine lv_if_eq (tgt := 122) hx hb dX11_supplied_105 (by decide) (fun c105 => ?_) (fun c105 => ?_)
              · refine lv_lload hx hb dX11_supplied_122 (lv_at hl 1 rfl) ?_
                refine gx_tl (m_sup M i b true b (k + 1)) (by rw [m_sup, if_neg (fun q => q.2.elim c100 hs)]) ?_
                refine lv_lstore (lv' := [(5, .long (m_sup M i b true b (k + 1))), (8, .int 0), (7, .int (nI (24 + k))), (0, .ref (s0.heap.size + 104)), (1, .int (nI i)), (2, .int 2), (3, .int (nI b)), (4, .int (nI b))]) hx hb dX11_supplied_124 hl (by decide) rfl (fun ls hl => ?_)
                refine lv_iinc (v := nI (24 + (k + 1))) (lv' := [(7, .int (nI (24 + (k + 1)))), (5, .long (m_sup M i b true b (k + 1))), (8, .int 0), (0, .ref (s0.heap.size + 104)), (1, .int (nI i)), (2, .int 2), (3, .int (nI b)), (4, .int (nI b))]) hx hb dX11_supplied_126 hl (k := 2) rfl (nI_1 (24 + k)) (by decide) rfl (fun ls hl => ?_)
                refine lv_goto (tgt := 33) hx hb dX11_supplied_129 (by decide) ?_
                exact ih (k + 1) _ _ (by omega) (by omega) (lv_sub hl [1, 0, 3, 4, 5, 6, 7] rfl) hL
              · exact absurd rfl c105
        · refine lv_iload_n hx hb dX11_supplied_59 rfl (lv_at hl 4 rfl) ?_
          refine lv_iconst (v := 2) hx hb dX11_supplied_60 (by decide) ?_
          refine lv_icmp_eq (tgt := 73) hx hb dX11_supplied_61 (by decide) (fun c61 => ?_) (fun c61 => ?_)
          · refine lv_iconst (v := 1) hx hb dX11_supplied_73 (by decide) ?_
            refine lv_goto (tgt := 78) hx hb dX11_supplied_74 (by decide) ?_
            have hs : (mI M 15 (24 + k) = nI b ∧ (true = true ∨ k < b)) := ⟨c56, Or.inl rfl⟩
            refine lv_istore (lv' := [(8, .int 1), (5, .long (m_sup M i b true b k)), (7, .int (nI (24 + k))), (0, .ref (s0.heap.size + 104)), (1, .int (nI i)), (2, .int 2), (3, .int (nI b)), (4, .int (nI b))]) hx hb dX11_supplied_78 hl (by decide) rfl (fun ls hl => ?_)
            refine lv_aload_n hx hb dX11_supplied_80 rfl (lv_at hl 3 rfl) ?_
            refine gx_get (D := D) (cl := gcl) (ci := 10) (v := .ref (mad s0.heap.size 14)) (C := RX11) (T := TX11) (N := 27) hx hb hts in_X11 hown hK hR.mo rfl 16 (by decide) (hts _ q902) (fun _ h9 => h9) rfl dX11_supplied_81 ?_
            refine lv_iload hx hb dX11_supplied_84 (lv_at hl 2 rfl) ?_
            refine gx_iald (n := 72) hx hb hK 1 (hR.mia 14 (by decide)) rfl (24 + k) (rfl) (by omega) (by decide) dX11_supplied_86 ?_
            refine lv_iload_n hx hb dX11_supplied_87 rfl (lv_at hl 4 rfl) ?_
            refine lv_icmp_ne (tgt := 122) hx hb dX11_supplied_88 (by decide) (fun c88 => ?_) (fun c88 => ?_)
            · refine lv_lload hx hb dX11_supplied_122 (lv_at hl 1 rfl) ?_
              refine gx_tl (m_sup M i b true b (k + 1)) (by rw [m_sup, if_neg (fun q => c88 q.1)]) ?_
              refine lv_lstore (lv' := [(5, .long (m_sup M i b true b (k + 1))), (8, .int 1), (7, .int (nI (24 + k))), (0, .ref (s0.heap.size + 104)), (1, .int (nI i)), (2, .int 2), (3, .int (nI b)), (4, .int (nI b))]) hx hb dX11_supplied_124 hl (by decide) rfl (fun ls hl => ?_)
              refine lv_iinc (v := nI (24 + (k + 1))) (lv' := [(7, .int (nI (24 + (k + 1)))), (5, .long (m_sup M i b true b (k + 1))), (8, .int 1), (0, .ref (s0.heap.size + 104)), (1, .int (nI i)), (2, .int 2), (3, .int (nI b)), (4, .int (nI b))]) hx hb dX11_supplied_126 hl (k := 2) rfl (nI_1 (24 + k)) (by decide) rfl (fun ls hl => ?_)
              refine lv_goto (tgt := 33) hx hb dX11_supplied_129 (by decide) ?_
              exact ih (k + 1) _ _ (by omega) (by omega) (lv_sub hl [1, 0, 3, 4, 5, 6, 7] rfl) hL
            · refine lv_aload_n hx hb dX11_supplied_91 rfl (lv_at hl 3 rfl) ?_
              refine gx_get (D := D) (cl := gcl) (ci := 10) (v := .ref (mad s0.heap.size 15)) (C := RX11) (T := TX11) (N := 27) hx hb hts in_X11 hown hK hR.mo rfl 17 (by decide) (hts _ q903) (fun _ h9 => h9) rfl dX11_supplied_92 ?_
              refine lv_iload hx hb dX11_supplied_95 (lv_at hl 2 rfl) ?_
              refine gx_iald (n := 72) hx hb hK 1 (hR.mia 15 (by decide)) rfl (24 + k) (rfl) (by omega) (by decide) dX11_supplied_97 ?_
              refine lv_iload hx hb dX11_supplied_98 (lv_at hl 7 rfl) ?_
              refine lv_icmp_lt (tgt := 108) hx hb dX11_supplied_100 (by decide) (fun c100 => ?_) (fun c100 => ?_)
              · refine lv_lload hx hb dX11_supplied_108 (lv_at hl 1 rfl) ?_
                refine lv_aload_n hx hb dX11_supplied_110 rfl (lv_at hl 3 rfl) ?_
                refine gx_get (D := D) (cl := gcl) (ci := 10) (v := .ref (mad s0.heap.size 16)) (C := RX11) (T := TX11) (N := 27) hx hb hts in_X11 hown hK hR.mo rfl 18 (by decide) (hts _ q904) (fun _ h9 => h9) rfl dX11_supplied_111 ?_
                refine lv_iload hx hb dX11_supplied_114 (lv_at hl 2 rfl) ?_
                refine gx_iald (n := 72) hx hb hK 1 (hR.mia 16 (by decide)) rfl (24 + k) (rfl) (by omega) (by decide) dX11_supplied_116 ?_
                refine lv_i2l (v := (mI M 16 (24 + k)).toInt64) hx hb dX11_supplied_117 rfl ?_
                refine lv_ladd hx hb dX11_supplied_118 ?_
                refine lv_goto (tgt := 124) hx hb dX11_supplied_119 (by decide) ?_
                refine gx_tl (m_sup M i b true b (k + 1)) (by rw [m_sup, if_pos ⟨c88, Or.inl c100⟩]) ?_
                refine lv_lstore (lv' := [(5, .long (m_sup M i b true b (k + 1))), (8, .int 1), (7, .int (nI (24 + k))), (0, .ref (s0.heap.size + 104)), (1, .int (nI i)), (2, .int 2), (3, .int (nI b)), (4, .int (nI b))]) hx hb dX11_supplied_124 hl (by decide) rfl (fun ls hl => ?_)
                refine lv_iinc (v := nI (24 + (k + 1))) (lv' := [(7, .int (nI (24 + (k + 1)))), (5, .long (m_sup M i b true b (k + 1))), (8, .int 1), (0, .ref (s0.heap.size + 104)), (1, .int (nI i)), (2, .int 2), (3, .int (nI b)), (4, .int (nI b))]) hx hb dX11_supplied_126 hl (k := 2) rfl (nI_1 (24 + k)) (by decide) rfl (fun ls hl => ?_)
                refine lv_goto (tgt := 33) hx hb dX11_supplied_129 (by decide) ?_
                exact ih (k + 1) _ _ (by omega) (by omega) (lv_sub hl [1, 0, 3, 4, 5, 6, 7] rfl) hL
              · refine lv_iload hx hb dX11_supplied_103 (lv_at hl 0 rfl) ?_
                refine lv_if_eq (tgt := 122) hx hb dX11_supplied_105 (by decide) (fun c105 => ?_) (fun c105 => ?_)
                · exact absurd c105 (by decide)
                · refine lv_lload hx hb dX11_supplied_108 (lv_at hl 1 rfl) ?_
                  refine lv_aload_n hx hb dX11_supplied_110 rfl (lv_at hl 3 rfl) ?_
                  refine gx_get (D := D) (cl := gcl) (ci := 10) (v := .ref (mad s0.heap.size 16)) (C := RX11) (T := TX11) (N := 27) hx hb hts in_X11 hown hK hR.mo rfl 18 (by decide) (hts _ q904) (fun _ h9 => h9) rfl dX11_supplied_111 ?_
                  refine lv_iload hx hb dX11_supplied_114 (lv_at hl 2 rfl) ?_
                  refine gx_iald (n := 72) hx hb hK 1 (hR.mia 16 (by decide)) rfl (24 + k) (rfl) (by omega) (by decide) dX11_supplied_116 ?_
                  refine lv_i2l (v := (mI M 16 (24 + k)).toInt64) hx hb dX11_supplied_117 rfl ?_
                  refine lv_ladd hx hb dX11_supplied_118 ?_
                  refine lv_goto (tgt := 124) hx hb dX11_supplied_119 (by decide) ?_
                  refine gx_tl (m_sup M i b true b (k + 1)) (by rw [m_sup, if_pos ⟨c88, Or.inr hs⟩]) ?_
                  refine lv_lstore (lv' := [(5, .long (m_sup M i b true b (k + 1))), (8, .int 1), (7, .int (nI (24 + k))), (0, .ref (s0.heap.size + 104)), (1, .int (nI i)), (2, .int 2), (3, .int (nI b)), (4, .int (nI b))]) hx hb dX11_supplied_124 hl (by decide) rfl (fun ls hl => ?_)
                  refine lv_iinc (v := nI (24 + (k + 1))) (lv' := [(7, .int (nI (24 + (k + 1)))), (5, .long (m_sup M i b true b (k + 1))), (8, .int 1), (0, .ref (s0.heap.size + 104)), (1, .int (nI i)), (2, .int 2), (3, .int (nI b)), (4, .int (nI b))]) hx hb dX11_supplied_126 hl (k := 2) rfl (nI_1 (24 + k)) (by decide) rfl (fun ls hl => ?_)
                  refine lv_goto (tgt := 33) hx hb dX11_supplied_129 (by decide) ?_
                  exact ih (k + 1) _ _ (by omega) (by omega) (lv_sub hl [1, 0, 3, 4, 5, 6, 7] rfl) hL
          · exact absurd rfl c61
  have c24 := hC.c24 (K := 1) (by decide)
  refine lv_iload_n hx hb dX11_supplied_0 rfl (lv_at hl 2 rfl) ?_
  refine lv_iconst (v := 1) hx hb dX11_supplied_1 (by decide) ?_
  refine lv_icmp_ne (tgt := 17) hx hb dX11_supplied_2 (by decide) (fun c2 => ?_) (fun c2 => ?_)
  · refine lv_iload_n hx hb dX11_supplied_17 rfl (lv_at hl 3 rfl) ?_
    refine lv_istore (lv' := [(4, .int (nI b)), (0, .ref (s0.heap.size + 104)), (1, .int (nI i)), (2, .int 2), (3, .int (nI b))]) hx hb dX11_supplied_18 hl (by decide) rfl (fun ls hl => ?_)
    refine lv_aload_n hx hb dX11_supplied_20 rfl (lv_at hl 1 rfl) ?_
    refine gx_get (D := D) (cl := gcl) (ci := 10) (v := .ref (mad s0.heap.size 7)) (C := RX11) (T := TX11) (N := 27) hx hb hts in_X11 hown hK hR.mo rfl 8 (by decide) (hts _ q894) (fun _ h9 => h9) rfl dX11_supplied_21 ?_
    refine lv_iload_n hx hb dX11_supplied_24 rfl (lv_at hl 2 rfl) ?_
    refine gx_iald (n := 12) hx hb hK 1 (hR.mia 7 (by decide)) rfl i (rfl) (by omega) (by decide) dX11_supplied_25 ?_
    refine lv_i2l (v := (mI M 7 i).toInt64) hx hb dX11_supplied_26 rfl ?_
    refine gx_tl (m_sup M i b true b 0) (rfl) ?_
    refine lv_lstore (lv' := [(5, .long (m_sup M i b true b 0)), (4, .int (nI b)), (0, .ref (s0.heap.size + 104)), (1, .int (nI i)), (2, .int 2), (3, .int (nI b))]) hx hb dX11_supplied_27 hl (by decide) rfl (fun ls hl => ?_)
    refine lv_bipush (v := 24) hx hb dX11_supplied_29 (by decide) ?_
    refine gx_ti (nI (24 + 0)) (rfl) ?_
    refine lv_istore (lv' := [(7, .int (nI (24 + 0))), (5, .long (m_sup M i b true b 0)), (4, .int (nI b)), (0, .ref (s0.heap.size + 104)), (1, .int (nI i)), (2, .int 2), (3, .int (nI b))]) hx hb dX11_supplied_31 hl (by decide) rfl (fun ls hl => ?_)
    exact key (mCt M 1 + 1) 0 _ _ (by omega) (by omega) (lv_sub hl [1, 0, 3, 4, 5, 6, 2] rfl) hL
  · exact absurd c2 (by decide)
