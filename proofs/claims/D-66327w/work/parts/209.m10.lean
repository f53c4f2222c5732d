set_option maxHeartbeats 4000000 in
set_option maxRecDepth 100000 in
/-- peg -/
theorem ct_X11_peg {l : Launch} {s0 : State} {D : va_G} {DA : Nat → ClassId} {z0 : Nat} {C : CS} {M : MS} {o : Int64} {H : Heap} (hE : G0 l s0 D DA z0) (hR : RR s0 D DA z0 C M o H) (d kd nu : Int32) (hC : MC M) : Met l yX11_peg (ws_ yX11_peg cX11_peg 19 (some .long)) ({ frames := 2, cells := 0, slots := 0, locals := 53 }) (cP s0 [.ref (s0.heap.size + 104), .int d, .int kd, .int nu] H) (cQv (.long (m_pegr M d kd nu)) (fun H1 => RR s0 D DA z0 C (mz M 0 (x_peg M d kd nu)) o H1)) 0 0 (cF s0) := by
  refine Met.ofW (cc := cX11_peg) (maxL := 19) (ret := (some .long)) (by decide) rfl ?_
  intro p e s m args below meth c s₁ Bd hml hv
  obtain ⟨rfl, rfl, hW0⟩ := hv
  have hx := Bd.exec
  have hb := Bd.bytes
  have hr := Bd.returns
  have hts := atoms_spec (ws := (ws_ yX11_peg cX11_peg 19 (some .long))) Bd.pre
  have hts : ∀ w ∈ lw_all, w.before _ s = true := fun w h => hts w (List.mem_cons_of_mem _ h)
  have hown : s.vm.findClass RX11 = some m.cls := findClass_of_methodNamed Bd.named
  have hlocks := Bd.notSynchronized
  have hK := va_K.moved hW0.alike hE.K
  have hL : gx_L s0.heap.size ([] : List Loc) := gx_L0
  obtain ⟨Y, hR⟩ := hR
  have hl := lv_entry ([.ref (s0.heap.size + 104), .int d, .int kd, .int nu]) (n := 19) (Nat.le_of_ble_eq_true rfl)
  rw [lg_entry_eq]
  generalize (lg_sl ([.ref (s0.heap.size + 104), .int d, .int kd, .int nu]) ++ List.replicate (19 - (lg_sl ([.ref (s0.heap.size + 104), .int d, .int kd, .int nu])).length) Slot.unset).toArray = ls at hl ⊢
  have hl : lv_has ls 19 [(0, .ref (s0.heap.size + 104)), (1, .int d), (2, .int kd), (3, .int nu)] := hl
  refine lv_iload_n hx hb dX11_peg_0 rfl (lv_at hl 1 rfl) ?_
  refine lv_iconst (v := 0) hx hb dX11_peg_1 (by decide) ?_
  refine lv_aload_n hx hb dX11_peg_2 rfl (lv_at hl 0 rfl) ?_
  refine gx_get (D := D) (cl := gcl) (ci := 10) (v := .ref (mad s0.heap.size 13)) (C := RX11) (T := TX11) (N := 27) hx hb hts in_X11 hown hK hR.mo rfl 15 (by decide) (hts _ q901) (fun _ h9 => h9) rfl dX11_peg_3 ?_
  refine lv_iconst (v := 0) hx hb dX11_peg_6 (by decide) ?_
  refine gx_iald (n := 3) hx hb hK 1 (hR.mia 13 (by decide)) rfl 0 (by decide) (by decide) (by decide) dX11_peg_7 ?_
  refine lv_iconst (v := 1) hx hb dX11_peg_8 (by decide) ?_
  refine lv_isub hx hb dX11_peg_9 ?_
  refine cc_v (va_runS (As := [.int d, .int 0, .int ((mI M 13 0) - 1)]) (rest := []) ⟨hx, hb, hml, hown, hts⟩ (ct_X11_isIn hE d 0 ((mI M 13 0) - 1)) (va_cwS 3 hts (lw_S q977 q978 q61 q979) rfl rfl rfl (by decide +kernel) ⟨Nat.le_of_ble_eq_true rfl, Nat.le_of_ble_eq_true rfl⟩) (cc_pS hW0) rfl rfl hl.1 rfl (lv_room (Nat.le_of_ble_eq_true rfl)) dX11_peg_10 ⟨Nat.le_of_ble_eq_true rfl, Nat.le_of_ble_eq_true rfl⟩) hL (fun H locs hP1 hL => ?_)
  subst hP1
  refine lv_istore (lv' := [(4, .int (bZ (inR d 0 ((mI M 13 0) - 1)))), (0, .ref (s0.heap.size + 104)), (1, .int d), (2, .int kd), (3, .int nu)]) hx hb dX11_peg_13 hl (by decide) rfl (fun ls hl => ?_)
  refine lv_iload_n hx hb dX11_peg_15 rfl (lv_at hl 3 rfl) ?_
  refine lv_if_eq (tgt := 50) hx hb dX11_peg_16 (by decide) (fun c16 => ?_) (fun c16 => ?_)
  · obtain rfl : kd = 0 := c16
    refine lv_iconst (v := 1) hx hb dX11_peg_50 (by decide) ?_
    refine lv_goto (tgt := 55) hx hb dX11_peg_51 (by decide) ?_
    refine lv_istore (lv' := [(5, .int 1), (4, .int (bZ (inR d 0 ((mI M 13 0) - 1)))), (0, .ref (s0.heap.size + 104)), (1, .int d), (2, .int 0), (3, .int nu)]) hx hb dX11_peg_55 hl (by decide) rfl (fun ls hl => ?_)
    refine lv_aload_n hx hb dX11_peg_57 rfl (lv_at hl 2 rfl) ?_
    refine lv_iload hx hb dX11_peg_58 (lv_at hl 1 rfl) ?_
    refine lv_if_ne (tgt := 67) hx hb dX11_peg_60 (by decide) (fun c60 => ?_) (fun c60 => ?_)
    · refine lv_iload_n hx hb dX11_peg_67 rfl (lv_at hl 4 rfl) ?_
      refine lv_iconst (v := 0) hx hb dX11_peg_68 (by decide) ?_
      refine lv_iconst (v := 2) hx hb dX11_peg_69 (by decide) ?_
      refine cc_v (va_runS (As := [.int 0, .int 0, .int 2]) (rest := [.ref (s0.heap.size + 104)]) ⟨hx, hb, hml, hown, hts⟩ (ct_X11_isIn hE 0 0 2) (va_cwS 3 hts (lw_S q977 q978 q61 q979) rfl rfl rfl (by decide +kernel) ⟨Nat.le_of_ble_eq_true rfl, Nat.le_of_ble_eq_true rfl⟩) (cc_pS hW0) rfl rfl hl.1 rfl (lv_room (Nat.le_of_ble_eq_true rfl)) dX11_peg_70 ⟨Nat.le_of_ble_eq_true rfl, Nat.le_of_ble_eq_true rfl⟩) hL (fun H locs hP1 hL => ?_)
      subst hP1
      refine lv_if_ne (tgt := 80) hx hb dX11_peg_73 (by decide) (fun c73 => ?_) (fun c73 => ?_)
      · refine lv_iload hx hb dX11_peg_80 (lv_at hl 0 rfl) ?_
        refine lv_if_ne (tgt := 89) hx hb dX11_peg_82 (by decide) (fun c82 => ?_) (fun c82 => ?_)
        · have hnb : m_numb M 0 nu = true := rfl
          refine lv_aload_n hx hb dX11_peg_89 rfl (lv_at hl 2 rfl) ?_
          refine gx_get (D := D) (cl := gcl) (ci := 10) (v := .int (mS M 20)) (C := RX11) (T := TX11) (N := 27) hx hb hts in_X11 hown hK hR.mo rfl 20 (by decide) (hts _ q906) (fun _ h9 => h9) rfl dX11_peg_90 ?_
          refine lv_if_eq (tgt := 100) hx hb dX11_peg_93 (by decide) (fun c93 => ?_) (fun c93 => ?_)
          · have hx0 : x_peg M d 0 nu = 0 := xg_0 (bZ_1.mp c60) (by decide) hnb c93
            have h9 := bZ_1.mp c60
            rw [hC.ct (K := 0) (by decide)] at h9
            have c24 := hC.c24 (K := 0) (by decide)
            have c25 := hC.c24 (K := 1) (by decide)
            obtain ⟨u, hu, rfl⟩ := inR_in (by omega) h9
            obtain ⟨⟨a, ha, ea⟩, b, hb2, eb⟩ := hC.2.2.2 0 (by decide) u hu
            rw [Nat.mul_zero, Nat.zero_add] at ea eb
            refine lv_iconst (v := 0) hx hb dX11_peg_100 (by decide) ?_
            refine cc_v (va_runV (b := s0.heap.size + 104) (As := [.int 0]) (rest := []) ⟨hx, hb, hml, hown, hts⟩ (ct_X11_refused hE ⟨_, hR⟩ 0) (cwV 1 hts (lw_V q983 q985 qs23 q61 q986) rfl rfl rfl (by decide +kernel) ⟨Nat.le_of_ble_eq_true rfl, Nat.le_of_ble_eq_true rfl⟩) (cc_pV hW0 (cc_re hK hR.mo (show gcl[10]? = _ from rfl))) rfl rfl hl.1 rfl (lv_room (Nat.le_of_ble_eq_true rfl)) dX11_peg_101 ⟨Nat.le_of_ble_eq_true rfl, Nat.le_of_ble_eq_true rfl⟩) hL (fun H locs hP1 hL => ?_)
            obtain ⟨Y, hR⟩ := hP1
            refine lv_if_eq (tgt := 109) hx hb dX11_peg_104 (by decide) (fun c104 => ?_) (fun c104 => ?_)
            · have key : ∀ (n : Nat) (k : Nat) (locs : List Loc) (ls : Array Slot), k ≤ u → u < k + n → lv_has ls 19 [(7, .long (m_pb M u a k)), (9, .int (nI k)), (0, .ref (s0.heap.size + 104)), (1, .int (nI u)), (2, .int 0), (3, .int nu), (6, .int (nI a))] → gx_L s0.heap.size locs → W p l e (headSpec (ws_ yX11_peg cX11_peg 19 (some .long)) ({ frames := 2, cells := 0, slots := 0, locals := 53 })).room s m ([.ref (s0.heap.size + 104), .int (nI u), .int 0, .int nu] : List Value).toArray below meth c H locs 0 0 (MQ below (cQv (.long (m_pegr M (nI u) 0 nu)) (fun H1 => RR s0 D DA z0 C (mz M 0 (x_peg M (nI u) 0 nu)) o H1)) ([.ref (s0.heap.size + 104), .int (nI u), .int 0, .int nu] : List Value).toArray s 0 0 (cF s0)) (F0 m 173 ls []) := by
                intro n
                induction n with
                | zero =>
                  intro k locs ls hk hn hl hL
                  omega
                | succ n ih =>
                  intro k locs ls hk hn hl hL
                  refine lv_iload hx hb dX11_peg_173 (lv_at hl 1 rfl) ?_
                  refine lv_iload_n hx hb dX11_peg_175 rfl (lv_at hl 3 rfl) ?_
                  refine lv_icmp_ge (tgt := 231) hx hb dX11_peg_176 (by decide) (fun c176 => ?_) (fun c176 => ?_)
                  · have hkc : k = u := by have := n_ge c176 (by omega) (by omega); omega
                    rw [hkc] at hl
                    refine lv_lload hx hb dX11_peg_231 (lv_at hl 0 rfl) ?_
                    refine lv_aload_n hx hb dX11_peg_233 rfl (lv_at hl 2 rfl) ?_
                    refine gx_get (D := D) (cl := gcl) (ci := 10) (v := .ref (mad s0.heap.size 16)) (C := RX11) (T := TX11) (N := 27) hx hb hts in_X11 hown hK hR.mo rfl 18 (by decide) (hts _ q904) (fun _ h9 => h9) rfl dX11_peg_234 ?_
                    refine lv_iload_n hx hb dX11_peg_237 rfl (lv_at hl 3 rfl) ?_
                    refine gx_iald (n := 72) hx hb hK 1 (hR.mia 16 (by decide)) rfl u (rfl) (by omega) (by decide) dX11_peg_238 ?_
                    refine lv_i2l (v := (mI (mz M 0 0) 16 u).toInt64) hx hb dX11_peg_239 rfl ?_
                    refine lv_ladd hx hb dX11_peg_240 ?_
                    refine gx_tl (m_pb M u a u + (mI M 16 u).toInt64) (rfl) ?_
                    refine lv_lstore (lv' := [(9, .long (m_pb M u a u + (mI M 16 u).toInt64)), (7, .long (m_pb M u a u)), (0, .ref (s0.heap.size + 104)), (1, .int (nI u)), (2, .int 0), (3, .int nu), (6, .int (nI a))]) hx hb dX11_peg_241 hl (by decide) rfl (fun ls hl => ?_)
                    refine lv_iload_n hx hb dX11_peg_243 rfl (lv_at hl 4 rfl) ?_
                    refine lv_if_ne (tgt := 251) hx hb dX11_peg_244 (by decide) (fun c244 => ?_) (fun c244 => ?_)
                    · exact absurd rfl c244
                    · refine lv_lconst (v := 0) hx hb dX11_peg_247 (by decide) ?_
                      refine lv_goto (tgt := 259) hx hb dX11_peg_248 (by decide) ?_
                      refine gx_tl (m_fi M a 0 nu.toNatClampNeg) (by unfold m_fi; simp) ?_
                      refine lv_lstore (lv' := [(11, .long (m_fi M a 0 nu.toNatClampNeg)), (9, .long (m_pb M u a u + (mI M 16 u).toInt64)), (7, .long (m_pb M u a u)), (0, .ref (s0.heap.size + 104)), (1, .int (nI u)), (2, .int 0), (3, .int nu), (6, .int (nI a))]) hx hb dX11_peg_259 hl (by decide) rfl (fun ls hl => ?_)
                      refine lv_iload_n hx hb dX11_peg_261 rfl (lv_at hl 5 rfl) ?_
                      refine lv_if_ne (tgt := 276) hx hb dX11_peg_262 (by decide) (fun c262 => ?_) (fun c262 => ?_)
                      · exact absurd rfl c262
                      · refine lv_aload_n hx hb dX11_peg_265 rfl (lv_at hl 3 rfl) ?_
                        refine gx_get (D := D) (cl := gcl) (ci := 10) (v := .ref (mad s0.heap.size 7)) (C := RX11) (T := TX11) (N := 27) hx hb hts in_X11 hown hK hR.mo rfl 8 (by decide) (hts _ q894) (fun _ h9 => h9) rfl dX11_peg_266 ?_
                        refine lv_iload hx hb dX11_peg_269 (lv_at hl 7 rfl) ?_
                        refine gx_iald (n := 12) hx hb hK 1 (hR.mia 7 (by decide)) rfl a (rfl) (by omega) (by decide) dX11_peg_271 ?_
                        refine lv_i2l (v := (mI (mz M 0 0) 7 a).toInt64) hx hb dX11_peg_272 rfl ?_
                        refine lv_goto (tgt := 309) hx hb dX11_peg_273 (by decide) ?_
                        refine gx_tl (m_la M a 0 nu.toNatClampNeg) (by unfold m_la; rw [if_pos rfl]; rfl) ?_
                        refine lv_lstore (lv' := [(13, .long (m_la M a 0 nu.toNatClampNeg)), (11, .long (m_fi M a 0 nu.toNatClampNeg)), (9, .long (m_pb M u a u + (mI M 16 u).toInt64)), (7, .long (m_pb M u a u)), (0, .ref (s0.heap.size + 104)), (1, .int (nI u)), (2, .int 0), (3, .int nu), (6, .int (nI a))]) hx hb dX11_peg_309 hl (by decide) rfl (fun ls hl => ?_)
                        refine lv_lload hx hb dX11_peg_311 (lv_at hl 3 rfl) ?_
                        refine lv_lload hx hb dX11_peg_313 (lv_at hl 1 rfl) ?_
                        refine gx_lc_le (tgt := 324) (pc1 := 316) hx hb rfl dX11_peg_315 dX11_peg_316 (by decide) (fun c316 => ?_) (fun c316 => ?_)
                        · refine lv_lload hx hb dX11_peg_324 (lv_at hl 1 rfl) ?_
                          refine gx_tl (p_lo (m_pb M u a u) (m_fi M a 0 nu.toNatClampNeg)) (by unfold p_lo; rw [if_neg (Int64.not_lt.mpr c316)]) ?_
                          refine lv_lstore (lv' := [(15, .long (p_lo (m_pb M u a u) (m_fi M a 0 nu.toNatClampNeg))), (13, .long (m_la M a 0 nu.toNatClampNeg)), (11, .long (m_fi M a 0 nu.toNatClampNeg)), (9, .long (m_pb M u a u + (mI M 16 u).toInt64)), (7, .long (m_pb M u a u)), (0, .ref (s0.heap.size + 104)), (1, .int (nI u)), (2, .int 0), (3, .int nu), (6, .int (nI a))]) hx hb dX11_peg_326 hl (by decide) rfl (fun ls hl => ?_)
                          refine lv_lload hx hb dX11_peg_328 (lv_at hl 3 rfl) ?_
                          refine lv_lload hx hb dX11_peg_330 (lv_at hl 1 rfl) ?_
                          refine gx_lc_ge (tgt := 341) (pc1 := 333) hx hb rfl dX11_peg_332 dX11_peg_333 (by decide) (fun c333 => ?_) (fun c333 => ?_)
                          · refine lv_lload hx hb dX11_peg_341 (lv_at hl 1 rfl) ?_
                            refine gx_tl (p_hi (m_pb M u a u + (mI M 16 u).toInt64) (m_la M a 0 nu.toNatClampNeg)) (by unfold p_hi; rw [if_neg (Int64.not_lt.mpr c333)]) ?_
                            refine lv_lstore (lv' := [(17, .long (p_hi (m_pb M u a u + (mI M 16 u).toInt64) (m_la M a 0 nu.toNatClampNeg))), (15, .long (p_lo (m_pb M u a u) (m_fi M a 0 nu.toNatClampNeg))), (13, .long (m_la M a 0 nu.toNatClampNeg)), (11, .long (m_fi M a 0 nu.toNatClampNeg)), (9, .long (m_pb M u a u + (mI M 16 u).toInt64)), (7, .long (m_pb M u a u)), (0, .ref (s0.heap.size + 104)), (1, .int (nI u)), (2, .int 0), (3, .int nu), (6, .int (nI a))]) hx hb dX11_peg_343 hl (by decide) rfl (fun ls hl => ?_)
                            refine lv_lload hx hb dX11_peg_345 (lv_at hl 0 rfl) ?_
                            refine lv_lload hx hb dX11_peg_347 (lv_at hl 1 rfl) ?_
                            refine gx_lc_le (tgt := 361) (pc1 := 350) hx hb rfl dX11_peg_349 dX11_peg_350 (by decide) (fun c350 => ?_) (fun c350 => ?_)
                            · refine lv_lconst (v := 0) hx hb dX11_peg_361 (by decide) ?_
                              exact W.lret (v := 0) hx hb hr (fun t ht hW => ⟨ovJ (by rw [m_pegr_0 (by omega) ha ea hx0]; unfold m_pegv; rw [if_neg (fun q => absurd q.1 (by decide))]; unfold p_ov; rw [if_neg (Int64.not_lt.mpr c350)]), by rw [ht]; exact (by rw [hx0]; exact ⟨_, hR⟩)⟩) hL dX11_peg_362
                            · refine lv_lload hx hb dX11_peg_353 (lv_at hl 0 rfl) ?_
                              refine lv_lload hx hb dX11_peg_355 (lv_at hl 1 rfl) ?_
                              refine lv_lsub hx hb dX11_peg_357 ?_
                              refine lv_goto (tgt := 362) hx hb dX11_peg_358 (by decide) ?_
                              exact W.lret (v := ((p_hi (m_pb M u a u + (mI M 16 u).toInt64) (m_la M a 0 nu.toNatClampNeg)) - (p_lo (m_pb M u a u) (m_fi M a 0 nu.toNatClampNeg)))) hx hb hr (fun t ht hW => ⟨ovJ (by rw [m_pegr_0 (by omega) ha ea hx0]; unfold m_pegv; rw [if_neg (fun q => absurd q.1 (by decide))]; unfold p_ov; rw [if_pos (l_nle c350)]), by rw [ht]; exact (by rw [hx0]; exact ⟨_, hR⟩)⟩) hL dX11_peg_362
                          · refine lv_lload hx hb dX11_peg_336 (lv_at hl 3 rfl) ?_
                            refine lv_goto (tgt := 343) hx hb dX11_peg_338 (by decide) ?_
                            refine gx_tl (p_hi (m_pb M u a u + (mI M 16 u).toInt64) (m_la M a 0 nu.toNatClampNeg)) (by unfold p_hi; rw [if_pos (l_nle c333)]) ?_
                            refine lv_lstore (lv' := [(17, .long (p_hi (m_pb M u a u + (mI M 16 u).toInt64) (m_la M a 0 nu.toNatClampNeg))), (15, .long (p_lo (m_pb M u a u) (m_fi M a 0 nu.toNatClampNeg))), (13, .long (m_la M a 0 nu.toNatClampNeg)), (11, .long (m_fi M a 0 nu.toNatClampNeg)), (9, .long (m_pb M u a u + (mI M 16 u).toInt64)), (7, .long (m_pb M u a u)), (0, .ref (s0.heap.size + 104)), (1, .int (nI u)), (2, .int 0), (3, .int nu), (6, .int (nI a))]) hx hb dX11_peg_343 hl (by decide) rfl (fun ls hl => ?_)
                            refine lv_lload hx hb dX11_peg_345 (lv_at hl 0 rfl) ?_
                            refine lv_lload hx hb dX11_peg_347 (lv_at hl 1 rfl) ?_
                            refine gx_lc_le (tgt := 361) (pc1 := 350) hx hb rfl dX11_peg_349 dX11_peg_350 (by decide) (fun c350 => ?_) (fun c350 => ?_)
                            · refine lv_lconst (v := 0) hx hb dX11_peg_361 (by decide) ?_
                              exact W.lret (v := 0) hx hb hr (fun t ht hW => ⟨ovJ (by rw [m_pegr_0 (by omega) ha ea hx0]; unfold m_pegv; rw [if_neg (fun q => absurd q.1 (by decide))]; unfold p_ov; rw [if_neg (Int64.not_lt.mpr c350)]), by rw [ht]; exact (by rw [hx0]; exact ⟨_, hR⟩)⟩) hL dX11_peg_362
                            · refine lv_lload hx hb dX11_peg_353 (lv_at hl 0 rfl) ?_
                              refine lv_lload hx hb dX11_peg_355 (lv_at hl 1 rfl) ?_
                              refine lv_lsub hx hb dX11_peg_357 ?_
                              refine lv_goto (tgt := 362) hx hb dX11_peg_358 (by decide) ?_
                              exact W.lret (v := ((p_hi (m_pb M u a u + (mI M 16 u).toInt64) (m_la M a 0 nu.toNatClampNeg)) - (p_lo (m_pb M u a u) (m_fi M a 0 nu.toNatClampNeg)))) hx hb hr (fun t ht hW => ⟨ovJ (by rw [m_pegr_0 (by omega) ha ea hx0]; unfold m_pegv; rw [if_neg (fun q => absurd q.1 (by decide))]; unfold p_ov; rw [if_pos (l_nle c350)]), by rw [ht]; exact (by rw [hx0]; exact ⟨_, hR⟩)⟩) hL dX11_peg_362
                        · refine lv_lload hx hb dX11_peg_319 (lv_at hl 3 rfl) ?_
                          refine lv_goto (tgt := 326) hx hb dX11_peg_321 (by decide) ?_
                          refine gx_tl (p_lo (m_pb M u a u) (m_fi M a 0 nu.toNatClampNeg)) (by unfold p_lo; rw [if_pos (l_nle c316)]) ?_
                          refine lv_lstore (lv' := [(15, .long (p_lo (m_pb M u a u) (m_fi M a 0 nu.toNatClampNeg))), (13, .long (m_la M a 0 nu.toNatClampNeg)), (11, .long (m_fi M a 0 nu.toNatClampNeg)), (9, .long (m_pb M u a u + (mI M 16 u).toInt64)), (7, .long (m_pb M u a u)), (0, .ref (s0.heap.size + 104)), (1, .int (nI u)), (2, .int 0), (3, .int nu), (6, .int (nI a))]) hx hb dX11_peg_326 hl (by decide) rfl (fun ls hl => ?_)
                          refine lv_lload hx hb dX11_peg_328 (lv_at hl 3 rfl) ?_
                          refine lv_lload hx hb dX11_peg_330 (lv_at hl 1 rfl) ?_
                          refine gx_lc_ge (tgt := 341) (pc1 := 333) hx hb rfl dX11_peg_332 dX11_peg_333 (by decide) (fun c333 => ?_) (fun c333 => ?_)
                          · refine lv_lload hx hb dX11_peg_341 (lv_at hl 1 rfl) ?_
                            refine gx_tl (p_hi (m_pb M u a u + (mI M 16 u).toInt64) (m_la M a 0 nu.toNatClampNeg)) (by unfold p_hi; rw [if_neg (Int64.not_lt.mpr c333)]) ?_
                            refine lv_lstore (lv' := [(17, .long (p_hi (m_pb M u a u + (mI M 16 u).toInt64) (m_la M a 0 nu.toNatClampNeg))), (15, .long (p_lo (m_pb M u a u) (m_fi M a 0 nu.toNatClampNeg))), (13, .long (m_la M a 0 nu.toNatClampNeg)), (11, .long (m_fi M a 0 nu.toNatClampNeg)), (9, .long (m_pb M u a u + (mI M 16 u).toInt64)), (7, .long (m_pb M u a u)), (0, .ref (s0.heap.size + 104)), (1, .int (nI u)), (2, .int 0), (3, .int nu), (6, .int (nI a))]) hx hb dX11_peg_343 hl (by decide) rfl (fun ls hl => ?_)
                            refine lv_lload hx hb dX11_peg_345 (lv_at hl 0 rfl) ?_
                            refine lv_lload hx hb dX11_peg_347 (lv_at hl 1 rfl) ?_
                            refine gx_lc_le (tgt := 361) (pc1 := 350) hx hb rfl dX11_peg_349 dX11_peg_350 (by decide) (fun c350 => ?_) (fun c350 => ?_)
                            · refine lv_lconst (v := 0) hx hb dX11_peg_361 (by decide) ?_
                              exact W.lret (v := 0) hx hb hr (fun t ht hW => ⟨ovJ (by rw [m_pegr_0 (by omega) ha ea hx0]; unfold m_pegv; rw [if_neg (fun q => absurd q.1 (by decide))]; unfold p_ov; rw [if_neg (Int64.not_lt.mpr c350)]), by rw [ht]; exact (by rw [hx0]; exact ⟨_, hR⟩)⟩) hL dX11_peg_362
                            · refine lv_lload hx hb dX11_peg_353 (lv_at hl 0 rfl) ?_
                              refine lv_lload hx hb dX11_peg_355 (lv_at hl 1 rfl) ?_
                              refine lv_lsub hx hb dX11_peg_357 ?_
                              refine lv_goto (tgt := 362) hx hb dX11_peg_358 (by decide) ?_
                              exact W.lret (v := ((p_hi (m_pb M u a u + (mI M 16 u).toInt64) (m_la M a 0 nu.toNatClampNeg)) - (p_lo (m_pb M u a u) (m_fi M a 0 nu.toNatClampNeg)))) hx hb hr (fun t ht hW => ⟨ovJ (by rw [m_pegr_0 (by omega) ha ea hx0]; unfold m_pegv; rw [if_neg (fun q => absurd q.1 (by decide))]; unfold p_ov; rw [if_pos (l_nle c350)]), by rw [ht]; exact (by rw [hx0]; exact ⟨_, hR⟩)⟩) hL dX11_peg_362
                          · refine lv_lload hx hb dX11_peg_336 (lv_at hl 3 rfl) ?_
                            refine lv_goto (tgt := 343) hx hb dX11_peg_338 (by decide) ?_
                            refine gx_tl (p_hi (m_pb M u a u + (mI M 16 u).toInt64) (m_la M a 0 nu.toNatClampNeg)) (by unfold p_hi; rw [if_pos (l_nle c333)]) ?_
                            refine lv_lstore (lv' := [(17, .long (p_hi (m_pb M u a u + (mI M 16 u).toInt64) (m_la M a 0 nu.toNatClampNeg))), (15, .long (p_lo (m_pb M u a u) (m_fi M a 0 nu.toNatClampNeg))), (13, .long (m_la M a 0 nu.toNatClampNeg)), (11, .long (m_fi M a 0 nu.toNatClampNeg)), (9, .long (m_pb M u a u + (mI M 16 u).toInt64)), (7, .long (m_pb M u a u)), (0, .ref (s0.heap.size + 104)), (1, .int (nI u)), (2, .int 0), (3, .int nu), (6, .int (nI a))]) hx hb dX11_peg_343 hl (by decide) rfl (fun ls hl => ?_)
                            refine lv_lload hx hb dX11_peg_345 (lv_at hl 0 rfl) ?_
                            refine lv_lload hx hb dX11_peg_347 (lv_at hl 1 rfl) ?_
                            refine gx_lc_le (tgt := 361) (pc1 := 350) hx hb rfl dX11_peg_349 dX11_peg_350 (by decide) (fun c350 => ?_) (fun c350 => ?_)
                            · refine lv_lconst (v := 0) hx hb dX11_peg_361 (by decide) ?_
                              exact W.lret (v := 0) hx hb hr (fun t ht hW => ⟨ovJ (by rw [m_pegr_0 (by omega) ha ea hx0]; unfold m_pegv; rw [if_neg (fun q => absurd q.1 (by decide))]; unfold p_ov; rw [if_neg (Int64.not_lt.mpr c350)]), by rw [ht]; exact (by rw [hx0]; exact ⟨_, hR⟩)⟩) hL dX11_peg_362
                            · refine lv_lload hx hb dX11_peg_353 (lv_at hl 0 rfl) ?_
                              refine lv_lload hx hb dX11_peg_355 (lv_at hl 1 rfl) ?_
                              refine lv_lsub hx hb dX11_peg_357 ?_
                              refine lv_goto (tgt := 362) hx hb dX11_peg_358 (by decide) ?_
                              exact W.lret (v := ((p_hi (m_pb M u a u + (mI M 16 u).toInt64) (m_la M a 0 nu.toNatClampNeg)) - (p_lo (m_pb M u a u) (m_fi M a 0 nu.toNatClampNeg)))) hx hb hr (fun t ht hW => ⟨ovJ (by rw [m_pegr_0 (by omega) ha ea hx0]; unfold m_pegv; rw [if_neg (fun q => absurd q.1 (by decide))]; unfold p_ov; rw [if_pos (l_nle c350)]), by rw [ht]; exact (by rw [hx0]; exact ⟨_, hR⟩)⟩) hL dX11_peg_362
                  · have hkc : k < u := by have := n_lt c176 (by omega) (by omega); omega
                    refine lv_aload_n hx hb dX11_peg_179 rfl (lv_at hl 2 rfl) ?_
                    refine gx_get (D := D) (cl := gcl) (ci := 10) (v := .ref (mad s0.heap.size 14)) (C := RX11) (T := TX11) (N := 27) hx hb hts in_X11 hown hK hR.mo rfl 16 (by decide) (hts _ q902) (fun _ h9 => h9) rfl dX11_peg_180 ?_
                    refine lv_iload hx hb dX11_peg_183 (lv_at hl 1 rfl) ?_
                    refine gx_iald (n := 72) hx hb hK 1 (hR.mia 14 (by decide)) rfl k (rfl) (by omega) (by decide) dX11_peg_185 ?_
                    refine lv_iload hx hb dX11_peg_186 (lv_at hl 6 rfl) ?_
                    refine lv_icmp_ne (tgt := 221) hx hb dX11_peg_188 (by decide) (fun c188 => ?_) (fun c188 => ?_)
                    · refine lv_lload hx hb dX11_peg_221 (lv_at hl 0 rfl) ?_
                      refine gx_tl (m_pb M u a (k + 1)) (by rw [m_pb, if_neg (fun q => c188 q.1)]; try rfl) ?_
                      refine lv_lstore (lv' := [(7, .long (m_pb M u a (k + 1))), (9, .int (nI k)), (0, .ref (s0.heap.size + 104)), (1, .int (nI u)), (2, .int 0), (3, .int nu), (6, .int (nI a))]) hx hb dX11_peg_223 hl (by decide) rfl (fun ls hl => ?_)
                      refine lv_iinc (v := nI (k + 1)) (lv' := [(9, .int (nI (k + 1))), (7, .long (m_pb M u a (k + 1))), (0, .ref (s0.heap.size + 104)), (1, .int (nI u)), (2, .int 0), (3, .int nu), (6, .int (nI a))]) hx hb dX11_peg_225 hl (k := 1) rfl (nI_1 k) (by decide) rfl (fun ls hl => ?_)
                      refine lv_goto (tgt := 173) hx hb dX11_peg_228 (by decide) ?_
                      exact ih (k + 1) _ _ (by omega) (by omega) (lv_sub hl [1, 0, 2, 3, 4, 5, 6] rfl) hL
                    · refine lv_aload_n hx hb dX11_peg_191 rfl (lv_at hl 2 rfl) ?_
                      refine gx_get (D := D) (cl := gcl) (ci := 10) (v := .ref (mad s0.heap.size 15)) (C := RX11) (T := TX11) (N := 27) hx hb hts in_X11 hown hK hR.mo rfl 17 (by decide) (hts _ q903) (fun _ h9 => h9) rfl dX11_peg_192 ?_
                      refine lv_iload hx hb dX11_peg_195 (lv_at hl 1 rfl) ?_
                      refine gx_iald (n := 72) hx hb hK 1 (hR.mia 15 (by decide)) rfl k (rfl) (by omega) (by decide) dX11_peg_197 ?_
                      refine lv_aload_n hx hb dX11_peg_198 rfl (lv_at hl 2 rfl) ?_
                      refine gx_get (D := D) (cl := gcl) (ci := 10) (v := .ref (mad s0.heap.size 15)) (C := RX11) (T := TX11) (N := 27) hx hb hts in_X11 hown hK hR.mo rfl 17 (by decide) (hts _ q903) (fun _ h9 => h9) rfl dX11_peg_199 ?_
                      refine lv_iload_n hx hb dX11_peg_202 rfl (lv_at hl 3 rfl) ?_
                      refine gx_iald (n := 72) hx hb hK 1 (hR.mia 15 (by decide)) rfl u (rfl) (by omega) (by decide) dX11_peg_203 ?_
                      refine lv_icmp_ne (tgt := 221) hx hb dX11_peg_204 (by decide) (fun c204 => ?_) (fun c204 => ?_)
                      · refine lv_lload hx hb dX11_peg_221 (lv_at hl 0 rfl) ?_
                        refine gx_tl (m_pb M u a (k + 1)) (by rw [m_pb, if_neg (fun q => c204 q.2)]; try rfl) ?_
                        refine lv_lstore (lv' := [(7, .long (m_pb M u a (k + 1))), (9, .int (nI k)), (0, .ref (s0.heap.size + 104)), (1, .int (nI u)), (2, .int 0), (3, .int nu), (6, .int (nI a))]) hx hb dX11_peg_223 hl (by decide) rfl (fun ls hl => ?_)
                        refine lv_iinc (v := nI (k + 1)) (lv' := [(9, .int (nI (k + 1))), (7, .long (m_pb M u a (k + 1))), (0, .ref (s0.heap.size + 104)), (1, .int (nI u)), (2, .int 0), (3, .int nu), (6, .int (nI a))]) hx hb dX11_peg_225 hl (k := 1) rfl (nI_1 k) (by decide) rfl (fun ls hl => ?_)
                        refine lv_goto (tgt := 173) hx hb dX11_peg_228 (by decide) ?_
                        exact ih (k + 1) _ _ (by omega) (by omega) (lv_sub hl [1, 0, 2, 3, 4, 5, 6] rfl) hL
                      · refine lv_lload hx hb dX11_peg_207 (lv_at hl 0 rfl) ?_
                        refine lv_aload_n hx hb dX11_peg_209 rfl (lv_at hl 2 rfl) ?_
                        refine gx_get (D := D) (cl := gcl) (ci := 10) (v := .ref (mad s0.heap.size 16)) (C := RX11) (T := TX11) (N := 27) hx hb hts in_X11 hown hK hR.mo rfl 18 (by decide) (hts _ q904) (fun _ h9 => h9) rfl dX11_peg_210 ?_
                        refine lv_iload hx hb dX11_peg_213 (lv_at hl 1 rfl) ?_
                        refine gx_iald (n := 72) hx hb hK 1 (hR.mia 16 (by decide)) rfl k (rfl) (by omega) (by decide) dX11_peg_215 ?_
                        refine lv_i2l (v := (mI (mz M 0 0) 16 k).toInt64) hx hb dX11_peg_216 rfl ?_
                        refine lv_ladd hx hb dX11_peg_217 ?_
                        refine lv_goto (tgt := 223) hx hb dX11_peg_218 (by decide) ?_
                        refine gx_tl (m_pb M u a (k + 1)) (by rw [m_pb, if_pos ⟨c188, c204⟩]; try rfl) ?_
                        refine lv_lstore (lv' := [(7, .long (m_pb M u a (k + 1))), (9, .int (nI k)), (0, .ref (s0.heap.size + 104)), (1, .int (nI u)), (2, .int 0), (3, .int nu), (6, .int (nI a))]) hx hb dX11_peg_223 hl (by decide) rfl (fun ls hl => ?_)
                        refine lv_iinc (v := nI (k + 1)) (lv' := [(9, .int (nI (k + 1))), (7, .long (m_pb M u a (k + 1))), (0, .ref (s0.heap.size + 104)), (1, .int (nI u)), (2, .int 0), (3, .int nu), (6, .int (nI a))]) hx hb dX11_peg_225 hl (k := 1) rfl (nI_1 k) (by decide) rfl (fun ls hl => ?_)
                        refine lv_goto (tgt := 173) hx hb dX11_peg_228 (by decide) ?_
                        exact ih (k + 1) _ _ (by omega) (by omega) (lv_sub hl [1, 0, 2, 3, 4, 5, 6] rfl) hL
              refine lv_aload_n hx hb dX11_peg_109 rfl (lv_at hl 2 rfl) ?_
              refine gx_get (D := D) (cl := gcl) (ci := 10) (v := .ref (mad s0.heap.size 14)) (C := RX11) (T := TX11) (N := 27) hx hb hts in_X11 hown hK hR.mo rfl 16 (by decide) (hts _ q902) (fun _ h9 => h9) rfl dX11_peg_110 ?_
              refine lv_iload_n hx hb dX11_peg_113 rfl (lv_at hl 3 rfl) ?_
              refine gx_iald (n := 72) hx hb hK 1 (hR.mia 14 (by decide)) rfl u (rfl) (by omega) (by decide) dX11_peg_114 ?_
              refine gx_ti (nI a) (ea) ?_
              refine lv_istore (lv' := [(6, .int (nI a)), (5, .int 1), (4, .int (bZ (inR (nI u) 0 ((mI M 13 0) - 1)))), (0, .ref (s0.heap.size + 104)), (1, .int (nI u)), (2, .int 0), (3, .int nu)]) hx hb dX11_peg_115 hl (by decide) rfl (fun ls hl => ?_)
              refine lv_iload_n hx hb dX11_peg_117 rfl (lv_at hl 5 rfl) ?_
              refine lv_iconst (v := 1) hx hb dX11_peg_118 (by decide) ?_
              refine lv_icmp_ne (tgt := 138) hx hb dX11_peg_119 (by decide) (fun c119 => ?_) (fun c119 => ?_)
              · refine lv_aload_n hx hb dX11_peg_138 rfl (lv_at hl 3 rfl) ?_
                refine gx_get (D := D) (cl := gcl) (ci := 10) (v := .ref (mad s0.heap.size 15)) (C := RX11) (T := TX11) (N := 27) hx hb hts in_X11 hown hK hR.mo rfl 17 (by decide) (hts _ q903) (fun _ h9 => h9) rfl dX11_peg_139 ?_
                refine lv_iload_n hx hb dX11_peg_142 rfl (lv_at hl 4 rfl) ?_
                refine gx_iald (n := 72) hx hb hK 1 (hR.mia 15 (by decide)) rfl u (rfl) (by omega) (by decide) dX11_peg_143 ?_
                refine gx_ti (nI b) (eb) ?_
                refine lv_if_le (tgt := 167) hx hb dX11_peg_144 (by decide) (fun c144 => ?_) (fun c144 => ?_)
                · refine lv_lconst (v := 0) hx hb dX11_peg_167 (by decide) ?_
                  refine gx_tl (m_pb M u a 0) (by rw [m_pb, if_neg (Int32.not_lt.mpr (by rw [eb]; exact c144))]) ?_
                  refine lv_lstore (lv' := [(7, .long (m_pb M u a 0)), (6, .int (nI a)), (5, .int 1), (4, .int (bZ (inR (nI u) 0 ((mI M 13 0) - 1)))), (0, .ref (s0.heap.size + 104)), (1, .int (nI u)), (2, .int 0), (3, .int nu)]) hx hb dX11_peg_168 hl (by decide) rfl (fun ls hl => ?_)
                  refine lv_iconst (v := 0) hx hb dX11_peg_170 (by decide) ?_
                  refine gx_ti (nI 0) (by decide) ?_
                  refine lv_istore (lv' := [(9, .int (nI 0)), (7, .long (m_pb M u a 0)), (6, .int (nI a)), (5, .int 1), (4, .int (bZ (inR (nI u) 0 ((mI M 13 0) - 1)))), (0, .ref (s0.heap.size + 104)), (1, .int (nI u)), (2, .int 0), (3, .int nu)]) hx hb dX11_peg_171 hl (by decide) rfl (fun ls hl => ?_)
                  exact key (u + 1) 0 _ _ (by omega) (by omega) (lv_sub hl [1, 0, 5, 6, 7, 8, 2] rfl) hL
                · have h0 : 0 < b := by have := n_lt (b := b) (a := 0) c144 (by omega) (by omega); omega
                  refine lv_aload_n hx hb dX11_peg_147 rfl (lv_at hl 3 rfl) ?_
                  refine gx_get (D := D) (cl := gcl) (ci := 10) (v := .ref (mad s0.heap.size 18)) (C := RX11) (T := TX11) (N := 27) hx hb hts in_X11 hown hK hR.mo rfl 22 (by decide) (hts _ q908) (fun _ h9 => h9) rfl dX11_peg_148 ?_
                  refine lv_iload hx hb dX11_peg_151 (lv_at hl 0 rfl) ?_
                  refine lv_aload_n hx hb dX11_peg_153 rfl (lv_at hl 3 rfl) ?_
                  refine gx_get (D := D) (cl := gcl) (ci := 10) (v := .ref (mad s0.heap.size 15)) (C := RX11) (T := TX11) (N := 27) hx hb hts in_X11 hown hK hR.mo rfl 17 (by decide) (hts _ q903) (fun _ h9 => h9) rfl dX11_peg_154 ?_
                  refine lv_iload_n hx hb dX11_peg_157 rfl (lv_at hl 4 rfl) ?_
                  refine gx_iald (n := 72) hx hb hK 1 (hR.mia 15 (by decide)) rfl u (rfl) (by omega) (by decide) dX11_peg_158 ?_
                  refine gx_ti (nI b) (eb) ?_
                  refine lv_iconst (v := 1) hx hb dX11_peg_159 (by decide) ?_
                  refine lv_isub hx hb dX11_peg_160 ?_
                  refine gx_ti (nI (b - 1)) (by exact pk_sub (a := b) (b := 1) h0) ?_
                  refine cc_v (va_runS (As := [.ref (mad s0.heap.size 18), .int (nI a), .int (nI (b - 1))]) (rest := []) ⟨hx, hb, hml, hown, hts⟩ (ct_X11_upTo (f := mL M 18) (a := mad s0.heap.size 18) (n1 := 144) (n0 := b) (i := a) (wk := nI (b - 1)) hE (hR.mla 18 (by decide) (by decide)) (by decide) (by omega) (fun k h1 h2 => by have := n_gt h2 (by omega) (by omega); omega) (fun k h1 h2 => by have := n_le h2 (by omega) (by omega); omega) (fun k h1 => by omega)) (va_cwS 3 hts (lw_S q1074 q1075 q61 q1076) rfl rfl rfl (by decide +kernel) ⟨Nat.le_of_ble_eq_true rfl, Nat.le_of_ble_eq_true rfl⟩) (cc_pS hW0) rfl rfl hl.1 rfl (lv_room (Nat.le_of_ble_eq_true rfl)) dX11_peg_161 ⟨Nat.le_of_ble_eq_true rfl, Nat.le_of_ble_eq_true rfl⟩) hL (fun H locs hP1 hL => ?_)
                  subst hP1
                  refine lv_goto (tgt := 168) hx hb dX11_peg_164 (by decide) ?_
                  refine gx_tl (m_pb M u a 0) (by rw [m_pb, if_pos (by rw [eb]; exact i_nle c144)]; rw [eb, nI_cl hb2]) ?_
                  refine lv_lstore (lv' := [(7, .long (m_pb M u a 0)), (6, .int (nI a)), (5, .int 1), (4, .int (bZ (inR (nI u) 0 ((mI M 13 0) - 1)))), (0, .ref (s0.heap.size + 104)), (1, .int (nI u)), (2, .int 0), (3, .int nu)]) hx hb dX11_peg_168 hl (by decide) rfl (fun ls hl => ?_)
                  refine lv_iconst (v := 0) hx hb dX11_peg_170 (by decide) ?_
                  refine gx_ti (nI 0) (by decide) ?_
                  refine lv_istore (lv' := [(9, .int (nI 0)), (7, .long (m_pb M u a 0)), (6, .int (nI a)), (5, .int 1), (4, .int (bZ (inR (nI u) 0 ((mI M 13 0) - 1)))), (0, .ref (s0.heap.size + 104)), (1, .int (nI u)), (2, .int 0), (3, .int nu)]) hx hb dX11_peg_171 hl (by decide) rfl (fun ls hl => ?_)
                  exact key (u + 1) 0 _ _ (by omega) (by omega) (lv_sub hl [1, 0, 5, 6, 7, 8, 2] rfl) hL
              · exact absurd c119 (by decide)
            · exact absurd c104 (by decide)
          · refine lv_iconst (v := 3) hx hb dX11_peg_96 (by decide) ?_
            refine lv_goto (tgt := 101) hx hb dX11_peg_97 (by decide) ?_
            refine cc_v (va_runV (b := s0.heap.size + 104) (As := [.int 3]) (rest := []) ⟨hx, hb, hml, hown, hts⟩ (ct_X11_refused hE ⟨_, hR⟩ 3) (cwV 1 hts (lw_V q983 q985 qs23 q61 q986) rfl rfl rfl (by decide +kernel) ⟨Nat.le_of_ble_eq_true rfl, Nat.le_of_ble_eq_true rfl⟩) (cc_pV hW0 (cc_re hK hR.mo (show gcl[10]? = _ from rfl))) rfl rfl hl.1 rfl (lv_room (Nat.le_of_ble_eq_true rfl)) dX11_peg_101 ⟨Nat.le_of_ble_eq_true rfl, Nat.le_of_ble_eq_true rfl⟩) hL (fun H locs hP1 hL => ?_)
            obtain ⟨Y, hR⟩ := hP1
            refine lv_if_eq (tgt := 109) hx hb dX11_peg_104 (by decide) (fun c104 => ?_) (fun c104 => ?_)
            · exact absurd c104 (by decide)
            · refine lv_lconst (v := 0) hx hb dX11_peg_107 (by decide) ?_
              exact W.lret (v := 0) hx hb hr (fun t ht hW => ⟨ovJ (m_pegr_x (xg_4 (bZ_1.mp c60) (by decide) hnb c93) (by decide)).symm, by rw [ht]; exact (by rw [xg_4 (bZ_1.mp c60) (by decide) hnb c93]; exact ⟨_, hR⟩)⟩) hL dX11_peg_108
        · exact absurd c82 (by decide)
      · exact absurd c73 (by decide)
    · refine lv_iconst (v := 1) hx hb dX11_peg_63 (by decide) ?_
      refine lv_goto (tgt := 101) hx hb dX11_peg_64 (by decide) ?_
      refine cc_v (va_runV (b := s0.heap.size + 104) (As := [.int 1]) (rest := []) ⟨hx, hb, hml, hown, hts⟩ (ct_X11_refused hE ⟨_, hR⟩ 1) (cwV 1 hts (lw_V q983 q985 qs23 q61 q986) rfl rfl rfl (by decide +kernel) ⟨Nat.le_of_ble_eq_true rfl, Nat.le_of_ble_eq_true rfl⟩) (cc_pV hW0 (cc_re hK hR.mo (show gcl[10]? = _ from rfl))) rfl rfl hl.1 rfl (lv_room (Nat.le_of_ble_eq_true rfl)) dX11_peg_101 ⟨Nat.le_of_ble_eq_true rfl, Nat.le_of_ble_eq_true rfl⟩) hL (fun H locs hP1 hL => ?_)
      obtain ⟨Y, hR⟩ := hP1
      refine lv_if_eq (tgt := 109) hx hb dX11_peg_104 (by decide) (fun c104 => ?_) (fun c104 => ?_)
      · exact absurd c104 (by decide)
      · refine lv_lconst (v := 0) hx hb dX11_peg_107 (by decide) ?_
        exact W.lret (v := 0) hx hb hr (fun t ht hW => ⟨ovJ (m_pegr_x (xg_1 (bZ_0.mp c60)) (by decide)).symm, by rw [ht]; exact (by rw [xg_1 (bZ_0.mp c60)]; exact ⟨_, hR⟩)⟩) hL dX11_peg_108
  · refine lv_iload_n hx hb dX11_peg_19 rfl (lv_at hl 3 rfl) ?_
    refine lv_iconst (v := 1) hx hb dX11_peg_20 (by decide) ?_
    refine lv_icmp_ne (tgt := 43) hx hb dX11_peg_21 (by decide) (fun c21 => ?_) (fun c21 => ?_)
    · refine lv_iload_n hx hb dX11_peg_43 rfl (lv_at hl 4 rfl) ?_
      refine cc_v (va_runS (As := [.int nu]) (rest := []) ⟨hx, hb, hml, hown, hts⟩ (ct_X11_isTwelve hE nu) (va_cwS 1 hts (lw_S q980 q981 q61 q982) rfl rfl rfl (by decide +kernel) ⟨Nat.le_of_ble_eq_true rfl, Nat.le_of_ble_eq_true rfl⟩) (cc_pS hW0) rfl rfl hl.1 rfl (lv_room (Nat.le_of_ble_eq_true rfl)) dX11_peg_44 ⟨Nat.le_of_ble_eq_true rfl, Nat.le_of_ble_eq_true rfl⟩) hL (fun H locs hP1 hL => ?_)
      subst hP1
      refine lv_if_eq (tgt := 54) hx hb dX11_peg_47 (by decide) (fun c47 => ?_) (fun c47 => ?_)
      · refine lv_iconst (v := 0) hx hb dX11_peg_54 (by decide) ?_
        refine lv_istore (lv' := [(5, .int 0), (4, .int (bZ (inR d 0 ((mI M 13 0) - 1)))), (0, .ref (s0.heap.size + 104)), (1, .int d), (2, .int kd), (3, .int nu)]) hx hb dX11_peg_55 hl (by decide) rfl (fun ls hl => ?_)
        refine lv_aload_n hx hb dX11_peg_57 rfl (lv_at hl 2 rfl) ?_
        refine lv_iload hx hb dX11_peg_58 (lv_at hl 1 rfl) ?_
        refine lv_if_ne (tgt := 67) hx hb dX11_peg_60 (by decide) (fun c60 => ?_) (fun c60 => ?_)
        · refine lv_iload_n hx hb dX11_peg_67 rfl (lv_at hl 4 rfl) ?_
          refine lv_iconst (v := 0) hx hb dX11_peg_68 (by decide) ?_
          refine lv_iconst (v := 2) hx hb dX11_peg_69 (by decide) ?_
          refine cc_v (va_runS (As := [.int kd, .int 0, .int 2]) (rest := [.ref (s0.heap.size + 104)]) ⟨hx, hb, hml, hown, hts⟩ (ct_X11_isIn hE kd 0 2) (va_cwS 3 hts (lw_S q977 q978 q61 q979) rfl rfl rfl (by decide +kernel) ⟨Nat.le_of_ble_eq_true rfl, Nat.le_of_ble_eq_true rfl⟩) (cc_pS hW0) rfl rfl hl.1 rfl (lv_room (Nat.le_of_ble_eq_true rfl)) dX11_peg_70 ⟨Nat.le_of_ble_eq_true rfl, Nat.le_of_ble_eq_true rfl⟩) hL (fun H locs hP1 hL => ?_)
          subst hP1
          refine lv_if_ne (tgt := 80) hx hb dX11_peg_73 (by decide) (fun c73 => ?_) (fun c73 => ?_)
          · obtain rfl : kd = 2 := kd_2 c16 c21 (bZ_1.mp c73)
            refine lv_iload hx hb dX11_peg_80 (lv_at hl 0 rfl) ?_
            refine lv_if_ne (tgt := 89) hx hb dX11_peg_82 (by decide) (fun c82 => ?_) (fun c82 => ?_)
            · exact absurd rfl c82
            · have hnb : m_numb M 2 nu = false := by unfold m_numb; rw [bZ_0.mp c47]; rfl
              refine lv_iconst (v := 1) hx hb dX11_peg_85 (by decide) ?_
              refine lv_goto (tgt := 101) hx hb dX11_peg_86 (by decide) ?_
              refine cc_v (va_runV (b := s0.heap.size + 104) (As := [.int 1]) (rest := []) ⟨hx, hb, hml, hown, hts⟩ (ct_X11_refused hE ⟨_, hR⟩ 1) (cwV 1 hts (lw_V q983 q985 qs23 q61 q986) rfl rfl rfl (by decide +kernel) ⟨Nat.le_of_ble_eq_true rfl, Nat.le_of_ble_eq_true rfl⟩) (cc_pV hW0 (cc_re hK hR.mo (show gcl[10]? = _ from rfl))) rfl rfl hl.1 rfl (lv_room (Nat.le_of_ble_eq_true rfl)) dX11_peg_101 ⟨Nat.le_of_ble_eq_true rfl, Nat.le_of_ble_eq_true rfl⟩) hL (fun H locs hP1 hL => ?_)
              obtain ⟨Y, hR⟩ := hP1
              refine lv_if_eq (tgt := 109) hx hb dX11_peg_104 (by decide) (fun c104 => ?_) (fun c104 => ?_)
              · exact absurd c104 (by decide)
              · refine lv_lconst (v := 0) hx hb dX11_peg_107 (by decide) ?_
                exact W.lret (v := 0) hx hb hr (fun t ht hW => ⟨ovJ (m_pegr_x (xg_3 (bZ_1.mp c60) (by decide) hnb) (by decide)).symm, by rw [ht]; exact (by rw [xg_3 (bZ_1.mp c60) (by decide) hnb]; exact ⟨_, hR⟩)⟩) hL dX11_peg_108
          · refine lv_iconst (v := 2) hx hb dX11_peg_76 (by decide) ?_
            refine lv_goto (tgt := 101) hx hb dX11_peg_77 (by decide) ?_
            refine cc_v (va_runV (b := s0.heap.size + 104) (As := [.int 2]) (rest := []) ⟨hx, hb, hml, hown, hts⟩ (ct_X11_refused hE ⟨_, hR⟩ 2) (cwV 1 hts (lw_V q983 q985 qs23 q61 q986) rfl rfl rfl (by decide +kernel) ⟨Nat.le_of_ble_eq_true rfl, Nat.le_of_ble_eq_true rfl⟩) (cc_pV hW0 (cc_re hK hR.mo (show gcl[10]? = _ from rfl))) rfl rfl hl.1 rfl (lv_room (Nat.le_of_ble_eq_true rfl)) dX11_peg_101 ⟨Nat.le_of_ble_eq_true rfl, Nat.le_of_ble_eq_true rfl⟩) hL (fun H locs hP1 hL => ?_)
            obtain ⟨Y, hR⟩ := hP1
            refine lv_if_eq (tgt := 109) hx hb dX11_peg_104 (by decide) (fun c104 => ?_) (fun c104 => ?_)
            · exact absurd c104 (by decide)
            · refine lv_lconst (v := 0) hx hb dX11_peg_107 (by decide) ?_
              exact W.lret (v := 0) hx hb hr (fun t ht hW => ⟨ovJ (m_pegr_x (xg_2 (bZ_1.mp c60) (bZ_0.mp c73)) (by decide)).symm, by rw [ht]; exact (by rw [xg_2 (bZ_1.mp c60) (bZ_0.mp c73)]; exact ⟨_, hR⟩)⟩) hL dX11_peg_108
        · refine lv_iconst (v := 1) hx hb dX11_peg_63 (by decide) ?_
          refine lv_goto (tgt := 101) hx hb dX11_peg_64 (by decide) ?_
          refine cc_v (va_runV (b := s0.heap.size + 104) (As := [.int 1]) (rest := []) ⟨hx, hb, hml, hown, hts⟩ (ct_X11_refused hE ⟨_, hR⟩ 1) (cwV 1 hts (lw_V q983 q985 qs23 q61 q986) rfl rfl rfl (by decide +kernel) ⟨Nat.le_of_ble_eq_true rfl, Nat.le_of_ble_eq_true rfl⟩) (cc_pV hW0 (cc_re hK hR.mo (show gcl[10]? = _ from rfl))) rfl rfl hl.1 rfl (lv_room (Nat.le_of_ble_eq_true rfl)) dX11_peg_101 ⟨Nat.le_of_ble_eq_true rfl, Nat.le_of_ble_eq_true rfl⟩) hL (fun H locs hP1 hL => ?_)
          obtain ⟨Y, hR⟩ := hP1
          refine lv_if_eq (tgt := 109) hx hb dX11_peg_104 (by decide) (fun c104 => ?_) (fun c104 => ?_)
          · exact absurd c104 (by decide)
          · refine lv_lconst (v := 0) hx hb dX11_peg_107 (by decide) ?_
            exact W.lret (v := 0) hx hb hr (fun t ht hW => ⟨ovJ (m_pegr_x (xg_1 (bZ_0.mp c60)) (by decide)).symm, by rw [ht]; exact (by rw [xg_1 (bZ_0.mp c60)]; exact ⟨_, hR⟩)⟩) hL dX11_peg_108
      · refine lv_iconst (v := 1) hx hb dX11_peg_50 (by decide) ?_
        refine lv_goto (tgt := 55) hx hb dX11_peg_51 (by decide) ?_
        refine lv_istore (lv' := [(5, .int 1), (4, .int (bZ (inR d 0 ((mI M 13 0) - 1)))), (0, .ref (s0.heap.size + 104)), (1, .int d), (2, .int kd), (3, .int nu)]) hx hb dX11_peg_55 hl (by decide) rfl (fun ls hl => ?_)
        refine lv_aload_n hx hb dX11_peg_57 rfl (lv_at hl 2 rfl) ?_
        refine lv_iload hx hb dX11_peg_58 (lv_at hl 1 rfl) ?_
        refine lv_if_ne (tgt := 67) hx hb dX11_peg_60 (by decide) (fun c60 => ?_) (fun c60 => ?_)
        · refine lv_iload_n hx hb dX11_peg_67 rfl (lv_at hl 4 rfl) ?_
          refine lv_iconst (v := 0) hx hb dX11_peg_68 (by decide) ?_
          refine lv_iconst (v := 2) hx hb dX11_peg_69 (by decide) ?_
          refine cc_v (va_runS (As := [.int kd, .int 0, .int 2]) (rest := [.ref (s0.heap.size + 104)]) ⟨hx, hb, hml, hown, hts⟩ (ct_X11_isIn hE kd 0 2) (va_cwS 3 hts (lw_S q977 q978 q61 q979) rfl rfl rfl (by decide +kernel) ⟨Nat.le_of_ble_eq_true rfl, Nat.le_of_ble_eq_true rfl⟩) (cc_pS hW0) rfl rfl hl.1 rfl (lv_room (Nat.le_of_ble_eq_true rfl)) dX11_peg_70 ⟨Nat.le_of_ble_eq_true rfl, Nat.le_of_ble_eq_true rfl⟩) hL (fun H locs hP1 hL => ?_)
          subst hP1
          refine lv_if_ne (tgt := 80) hx hb dX11_peg_73 (by decide) (fun c73 => ?_) (fun c73 => ?_)
          · obtain rfl : kd = 2 := kd_2 c16 c21 (bZ_1.mp c73)
            refine lv_iload hx hb dX11_peg_80 (lv_at hl 0 rfl) ?_
            refine lv_if_ne (tgt := 89) hx hb dX11_peg_82 (by decide) (fun c82 => ?_) (fun c82 => ?_)
            · have hnb : m_numb M 2 nu = true := by unfold m_numb; rw [bZ_1.mp c47]; rfl
              refine lv_aload_n hx hb dX11_peg_89 rfl (lv_at hl 2 rfl) ?_
              refine gx_get (D := D) (cl := gcl) (ci := 10) (v := .int (mS M 20)) (C := RX11) (T := TX11) (N := 27) hx hb hts in_X11 hown hK hR.mo rfl 20 (by decide) (hts _ q906) (fun _ h9 => h9) rfl dX11_peg_90 ?_
              refine lv_if_eq (tgt := 100) hx hb dX11_peg_93 (by decide) (fun c93 => ?_) (fun c93 => ?_)
              · have hx0 : x_peg M d 2 nu = 0 := xg_0 (bZ_1.mp c60) (by decide) hnb c93
                have h9 := bZ_1.mp c60
                rw [hC.ct (K := 0) (by decide)] at h9
                have c24 := hC.c24 (K := 0) (by decide)
                have c25 := hC.c24 (K := 1) (by decide)
                obtain ⟨u, hu, rfl⟩ := inR_in (by omega) h9
                obtain ⟨⟨a, ha, ea⟩, b, hb2, eb⟩ := hC.2.2.2 0 (by decide) u hu
                rw [Nat.mul_zero, Nat.zero_add] at ea eb
                obtain ⟨v, hv, rfl⟩ := in12_t (bZ_1.mp c47)
                have hcl : (nI v).toNatClampNeg = v := nI_cl hv
                refine lv_iconst (v := 0) hx hb dX11_peg_100 (by decide) ?_
                refine cc_v (va_runV (b := s0.heap.size + 104) (As := [.int 0]) (rest := []) ⟨hx, hb, hml, hown, hts⟩ (ct_X11_refused hE ⟨_, hR⟩ 0) (cwV 1 hts (lw_V q983 q985 qs23 q61 q986) rfl rfl rfl (by decide +kernel) ⟨Nat.le_of_ble_eq_true rfl, Nat.le_of_ble_eq_true rfl⟩) (cc_pV hW0 (cc_re hK hR.mo (show gcl[10]? = _ from rfl))) rfl rfl hl.1 rfl (lv_room (Nat.le_of_ble_eq_true rfl)) dX11_peg_101 ⟨Nat.le_of_ble_eq_true rfl, Nat.le_of_ble_eq_true rfl⟩) hL (fun H locs hP1 hL => ?_)
                obtain ⟨Y, hR⟩ := hP1
                refine lv_if_eq (tgt := 109) hx hb dX11_peg_104 (by decide) (fun c104 => ?_) (fun c104 => ?_)
                · have key : ∀ (n : Nat) (k : Nat) (locs : List Loc) (ls : Array Slot), k ≤ u → u < k + n → lv_has ls 19 [(7, .long (m_pb M u a k)), (9, .int (nI k)), (0, .ref (s0.heap.size + 104)), (1, .int (nI u)), (2, .int 2), (3, .int (nI v)), (6, .int (nI a))] → gx_L s0.heap.size locs → W p l e (headSpec (ws_ yX11_peg cX11_peg 19 (some .long)) ({ frames := 2, cells := 0, slots := 0, locals := 53 })).room s m ([.ref (s0.heap.size + 104), .int (nI u), .int 2, .int (nI v)] : List Value).toArray below meth c H locs 0 0 (MQ below (cQv (.long (m_pegr M (nI u) 2 (nI v))) (fun H1 => RR s0 D DA z0 C (mz M 0 (x_peg M (nI u) 2 (nI v))) o H1)) ([.ref (s0.heap.size + 104), .int (nI u), .int 2, .int (nI v)] : List Value).toArray s 0 0 (cF s0)) (F0 m 173 ls []) := by
                    intro n
                    induction n with
                    | zero =>
                      intro k locs ls hk hn hl hL
                      omega
                    | succ n ih =>
                      intro k locs ls hk hn hl hL
                      refine lv_iload hx hb dX11_peg_173 (lv_at hl 1 rfl) ?_
                      refine lv_iload_n hx hb dX11_peg_175 rfl (lv_at hl 3 rfl) ?_
                      refine lv_icmp_ge (tgt := 231) hx hb dX11_peg_176 (by decide) (fun c176 => ?_) (fun c176 => ?_)
                      · have hkc : k = u := by have := n_ge c176 (by omega) (by omega); omega
                        rw [hkc] at hl
                        refine lv_lload hx hb dX11_peg_231 (lv_at hl 0 rfl) ?_
                        refine lv_aload_n hx hb dX11_peg_233 rfl (lv_at hl 2 rfl) ?_
                        refine gx_get (D := D) (cl := gcl) (ci := 10) (v := .ref (mad s0.heap.size 16)) (C := RX11) (T := TX11) (N := 27) hx hb hts in_X11 hown hK hR.mo rfl 18 (by decide) (hts _ q904) (fun _ h9 => h9) rfl dX11_peg_234 ?_
                        refine lv_iload_n hx hb dX11_peg_237 rfl (lv_at hl 3 rfl) ?_
                        refine gx_iald (n := 72) hx hb hK 1 (hR.mia 16 (by decide)) rfl u (rfl) (by omega) (by decide) dX11_peg_238 ?_
                        refine lv_i2l (v := (mI (mz M 0 0) 16 u).toInt64) hx hb dX11_peg_239 rfl ?_
                        refine lv_ladd hx hb dX11_peg_240 ?_
                        refine gx_tl (m_pb M u a u + (mI M 16 u).toInt64) (rfl) ?_
                        refine lv_lstore (lv' := [(9, .long (m_pb M u a u + (mI M 16 u).toInt64)), (7, .long (m_pb M u a u)), (0, .ref (s0.heap.size + 104)), (1, .int (nI u)), (2, .int 2), (3, .int (nI v)), (6, .int (nI a))]) hx hb dX11_peg_241 hl (by decide) rfl (fun ls hl => ?_)
                        refine lv_iload_n hx hb dX11_peg_243 rfl (lv_at hl 4 rfl) ?_
                        refine lv_if_ne (tgt := 251) hx hb dX11_peg_244 (by decide) (fun c244 => ?_) (fun c244 => ?_)
                        · refine lv_aload_n hx hb dX11_peg_251 rfl (lv_at hl 2 rfl) ?_
                          refine lv_iload hx hb dX11_peg_252 (lv_at hl 6 rfl) ?_
                          refine lv_iload_n hx hb dX11_peg_254 rfl (lv_at hl 4 rfl) ?_
                          refine lv_iload_n hx hb dX11_peg_255 rfl (lv_at hl 5 rfl) ?_
                          refine cc_v (va_runV (b := s0.heap.size + 104) (As := [.int (nI a), .int 2, .int (nI v)]) (rest := []) ⟨hx, hb, hml, hown, hts⟩ (ct_X11_supplied2 (i := a) (b := v) hE ⟨_, hR⟩ ha hv (hC.of rfl)) (cwV 3 hts (lw_V q1121 q1123 qs43 q61 q1124) rfl rfl rfl (by decide +kernel) ⟨Nat.le_of_ble_eq_true rfl, Nat.le_of_ble_eq_true rfl⟩) (cc_pV hW0 (cc_re hK hR.mo (show gcl[10]? = _ from rfl))) rfl rfl hl.1 rfl (lv_room (Nat.le_of_ble_eq_true rfl)) dX11_peg_256 ⟨Nat.le_of_ble_eq_true rfl, Nat.le_of_ble_eq_true rfl⟩) hL (fun H locs hP1 hL => ?_)
                          subst hP1
                          refine gx_tl (m_supr M a v true v) (m_supr_c (M := M) (M' := mz M 0 0) rfl rfl a v true v) ?_
                          refine gx_tl (m_fi M a 2 v) (by unfold m_fi; rw [if_neg (by decide), if_neg (by decide)]) ?_
                          refine lv_lstore (lv' := [(11, .long (m_fi M a 2 v)), (9, .long (m_pb M u a u + (mI M 16 u).toInt64)), (7, .long (m_pb M u a u)), (0, .ref (s0.heap.size + 104)), (1, .int (nI u)), (2, .int 2), (3, .int (nI v)), (6, .int (nI a))]) hx hb dX11_peg_259 hl (by decide) rfl (fun ls hl => ?_)
                          refine lv_iload_n hx hb dX11_peg_261 rfl (lv_at hl 5 rfl) ?_
                          refine lv_if_ne (tgt := 276) hx hb dX11_peg_262 (by decide) (fun c262 => ?_) (fun c262 => ?_)
                          · refine lv_lload hx hb dX11_peg_276 (lv_at hl 0 rfl) ?_
                            refine lv_iload_n hx hb dX11_peg_278 rfl (lv_at hl 5 rfl) ?_
                            refine lv_iconst (v := 1) hx hb dX11_peg_279 (by decide) ?_
                            refine lv_icmp_ne (tgt := 296) hx hb dX11_peg_280 (by decide) (fun c280 => ?_) (fun c280 => ?_)
                            · refine lv_aload_n hx hb dX11_peg_296 rfl (lv_at hl 3 rfl) ?_
                              refine gx_get (D := D) (cl := gcl) (ci := 10) (v := .ref (mad s0.heap.size 19)) (C := RX11) (T := TX11) (N := 27) hx hb hts in_X11 hown hK hR.mo rfl 23 (by decide) (hts _ q909) (fun _ h9 => h9) rfl dX11_peg_297 ?_
                              refine lv_bipush (v := 12) hx hb dX11_peg_300 (by decide) ?_
                              refine lv_iload hx hb dX11_peg_302 (lv_at hl 7 rfl) ?_
                              refine lv_imul hx hb dX11_peg_304 ?_
                              refine gx_ti (nI (12 * a)) (pk_mul 12 a) ?_
                              refine lv_iload_n hx hb dX11_peg_305 rfl (lv_at hl 6 rfl) ?_
                              refine lv_iadd hx hb dX11_peg_306 ?_
                              refine gx_ti (nI (12 * a + v)) (nI_add (12 * a) v) ?_
                              refine gx_lald (n := 144) hx hb hK 0 (hR.mla 19 (by decide) (by decide)) rfl (12 * a + v) (rfl) (by omega) (by decide) dX11_peg_307 ?_
                              refine lv_ladd hx hb dX11_peg_308 ?_
                              refine gx_tl (m_la M a 2 v) (by unfold m_la; rw [if_neg (by decide), if_neg (by decide)]; rfl) ?_
                              refine lv_lstore (lv' := [(13, .long (m_la M a 2 v)), (11, .long (m_fi M a 2 v)), (9, .long (m_pb M u a u + (mI M 16 u).toInt64)), (7, .long (m_pb M u a u)), (0, .ref (s0.heap.size + 104)), (1, .int (nI u)), (2, .int 2), (3, .int (nI v)), (6, .int (nI a))]) hx hb dX11_peg_309 hl (by decide) rfl (fun ls hl => ?_)
                              refine lv_lload hx hb dX11_peg_311 (lv_at hl 3 rfl) ?_
                              refine lv_lload hx hb dX11_peg_313 (lv_at hl 1 rfl) ?_
                              refine gx_lc_le (tgt := 324) (pc1 := 316) hx hb rfl dX11_peg_315 dX11_peg_316 (by decide) (fun c316 => ?_) (fun c316 => ?_)
                              · refine lv_lload hx hb dX11_peg_324 (lv_at hl 1 rfl) ?_
                                refine gx_tl (p_lo (m_pb M u a u) (m_fi M a 2 v)) (by unfold p_lo; rw [if_neg (Int64.not_lt.mpr c316)]) ?_
                                refine lv_lstore (lv' := [(15, .long (p_lo (m_pb M u a u) (m_fi M a 2 v))), (13, .long (m_la M a 2 v)), (11, .long (m_fi M a 2 v)), (9, .long (m_pb M u a u + (mI M 16 u).toInt64)), (7, .long (m_pb M u a u)), (0, .ref (s0.heap.size + 104)), (1, .int (nI u)), (2, .int 2), (3, .int (nI v)), (6, .int (nI a))]) hx hb dX11_peg_326 hl (by decide) rfl (fun ls hl => ?_)
                                refine lv_lload hx hb dX11_peg_328 (lv_at hl 3 rfl) ?_
                                refine lv_lload hx hb dX11_peg_330 (lv_at hl 1 rfl) ?_
                                refine gx_lc_ge (tgt := 341) (pc1 := 333) hx hb rfl dX11_peg_332 dX11_peg_333 (by decide) (fun c333 => ?_) (fun c333 => ?_)
                                · refine lv_lload hx hb dX11_peg_341 (lv_at hl 1 rfl) ?_
                                  refine gx_tl (p_hi (m_pb M u a u + (mI M 16 u).toInt64) (m_la M a 2 v)) (by unfold p_hi; rw [if_neg (Int64.not_lt.mpr c333)]) ?_
                                  refine lv_lstore (lv' := [(17, .long (p_hi (m_pb M u a u + (mI M 16 u).toInt64) (m_la M a 2 v))), (15, .long (p_lo (m_pb M u a u) (m_fi M a 2 v))), (13, .long (m_la M a 2 v)), (11, .long (m_fi M a 2 v)), (9, .long (m_pb M u a u + (mI M 16 u).toInt64)), (7, .long (m_pb M u a u)), (0, .ref (s0.heap.size + 104)), (1, .int (nI u)), (2, .int 2), (3, .int (nI v)), (6, .int (nI a))]) hx hb dX11_peg_343 hl (by decide) rfl (fun ls hl => ?_)
                                  refine lv_lload hx hb dX11_peg_345 (lv_at hl 0 rfl) ?_
                                  refine lv_lload hx hb dX11_peg_347 (lv_at hl 1 rfl) ?_
                                  refine gx_lc_le (tgt := 361) (pc1 := 350) hx hb rfl dX11_peg_349 dX11_peg_350 (by decide) (fun c350 => ?_) (fun c350 => ?_)
                                  · refine lv_lconst (v := 0) hx hb dX11_peg_361 (by decide) ?_
                                    exact W.lret (v := 0) hx hb hr (fun t ht hW => ⟨ovJ (by rw [m_pegr_0 (by omega) ha ea hx0, hcl]; unfold m_pegv; rw [if_neg (fun q => absurd q.1 (by decide))]; unfold p_ov; rw [if_neg (Int64.not_lt.mpr c350)]), by rw [ht]; exact (by rw [hx0]; exact ⟨_, hR⟩)⟩) hL dX11_peg_362
                                  · refine lv_lload hx hb dX11_peg_353 (lv_at hl 0 rfl) ?_
                                    refine lv_lload hx hb dX11_peg_355 (lv_at hl 1 rfl) ?_
                                    refine lv_lsub hx hb dX11_peg_357 ?_
                                    refine lv_goto (tgt := 362) hx hb dX11_peg_358 (by decide) ?_
                                    exact W.lret (v := ((p_hi (m_pb M u a u + (mI M 16 u).toInt64) (m_la M a 2 v)) - (p_lo (m_pb M u a u) (m_fi M a 2 v)))) hx hb hr (fun t ht hW => ⟨ovJ (by rw [m_pegr_0 (by omega) ha ea hx0, hcl]; unfold m_pegv; rw [if_neg (fun q => absurd q.1 (by decide))]; unfold p_ov; rw [if_pos (l_nle c350)]), by rw [ht]; exact (by rw [hx0]; exact ⟨_, hR⟩)⟩) hL dX11_peg_362
                                · refine lv_lload hx hb dX11_peg_336 (lv_at hl 3 rfl) ?_
                                  refine lv_goto (tgt := 343) hx hb dX11_peg_338 (by decide) ?_
                                  refine gx_tl (p_hi (m_pb M u a u + (mI M 16 u).toInt64) (m_la M a 2 v)) (by unfold p_hi; rw [if_pos (l_nle c333)]) ?_
                                  refine lv_lstore (lv' := [(17, .long (p_hi (m_pb M u a u + (mI M 16 u).toInt64) (m_la M a 2 v))), (15, .long (p_lo (m_pb M u a u) (m_fi M a 2 v))), (13, .long (m_la M a 2 v)), (11, .long (m_fi M a 2 v)), (9, .long (m_pb M u a u + (mI M 16 u).toInt64)), (7, .long (m_pb M u a u)), (0, .ref (s0.heap.size + 104)), (1, .int (nI u)), (2, .int 2), (3, .int (nI v)), (6, .int (nI a))]) hx hb dX11_peg_343 hl (by decide) rfl (fun ls hl => ?_)
                                  refine lv_lload hx hb dX11_peg_345 (lv_at hl 0 rfl) ?_
                                  refine lv_lload hx hb dX11_peg_347 (lv_at hl 1 rfl) ?_
                                  refine gx_lc_le (tgt := 361) (pc1 := 350) hx hb rfl dX11_peg_349 dX11_peg_350 (by decide) (fun c350 => ?_) (fun c350 => ?_)
                                  · refine lv_lconst (v := 0) hx hb dX11_peg_361 (by decide) ?_
                                    exact W.lret (v := 0) hx hb hr (fun t ht hW => ⟨ovJ (by rw [m_pegr_0 (by omega) ha ea hx0, hcl]; unfold m_pegv; rw [if_neg (fun q => absurd q.1 (by decide))]; unfold p_ov; rw [if_neg (Int64.not_lt.mpr c350)]), by rw [ht]; exact (by rw [hx0]; exact ⟨_, hR⟩)⟩) hL dX11_peg_362
                                  · refine lv_lload hx hb dX11_peg_353 (lv_at hl 0 rfl) ?_
                                    refine lv_lload hx hb dX11_peg_355 (lv_at hl 1 rfl) ?_
                                    refine lv_lsub hx hb dX11_peg_357 ?_
                                    refine lv_goto (tgt := 362) hx hb dX11_peg_358 (by decide) ?_
                                    exact W.lret (v := ((p_hi (m_pb M u a u + (mI M 16 u).toInt64) (m_la M a 2 v)) - (p_lo (m_pb M u a u) (m_fi M a 2 v)))) hx hb hr (fun t ht hW => ⟨ovJ (by rw [m_pegr_0 (by omega) ha ea hx0, hcl]; unfold m_pegv; rw [if_neg (fun q => absurd q.1 (by decide))]; unfold p_ov; rw [if_pos (l_nle c350)]), by rw [ht]; exact (by rw [hx0]; exact ⟨_, hR⟩)⟩) hL dX11_peg_362
                              · refine lv_lload hx hb dX11_peg_319 (lv_at hl 3 rfl) ?_
                                refine lv_goto (tgt := 326) hx hb dX11_peg_321 (by decide) ?_
                                refine gx_tl (p_lo (m_pb M u a u) (m_fi M a 2 v)) (by unfold p_lo; rw [if_pos (l_nle c316)]) ?_
                                refine lv_lstore (lv' := [(15, .long (p_lo (m_pb M u a u) (m_fi M a 2 v))), (13, .long (m_la M a 2 v)), (11, .long (m_fi M a 2 v)), (9, .long (m_pb M u a u + (mI M 16 u).toInt64)), (7, .long (m_pb M u a u)), (0, .ref (s0.heap.size + 104)), (1, .int (nI u)), (2, .int 2), (3, .int (nI v)), (6, .int (nI a))]) hx hb dX11_peg_326 hl (by decide) rfl (fun ls hl => ?_)
                                refine lv_lload hx hb dX11_peg_328 (lv_at hl 3 rfl) ?_
                                refine lv_lload hx hb dX11_peg_330 (lv_at hl 1 rfl) ?_
                                refine gx_lc_ge (tgt := 341) (pc1 := 333) hx hb rfl dX11_peg_332 dX11_peg_333 (by decide) (fun c333 => ?_) (fun c333 => ?_)
                                · refine lv_lload hx hb dX11_peg_341 (lv_at hl 1 rfl) ?_
                                  refine gx_tl (p_hi (m_pb M u a u + (mI M 16 u).toInt64) (m_la M a 2 v)) (by unfold p_hi; rw [if_neg (Int64.not_lt.mpr c333)]) ?_
                                  refine lv_lstore (lv' := [(17, .long (p_hi (m_pb M u a u + (mI M 16 u).toInt64) (m_la M a 2 v))), (15, .long (p_lo (m_pb M u a u) (m_fi M a 2 v))), (13, .long (m_la M a 2 v)), (11, .long (m_fi M a 2 v)), (9, .long (m_pb M u a u + (mI M 16 u).toInt64)), (7, .long (m_pb M u a u)), (0, .ref (s0.heap.size + 104)), (1, .int (nI u)), (2, .int 2), (3, .int (nI v)), (6, .int (nI a))]) hx hb dX11_peg_343 hl (by decide) rfl (fun ls hl => ?_)
                                  refine lv_lload hx hb dX11_peg_345 (lv_at hl 0 rfl) ?_
                                  refine lv_lload hx hb dX11_peg_347 (lv_at hl 1 rfl) ?_
                                  refine gx_lc_le (tgt := 361) (pc1 := 350) hx hb rfl dX11_peg_349 dX11_peg_350 (by decide) (fun c350 => ?_) (fun c350 => ?_)
                                  · refine lv_lconst (v := 0) hx hb dX11_peg_361 (by decide) ?_
                                    exact W.lret (v := 0) hx hb hr (fun t ht hW => ⟨ovJ (by rw [m_pegr_0 (by omega) ha ea hx0, hcl]; unfold m_pegv; rw [if_neg (fun q => absurd q.1 (by decide))]; unfold p_ov; rw [if_neg (Int64.not_lt.mpr c350)]), by rw [ht]; exact (by rw [hx0]; exact ⟨_, hR⟩)⟩) hL dX11_peg_362
                                  · refine lv_lload hx hb dX11_peg_353 (lv_at hl 0 rfl) ?_
                                    refine lv_lload hx hb dX11_peg_355 (lv_at hl 1 rfl) ?_
                                    refine lv_lsub hx hb dX11_peg_357 ?_
                                    refine lv_goto (tgt := 362) hx hb dX11_peg_358 (by decide) ?_
                                    exact W.lret (v := ((p_hi (m_pb M u a u + (mI M 16 u).toInt64) (m_la M a 2 v)) - (p_lo (m_pb M u a u) (m_fi M a 2 v)))) hx hb hr (fun t ht hW => ⟨ovJ (by rw [m_pegr_0 (by omega) ha ea hx0, hcl]; unfold m_pegv; rw [if_neg (fun q => absurd q.1 (by decide))]; unfold p_ov; rw [if_pos (l_nle c350)]), by rw [ht]; exact (by rw [hx0]; exact ⟨_, hR⟩)⟩) hL dX11_peg_362
                                · refine lv_lload hx hb dX11_peg_336 (lv_at hl 3 rfl) ?_
                                  refine lv_goto (tgt := 343) hx hb dX11_peg_338 (by decide) ?_
                                  refine gx_tl (p_hi (m_pb M u a u + (mI M 16 u).toInt64) (m_la M a 2 v)) (by unfold p_hi; rw [if_pos (l_nle c333)]) ?_
                                  refine lv_lstore (lv' := [(17, .long (p_hi (m_pb M u a u + (mI M 16 u).toInt64) (m_la M a 2 v))), (15, .long (p_lo (m_pb M u a u) (m_fi M a 2 v))), (13, .long (m_la M a 2 v)), (11, .long (m_fi M a 2 v)), (9, .long (m_pb M u a u + (mI M 16 u).toInt64)), (7, .long (m_pb M u a u)), (0, .ref (s0.heap.size + 104)), (1, .int (nI u)), (2, .int 2), (3, .int (nI v)), (6, .int (nI a))]) hx hb dX11_peg_343 hl (by decide) rfl (fun ls hl => ?_)
                                  refine lv_lload hx hb dX11_peg_345 (lv_at hl 0 rfl) ?_
                                  refine lv_lload hx hb dX11_peg_347 (lv_at hl 1 rfl) ?_
                                  refine gx_lc_le (tgt := 361) (pc1 := 350) hx hb rfl dX11_peg_349 dX11_peg_350 (by decide) (fun c350 => ?_) (fun c350 => ?_)
                                  · refine lv_lconst (v := 0) hx hb dX11_peg_361 (by decide) ?_
                                    exact W.lret (v := 0) hx hb hr (fun t ht hW => ⟨ovJ (by rw [m_pegr_0 (by omega) ha ea hx0, hcl]; unfold m_pegv; rw [if_neg (fun q => absurd q.1 (by decide))]; unfold p_ov; rw [if_neg (Int64.not_lt.mpr c350)]), by rw [ht]; exact (by rw [hx0]; exact ⟨_, hR⟩)⟩) hL dX11_peg_362
                                  · refine lv_lload hx hb dX11_peg_353 (lv_at hl 0 rfl) ?_
                                    refine lv_lload hx hb dX11_peg_355 (lv_at hl 1 rfl) ?_
                                    refine lv_lsub hx hb dX11_peg_357 ?_
                                    refine lv_goto (tgt := 362) hx hb dX11_peg_358 (by decide) ?_
                                    exact W.lret (v := ((p_hi (m_pb M u a u + (mI M 16 u).toInt64) (m_la M a 2 v)) - (p_lo (m_pb M u a u) (m_fi M a 2 v)))) hx hb hr (fun t ht hW => ⟨ovJ (by rw [m_pegr_0 (by omega) ha ea hx0, hcl]; unfold m_pegv; rw [if_neg (fun q => absurd q.1 (by decide))]; unfold p_ov; rw [if_pos (l_nle c350)]), by rw [ht]; exact (by rw [hx0]; exact ⟨_, hR⟩)⟩) hL dX11_peg_362
                            · exact absurd c280 (by decide)
                          · exact absurd c262 (by decide)
                        · exact absurd c244 (by decide)
                      · have hkc : k < u := by have := n_lt c176 (by omega) (by omega); omega
                        refine lv_aload_n hx hb dX11_peg_179 rfl (lv_at hl 2 rfl) ?_
                        refine gx_get (D := D) (cl := gcl) (ci := 10) (v := .ref (mad s0.heap.size 14)) (C := RX11) (T := TX11) (N := 27) hx hb hts in_X11 hown hK hR.mo rfl 16 (by decide) (hts _ q902) (fun _ h9 => h9) rfl dX11_peg_180 ?_
                        refine lv_iload hx hb dX11_peg_183 (lv_at hl 1 rfl) ?_
                        refine gx_iald (n := 72) hx hb hK 1 (hR.mia 14 (by decide)) rfl k (rfl) (by omega) (by decide) dX11_peg_185 ?_
                        refine lv_iload hx hb dX11_peg_186 (lv_at hl 6 rfl) ?_
                        refine lv_icmp_ne (tgt := 221) hx hb dX11_peg_188 (by decide) (fun c188 => ?_) (fun c188 => ?_)
                        · refine lv_lload hx hb dX11_peg_221 (lv_at hl 0 rfl) ?_
                          refine gx_tl (m_pb M u a (k + 1)) (by rw [m_pb, if_neg (fun q => c188 q.1)]; try rfl) ?_
                          refine lv_lstore (lv' := [(7, .long (m_pb M u a (k + 1))), (9, .int (nI k)), (0, .ref (s0.heap.size + 104)), (1, .int (nI u)), (2, .int 2), (3, .int (nI v)), (6, .int (nI a))]) hx hb dX11_peg_223 hl (by decide) rfl (fun ls hl => ?_)
                          refine lv_iinc (v := nI (k + 1)) (lv' := [(9, .int (nI (k + 1))), (7, .long (m_pb M u a (k + 1))), (0, .ref (s0.heap.size + 104)), (1, .int (nI u)), (2, .int 2), (3, .int (nI v)), (6, .int (nI a))]) hx hb dX11_peg_225 hl (k := 1) rfl (nI_1 k) (by decide) rfl (fun ls hl => ?_)
                          refine lv_goto (tgt := 173) hx hb dX11_peg_228 (by decide) ?_
                          exact ih (k + 1) _ _ (by omega) (by omega) (lv_sub hl [1, 0, 2, 3, 4, 5, 6] rfl) hL
                        · refine lv_aload_n hx hb dX11_peg_191 rfl (lv_at hl 2 rfl) ?_
                          refine gx_get (D := D) (cl := gcl) (ci := 10) (v := .ref (mad s0.heap.size 15)) (C := RX11) (T := TX11) (N := 27) hx hb hts in_X11 hown hK hR.mo rfl 17 (by decide) (hts _ q903) (fun _ h9 => h9) rfl dX11_peg_192 ?_
                          refine lv_iload hx hb dX11_peg_195 (lv_at hl 1 rfl) ?_
                          refine gx_iald (n := 72) hx hb hK 1 (hR.mia 15 (by decide)) rfl k (rfl) (by omega) (by decide) dX11_peg_197 ?_
                          refine lv_aload_n hx hb dX11_peg_198 rfl (lv_at hl 2 rfl) ?_
                          refine gx_get (D := D) (cl := gcl) (ci := 10) (v := .ref (mad s0.heap.size 15)) (C := RX11) (T := TX11) (N := 27) hx hb hts in_X11 hown hK hR.mo rfl 17 (by decide) (hts _ q903) (fun _ h9 => h9) rfl dX11_peg_199 ?_
                          refine lv_iload_n hx hb dX11_peg_202 rfl (lv_at hl 3 rfl) ?_
                          refine gx_iald (n := 72) hx hb hK 1 (hR.mia 15 (by decide)) rfl u (rfl) (by omega) (by decide) dX11_peg_203 ?_
                          refine lv_icmp_ne (tgt := 221) hx hb dX11_peg_204 (by decide) (fun c204 => ?_) (fun c204 => ?_)
                          · refine lv_lload hx hb dX11_peg_221 (lv_at hl 0 rfl) ?_
                            refine gx_tl (m_pb M u a (k + 1)) (by rw [m_pb, if_neg (fun q => c204 q.2)]; try rfl) ?_
                            refine lv_lstore (lv' := [(7, .long (m_pb M u a (k + 1))), (9, .int (nI k)), (0, .ref (s0.heap.size + 104)), (1, .int (nI u)), (2, .int 2), (3, .int (nI v)), (6, .int (nI a))]) hx hb dX11_peg_223 hl (by decide) rfl (fun ls hl => ?_)
                            refine lv_iinc (v := nI (k + 1)) (lv' := [(9, .int (nI (k + 1))), (7, .long (m_pb M u a (k + 1))), (0, .ref (s0.heap.size + 104)), (1, .int (nI u)), (2, .int 2), (3, .int (nI v)), (6, .int (nI a))]) hx hb dX11_peg_225 hl (k := 1) rfl (nI_1 k) (by decide) rfl (fun ls hl => ?_)
                            refine lv_goto (tgt := 173) hx hb dX11_peg_228 (by decide) ?_
                            exact ih (k + 1) _ _ (by omega) (by omega) (lv_sub hl [1, 0, 2, 3, 4, 5, 6] rfl) hL
                          · refine lv_lload hx hb dX11_peg_207 (lv_at hl 0 rfl) ?_
                            refine lv_aload_n hx hb dX11_peg_209 rfl (lv_at hl 2 rfl) ?_
                            refine gx_get (D := D) (cl := gcl) (ci := 10) (v := .ref (mad s0.heap.size 16)) (C := RX11) (T := TX11) (N := 27) hx hb hts in_X11 hown hK hR.mo rfl 18 (by decide) (hts _ q904) (fun _ h9 => h9) rfl dX11_peg_210 ?_
                            refine lv_iload hx hb dX11_peg_213 (lv_at hl 1 rfl) ?_
                            refine gx_iald (n := 72) hx hb hK 1 (hR.mia 16 (by decide)) rfl k (rfl) (by omega) (by decide) dX11_peg_215 ?_
                            refine lv_i2l (v := (mI (mz M 0 0) 16 k).toInt64) hx hb dX11_peg_216 rfl ?_
                            refine lv_ladd hx hb dX11_peg_217 ?_
                            refine lv_goto (tgt := 223) hx hb dX11_peg_218 (by decide) ?_
                            refine gx_tl (m_pb M u a (k + 1)) (by rw [m_pb, if_pos ⟨c188, c204⟩]; try rfl) ?_
                            refine lv_lstore (lv' := [(7, .long (m_pb M u a (k + 1))), (9, .int (nI k)), (0, .ref (s0.heap.size + 104)), (1, .int (nI u)), (2, .int 2), (3, .int (nI v)), (6, .int (nI a))]) hx hb dX11_peg_223 hl (by decide) rfl (fun ls hl => ?_)
                            refine lv_iinc (v := nI (k + 1)) (lv' := [(9, .int (nI (k + 1))), (7, .long (m_pb M u a (k + 1))), (0, .ref (s0.heap.size + 104)), (1, .int (nI u)), (2, .int 2), (3, .int (nI v)), (6, .int (nI a))]) hx hb dX11_peg_225 hl (k := 1) rfl (nI_1 k) (by decide) rfl (fun ls hl => ?_)
                            refine lv_goto (tgt := 173) hx hb dX11_peg_228 (by decide) ?_
                            exact ih (k + 1) _ _ (by omega) (by omega) (lv_sub hl [1, 0, 2, 3, 4, 5, 6] rfl) hL
                  refine lv_aload_n hx hb dX11_peg_109 rfl (lv_at hl 2 rfl) ?_
                  refine gx_get (D := D) (cl := gcl) (ci := 10) (v := .ref (mad s0.heap.size 14)) (C := RX11) (T := TX11) (N := 27) hx hb hts in_X11 hown hK hR.mo rfl 16 (by decide) (hts _ q902) (fun _ h9 => h9) rfl dX11_peg_110 ?_
                  refine lv_iload_n hx hb dX11_peg_113 rfl (lv_at hl 3 rfl) ?_
                  refine gx_iald (n := 72) hx hb hK 1 (hR.mia 14 (by decide)) rfl u (rfl) (by omega) (by decide) dX11_peg_114 ?_
                  refine gx_ti (nI a) (ea) ?_
                  refine lv_istore (lv' := [(6, .int (nI a)), (5, .int 1), (4, .int (bZ (inR (nI u) 0 ((mI M 13 0) - 1)))), (0, .ref (s0.heap.size + 104)), (1, .int (nI u)), (2, .int 2), (3, .int (nI v))]) hx hb dX11_peg_115 hl (by decide) rfl (fun ls hl => ?_)
                  refine lv_iload_n hx hb dX11_peg_117 rfl (lv_at hl 5 rfl) ?_
                  refine lv_iconst (v := 1) hx hb dX11_peg_118 (by decide) ?_
                  refine lv_icmp_ne (tgt := 138) hx hb dX11_peg_119 (by decide) (fun c119 => ?_) (fun c119 => ?_)
                  · refine lv_aload_n hx hb dX11_peg_138 rfl (lv_at hl 3 rfl) ?_
                    refine gx_get (D := D) (cl := gcl) (ci := 10) (v := .ref (mad s0.heap.size 15)) (C := RX11) (T := TX11) (N := 27) hx hb hts in_X11 hown hK hR.mo rfl 17 (by decide) (hts _ q903) (fun _ h9 => h9) rfl dX11_peg_139 ?_
                    refine lv_iload_n hx hb dX11_peg_142 rfl (lv_at hl 4 rfl) ?_
                    refine gx_iald (n := 72) hx hb hK 1 (hR.mia 15 (by decide)) rfl u (rfl) (by omega) (by decide) dX11_peg_143 ?_
                    refine gx_ti (nI b) (eb) ?_
                    refine lv_if_le (tgt := 167) hx hb dX11_peg_144 (by decide) (fun c144 => ?_) (fun c144 => ?_)
                    · refine lv_lconst (v := 0) hx hb dX11_peg_167 (by decide) ?_
                      refine gx_tl (m_pb M u a 0) (by rw [m_pb, if_neg (Int32.not_lt.mpr (by rw [eb]; exact c144))]) ?_
                      refine lv_lstore (lv' := [(7, .long (m_pb M u a 0)), (6, .int (nI a)), (5, .int 1), (4, .int (bZ (inR (nI u) 0 ((mI M 13 0) - 1)))), (0, .ref (s0.heap.size + 104)), (1, .int (nI u)), (2, .int 2), (3, .int (nI v))]) hx hb dX11_peg_168 hl (by decide) rfl (fun ls hl => ?_)
                      refine lv_iconst (v := 0) hx hb dX11_peg_170 (by decide) ?_
                      refine gx_ti (nI 0) (by decide) ?_
                      refine lv_istore (lv' := [(9, .int (nI 0)), (7, .long (m_pb M u a 0)), (6, .int (nI a)), (5, .int 1), (4, .int (bZ (inR (nI u) 0 ((mI M 13 0) - 1)))), (0, .ref (s0.heap.size + 104)), (1, .int (nI u)), (2, .int 2), (3, .int (nI v))]) hx hb dX11_peg_171 hl (by decide) rfl (fun ls hl => ?_)
                      exact key (u + 1) 0 _ _ (by omega) (by omega) (lv_sub hl [1, 0, 5, 6, 7, 8, 2] rfl) hL
                    · have h0 : 0 < b := by have := n_lt (b := b) (a := 0) c144 (by omega) (by omega); omega
                      refine lv_aload_n hx hb dX11_peg_147 rfl (lv_at hl 3 rfl) ?_
                      refine gx_get (D := D) (cl := gcl) (ci := 10) (v := .ref (mad s0.heap.size 18)) (C := RX11) (T := TX11) (N := 27) hx hb hts in_X11 hown hK hR.mo rfl 22 (by decide) (hts _ q908) (fun _ h9 => h9) rfl dX11_peg_148 ?_
                      refine lv_iload hx hb dX11_peg_151 (lv_at hl 0 rfl) ?_
                      refine lv_aload_n hx hb dX11_peg_153 rfl (lv_at hl 3 rfl) ?_
                      refine gx_get (D := D) (cl := gcl) (ci := 10) (v := .ref (mad s0.heap.size 15)) (C := RX11) (T := TX11) (N := 27) hx hb hts in_X11 hown hK hR.mo rfl 17 (by decide) (hts _ q903) (fun _ h9 => h9) rfl dX11_peg_154 ?_
                      refine lv_iload_n hx hb dX11_peg_157 rfl (lv_at hl 4 rfl) ?_
                      refine gx_iald (n := 72) hx hb hK 1 (hR.mia 15 (by decide)) rfl u (rfl) (by omega) (by decide) dX11_peg_158 ?_
                      refine gx_ti (nI b) (eb) ?_
                      refine lv_iconst (v := 1) hx hb dX11_peg_159 (by decide) ?_
                      refine lv_isub hx hb dX11_peg_160 ?_
                      refine gx_ti (nI (b - 1)) (by exact pk_sub (a := b) (b := 1) h0) ?_
                      refine cc_v (va_runS (As := [.ref (mad s0.heap.size 18), .int (nI a), .int (nI (b - 1))]) (rest := []) ⟨hx, hb, hml, hown, hts⟩ (ct_X11_upTo (f := mL M 18) (a := mad s0.heap.size 18) (n1 := 144) (n0 := b) (i := a) (wk := nI (b - 1)) hE (hR.mla 18 (by decide) (by decide)) (by decide) (by omega) (fun k h1 h2 => by have := n_gt h2 (by omega) (by omega); omega) (fun k h1 h2 => by have := n_le h2 (by omega) (by omega); omega) (fun k h1 => by omega)) (va_cwS 3 hts (lw_S q1074 q1075 q61 q1076) rfl rfl rfl (by decide +kernel) ⟨Nat.le_of_ble_eq_true rfl, Nat.le_of_ble_eq_true rfl⟩) (cc_pS hW0) rfl rfl hl.1 rfl (lv_room (Nat.le_of_ble_eq_true rfl)) dX11_peg_161 ⟨Nat.le_of_ble_eq_true rfl, Nat.le_of_ble_eq_true rfl⟩) hL (fun H locs hP1 hL => ?_)
                      subst hP1
                      refine lv_goto (tgt := 168) hx hb dX11_peg_164 (by decide) ?_
                      refine gx_tl (m_pb M u a 0) (by rw [m_pb, if_pos (by rw [eb]; exact i_nle c144)]; rw [eb, nI_cl hb2]) ?_
                      refine lv_lstore (lv' := [(7, .long (m_pb M u a 0)), (6, .int (nI a)), (5, .int 1), (4, .int (bZ (inR (nI u) 0 ((mI M 13 0) - 1)))), (0, .ref (s0.heap.size + 104)), (1, .int (nI u)), (2, .int 2), (3, .int (nI v))]) hx hb dX11_peg_168 hl (by decide) rfl (fun ls hl => ?_)
                      refine lv_iconst (v := 0) hx hb dX11_peg_170 (by decide) ?_
                      refine gx_ti (nI 0) (by decide) ?_
                      refine lv_istore (lv' := [(9, .int (nI 0)), (7, .long (m_pb M u a 0)), (6, .int (nI a)), (5, .int 1), (4, .int (bZ (inR (nI u) 0 ((mI M 13 0) - 1)))), (0, .ref (s0.heap.size + 104)), (1, .int (nI u)), (2, .int 2), (3, .int (nI v))]) hx hb dX11_peg_171 hl (by decide) rfl (fun ls hl => ?_)
                      exact key (u + 1) 0 _ _ (by omega) (by omega) (lv_sub hl [1, 0, 5, 6, 7, 8, 2] rfl) hL
                  · exact absurd c119 (by decide)
                · exact absurd c104 (by decide)
              · refine lv_iconst (v := 3) hx hb dX11_peg_96 (by decide) ?_
                refine lv_goto (tgt := 101) hx hb dX11_peg_97 (by decide) ?_
                refine cc_v (va_runV (b := s0.heap.size + 104) (As := [.int 3]) (rest := []) ⟨hx, hb, hml, hown, hts⟩ (ct_X11_refused hE ⟨_, hR⟩ 3) (cwV 1 hts (lw_V q983 q985 qs23 q61 q986) rfl rfl rfl (by decide +kernel) ⟨Nat.le_of_ble_eq_true rfl, Nat.le_of_ble_eq_true rfl⟩) (cc_pV hW0 (cc_re hK hR.mo (show gcl[10]? = _ from rfl))) rfl rfl hl.1 rfl (lv_room (Nat.le_of_ble_eq_true rfl)) dX11_peg_101 ⟨Nat.le_of_ble_eq_true rfl, Nat.le_of_ble_eq_true rfl⟩) hL (fun H locs hP1 hL => ?_)
                obtain ⟨Y, hR⟩ := hP1
                refine lv_if_eq (tgt := 109) hx hb dX11_peg_104 (by decide) (fun c104 => ?_) (fun c104 => ?_)
                · exact absurd c104 (by decide)
                · refine lv_lconst (v := 0) hx hb dX11_peg_107 (by decide) ?_
                  exact W.lret (v := 0) hx hb hr (fun t ht hW => ⟨ovJ (m_pegr_x (xg_4 (bZ_1.mp c60) (by decide) hnb c93) (by decide)).symm, by rw [ht]; exact (by rw [xg_4 (bZ_1.mp c60) (by decide) hnb c93]; exact ⟨_, hR⟩)⟩) hL dX11_peg_108
            · exact absurd c82 (by decide)
          · refine lv_iconst (v := 2) hx hb dX11_peg_76 (by decide) ?_
            refine lv_goto (tgt := 101) hx hb dX11_peg_77 (by decide) ?_
            refine cc_v (va_runV (b := s0.heap.size + 104) (As := [.int 2]) (rest := []) ⟨hx, hb, hml, hown, hts⟩ (ct_X11_refused hE ⟨_, hR⟩ 2) (cwV 1 hts (lw_V q983 q985 qs23 q61 q986) rfl rfl rfl (by decide +kernel) ⟨Nat.le_of_ble_eq_true rfl, Nat.le_of_ble_eq_true rfl⟩) (cc_pV hW0 (cc_re hK hR.mo (show gcl[10]? = _ from rfl))) rfl rfl hl.1 rfl (lv_room (Nat.le_of_ble_eq_true rfl)) dX11_peg_101 ⟨Nat.le_of_ble_eq_true rfl, Nat.le_of_ble_eq_true rfl⟩) hL (fun H locs hP1 hL => ?_)
            obtain ⟨Y, hR⟩ := hP1
            refine lv_if_eq (tgt := 109) hx hb dX11_peg_104 (by decide) (fun c104 => ?_) (fun c104 => ?_)
            · exact absurd c104 (by decide)
            · refine lv_lconst (v := 0) hx hb dX11_peg_107 (by decide) ?_
              exact W.lret (v := 0) hx hb hr (fun t ht hW => ⟨ovJ (m_pegr_x (xg_2 (bZ_1.mp c60) (bZ_0.mp c73)) (by decide)).symm, by rw [ht]; exact (by rw [xg_2 (bZ_1.mp c60) (bZ_0.mp c73)]; exact ⟨_, hR⟩)⟩) hL dX11_peg_108
        · refine lv_iconst (v := 1) hx hb dX11_peg_63 (by decide) ?_
          refine lv_goto (tgt := 101) hx hb dX11_peg_64 (by decide) ?_
          refine cc_v (va_runV (b := s0.heap.size + 104) (As := [.int 1]) (rest := []) ⟨hx, hb, hml, hown, hts⟩ (ct_X11_refused hE ⟨_, hR⟩ 1) (cwV 1 hts (lw_V q983 q985 qs23 q61 q986) rfl rfl rfl (by decide +kernel) ⟨Nat.le_of_ble_eq_true rfl, Nat.le_of_ble_eq_true rfl⟩) (cc_pV hW0 (cc_re hK hR.mo (show gcl[10]? = _ from rfl))) rfl rfl hl.1 rfl (lv_room (Nat.le_of_ble_eq_true rfl)) dX11_peg_101 ⟨Nat.le_of_ble_eq_true rfl, Nat.le_of_ble_eq_true rfl⟩) hL (fun H locs hP1 hL => ?_)
          obtain ⟨Y, hR⟩ := hP1
          refine lv_if_eq (tgt := 109) hx hb dX11_peg_104 (by decide) (fun c104 => ?_) (fun c104 => ?_)
          · exact absurd c104 (by decide)
          · refine lv_lconst (v := 0) hx hb dX11_peg_107 (by decide) ?_
            exact W.lret (v := 0) hx hb hr (fun t ht hW => ⟨ovJ (m_pegr_x (xg_1 (bZ_0.mp c60)) (by decide)).symm, by rw [ht]; exact (by rw [xg_1 (bZ_0.mp c60)]; exact ⟨_, hR⟩)⟩) hL dX11_peg_108
    · obtain rfl : kd = 1 := c21
      refine lv_iload_n hx hb dX11_peg_24 rfl (lv_at hl 4 rfl) ?_
      refine lv_iconst (v := 0) hx hb dX11_peg_25 (by decide) ?_
      refine lv_aload_n hx hb dX11_peg_26 rfl (lv_at hl 1 rfl) ?_
      refine gx_get (D := D) (cl := gcl) (ci := 10) (v := .ref (mad s0.heap.size 13)) (C := RX11) (T := TX11) (N := 27) hx hb hts in_X11 hown hK hR.mo rfl 15 (by decide) (hts _ q901) (fun _ h9 => h9) rfl dX11_peg_27 ?_
      refine lv_iconst (v := 1) hx hb dX11_peg_30 (by decide) ?_
      refine gx_iald (n := 3) hx hb hK 1 (hR.mia 13 (by decide)) rfl 1 (by decide) (by decide) (by decide) dX11_peg_31 ?_
      refine lv_iconst (v := 1) hx hb dX11_peg_32 (by decide) ?_
      refine lv_isub hx hb dX11_peg_33 ?_
      refine cc_v (va_runS (As := [.int nu, .int 0, .int ((mI M 13 1) - 1)]) (rest := []) ⟨hx, hb, hml, hown, hts⟩ (ct_X11_isIn hE nu 0 ((mI M 13 1) - 1)) (va_cwS 3 hts (lw_S q977 q978 q61 q979) rfl rfl rfl (by decide +kernel) ⟨Nat.le_of_ble_eq_true rfl, Nat.le_of_ble_eq_true rfl⟩) (cc_pS hW0) rfl rfl hl.1 rfl (lv_room (Nat.le_of_ble_eq_true rfl)) dX11_peg_34 ⟨Nat.le_of_ble_eq_true rfl, Nat.le_of_ble_eq_true rfl⟩) hL (fun H locs hP1 hL => ?_)
      subst hP1
      refine lv_if_eq (tgt := 54) hx hb dX11_peg_37 (by decide) (fun c37 => ?_) (fun c37 => ?_)
      · refine lv_iconst (v := 0) hx hb dX11_peg_54 (by decide) ?_
        refine lv_istore (lv' := [(5, .int 0), (4, .int (bZ (inR d 0 ((mI M 13 0) - 1)))), (0, .ref (s0.heap.size + 104)), (1, .int d), (2, .int 1), (3, .int nu)]) hx hb dX11_peg_55 hl (by decide) rfl (fun ls hl => ?_)
        refine lv_aload_n hx hb dX11_peg_57 rfl (lv_at hl 2 rfl) ?_
        refine lv_iload hx hb dX11_peg_58 (lv_at hl 1 rfl) ?_
        refine lv_if_ne (tgt := 67) hx hb dX11_peg_60 (by decide) (fun c60 => ?_) (fun c60 => ?_)
        · refine lv_iload_n hx hb dX11_peg_67 rfl (lv_at hl 4 rfl) ?_
          refine lv_iconst (v := 0) hx hb dX11_peg_68 (by decide) ?_
          refine lv_iconst (v := 2) hx hb dX11_peg_69 (by decide) ?_
          refine cc_v (va_runS (As := [.int 1, .int 0, .int 2]) (rest := [.ref (s0.heap.size + 104)]) ⟨hx, hb, hml, hown, hts⟩ (ct_X11_isIn hE 1 0 2) (va_cwS 3 hts (lw_S q977 q978 q61 q979) rfl rfl rfl (by decide +kernel) ⟨Nat.le_of_ble_eq_true rfl, Nat.le_of_ble_eq_true rfl⟩) (cc_pS hW0) rfl rfl hl.1 rfl (lv_room (Nat.le_of_ble_eq_true rfl)) dX11_peg_70 ⟨Nat.le_of_ble_eq_true rfl, Nat.le_of_ble_eq_true rfl⟩) hL (fun H locs hP1 hL => ?_)
          subst hP1
          refine lv_if_ne (tgt := 80) hx hb dX11_peg_73 (by decide) (fun c73 => ?_) (fun c73 => ?_)
          · refine lv_iload hx hb dX11_peg_80 (lv_at hl 0 rfl) ?_
            refine lv_if_ne (tgt := 89) hx hb dX11_peg_82 (by decide) (fun c82 => ?_) (fun c82 => ?_)
            · exact absurd rfl c82
            · have hnb : m_numb M 1 nu = false := by unfold m_numb; rw [bZ_0.mp c37]; rfl
              refine lv_iconst (v := 1) hx hb dX11_peg_85 (by decide) ?_
              refine lv_goto (tgt := 101) hx hb dX11_peg_86 (by decide) ?_
              refine cc_v (va_runV (b := s0.heap.size + 104) (As := [.int 1]) (rest := []) ⟨hx, hb, hml, hown, hts⟩ (ct_X11_refused hE ⟨_, hR⟩ 1) (cwV 1 hts (lw_V q983 q985 qs23 q61 q986) rfl rfl rfl (by decide +kernel) ⟨Nat.le_of_ble_eq_true rfl, Nat.le_of_ble_eq_true rfl⟩) (cc_pV hW0 (cc_re hK hR.mo (show gcl[10]? = _ from rfl))) rfl rfl hl.1 rfl (lv_room (Nat.le_of_ble_eq_true rfl)) dX11_peg_101 ⟨Nat.le_of_ble_eq_true rfl, Nat.le_of_ble_eq_true rfl⟩) hL (fun H locs hP1 hL => ?_)
              obtain ⟨Y, hR⟩ := hP1
              refine lv_if_eq (tgt := 109) hx hb dX11_peg_104 (by decide) (fun c104 => ?_) (fun c104 => ?_)
              · exact absurd c104 (by decide)
              · refine lv_lconst (v := 0) hx hb dX11_peg_107 (by decide) ?_
                exact W.lret (v := 0) hx hb hr (fun t ht hW => ⟨ovJ (m_pegr_x (xg_3 (bZ_1.mp c60) (by decide) hnb) (by decide)).symm, by rw [ht]; exact (by rw [xg_3 (bZ_1.mp c60) (by decide) hnb]; exact ⟨_, hR⟩)⟩) hL dX11_peg_108
          · exact absurd c73 (by decide)
        · refine lv_iconst (v := 1) hx hb dX11_peg_63 (by decide) ?_
          refine lv_goto (tgt := 101) hx hb dX11_peg_64 (by decide) ?_
          refine cc_v (va_runV (b := s0.heap.size + 104) (As := [.int 1]) (rest := []) ⟨hx, hb, hml, hown, hts⟩ (ct_X11_refused hE ⟨_, hR⟩ 1) (cwV 1 hts (lw_V q983 q985 qs23 q61 q986) rfl rfl rfl (by decide +kernel) ⟨Nat.le_of_ble_eq_true rfl, Nat.le_of_ble_eq_true rfl⟩) (cc_pV hW0 (cc_re hK hR.mo (show gcl[10]? = _ from rfl))) rfl rfl hl.1 rfl (lv_room (Nat.le_of_ble_eq_true rfl)) dX11_peg_101 ⟨Nat.le_of_ble_eq_true rfl, Nat.le_of_ble_eq_true rfl⟩) hL (fun H locs hP1 hL => ?_)
          obtain ⟨Y, hR⟩ := hP1
          refine lv_if_eq (tgt := 109) hx hb dX11_peg_104 (by decide) (fun c104 => ?_) (fun c104 => ?_)
          · exact absurd c104 (by decide)
          · refine lv_lconst (v := 0) hx hb dX11_peg_107 (by decide) ?_
            exact W.lret (v := 0) hx hb hr (fun t ht hW => ⟨ovJ (m_pegr_x (xg_1 (bZ_0.mp c60)) (by decide)).symm, by rw [ht]; exact (by rw [xg_1 (bZ_0.mp c60)]; exact ⟨_, hR⟩)⟩) hL dX11_peg_108
      · refine lv_goto (tgt := 50) hx hb dX11_peg_40 (by decide) ?_
        refine lv_iconst (v := 1) hx hb dX11_peg_50 (by decide) ?_
        refine lv_goto (tgt := 55) hx hb dX11_peg_51 (by decide) ?_
        refine lv_istore (lv' := [(5, .int 1), (4, .int (bZ (inR d 0 ((mI M 13 0) - 1)))), (0, .ref (s0.heap.size + 104)), (1, .int d), (2, .int 1), (3, .int nu)]) hx hb dX11_peg_55 hl (by decide) rfl (fun ls hl => ?_)
        refine lv_aload_n hx hb dX11_peg_57 rfl (lv_at hl 2 rfl) ?_
        refine lv_iload hx hb dX11_peg_58 (lv_at hl 1 rfl) ?_
        refine lv_if_ne (tgt := 67) hx hb dX11_peg_60 (by decide) (fun c60 => ?_) (fun c60 => ?_)
        · refine lv_iload_n hx hb dX11_peg_67 rfl (lv_at hl 4 rfl) ?_
          refine lv_iconst (v := 0) hx hb dX11_peg_68 (by decide) ?_
          refine lv_iconst (v := 2) hx hb dX11_peg_69 (by decide) ?_
          refine cc_v (va_runS (As := [.int 1, .int 0, .int 2]) (rest := [.ref (s0.heap.size + 104)]) ⟨hx, hb, hml, hown, hts⟩ (ct_X11_isIn hE 1 0 2) (va_cwS 3 hts (lw_S q977 q978 q61 q979) rfl rfl rfl (by decide +kernel) ⟨Nat.le_of_ble_eq_true rfl, Nat.le_of_ble_eq_true rfl⟩) (cc_pS hW0) rfl rfl hl.1 rfl (lv_room (Nat.le_of_ble_eq_true rfl)) dX11_peg_70 ⟨Nat.le_of_ble_eq_true rfl, Nat.le_of_ble_eq_true rfl⟩) hL (fun H locs hP1 hL => ?_)
          subst hP1
          refine lv_if_ne (tgt := 80) hx hb dX11_peg_73 (by decide) (fun c73 => ?_) (fun c73 => ?_)
          · refine lv_iload hx hb dX11_peg_80 (lv_at hl 0 rfl) ?_
            refine lv_if_ne (tgt := 89) hx hb dX11_peg_82 (by decide) (fun c82 => ?_) (fun c82 => ?_)
            · have hnb : m_numb M 1 nu = true := by unfold m_numb; rw [if_pos rfl, bZ_1.mp c37]; rfl
              refine lv_aload_n hx hb dX11_peg_89 rfl (lv_at hl 2 rfl) ?_
              refine gx_get (D := D) (cl := gcl) (ci := 10) (v := .int (mS M 20)) (C := RX11) (T := TX11) (N := 27) hx hb hts in_X11 hown hK hR.mo rfl 20 (by decide) (hts _ q906) (fun _ h9 => h9) rfl dX11_peg_90 ?_
              refine lv_if_eq (tgt := 100) hx hb dX11_peg_93 (by decide) (fun c93 => ?_) (fun c93 => ?_)
              · have hx0 : x_peg M d 1 nu = 0 := xg_0 (bZ_1.mp c60) (by decide) hnb c93
                have h9 := bZ_1.mp c60
                rw [hC.ct (K := 0) (by decide)] at h9
                have c24 := hC.c24 (K := 0) (by decide)
                have c25 := hC.c24 (K := 1) (by decide)
                obtain ⟨u, hu, rfl⟩ := inR_in (by omega) h9
                obtain ⟨⟨a, ha, ea⟩, b, hb2, eb⟩ := hC.2.2.2 0 (by decide) u hu
                rw [Nat.mul_zero, Nat.zero_add] at ea eb
                have h8 := bZ_1.mp c37
                rw [hC.ct (K := 1) (by decide)] at h8
                obtain ⟨v, hv, rfl⟩ := inR_in (by omega) h8
                obtain ⟨-, b1, hb1, eb1⟩ := hC.2.2.2 1 (by decide) v hv
                rw [Nat.mul_one] at eb1
                have hcl : (nI v).toNatClampNeg = v := nI_clamp (by omega)
                refine lv_iconst (v := 0) hx hb dX11_peg_100 (by decide) ?_
                refine cc_v (va_runV (b := s0.heap.size + 104) (As := [.int 0]) (rest := []) ⟨hx, hb, hml, hown, hts⟩ (ct_X11_refused hE ⟨_, hR⟩ 0) (cwV 1 hts (lw_V q983 q985 qs23 q61 q986) rfl rfl rfl (by decide +kernel) ⟨Nat.le_of_ble_eq_true rfl, Nat.le_of_ble_eq_true rfl⟩) (cc_pV hW0 (cc_re hK hR.mo (show gcl[10]? = _ from rfl))) rfl rfl hl.1 rfl (lv_room (Nat.le_of_ble_eq_true rfl)) dX11_peg_101 ⟨Nat.le_of_ble_eq_true rfl, Nat.le_of_ble_eq_true rfl⟩) hL (fun H locs hP1 hL => ?_)
                obtain ⟨Y, hR⟩ := hP1
                refine lv_if_eq (tgt := 109) hx hb dX11_peg_104 (by decide) (fun c104 => ?_) (fun c104 => ?_)
                · have key : ∀ (n : Nat) (k : Nat) (locs : List Loc) (ls : Array Slot), k ≤ u → u < k + n → mI M 14 (24 + v) = nI a → lv_has ls 19 [(7, .long (m_pb M u a k)), (9, .int (nI k)), (0, .ref (s0.heap.size + 104)), (1, .int (nI u)), (2, .int 1), (3, .int (nI v)), (6, .int (nI a))] → gx_L s0.heap.size locs → W p l e (headSpec (ws_ yX11_peg cX11_peg 19 (some .long)) ({ frames := 2, cells := 0, slots := 0, locals := 53 })).room s m ([.ref (s0.heap.size + 104), .int (nI u), .int 1, .int (nI v)] : List Value).toArray below meth c H locs 0 0 (MQ below (cQv (.long (m_pegr M (nI u) 1 (nI v))) (fun H1 => RR s0 D DA z0 C (mz M 0 (x_peg M (nI u) 1 (nI v))) o H1)) ([.ref (s0.heap.size + 104), .int (nI u), .int 1, .int (nI v)] : List Value).toArray s 0 0 (cF s0)) (F0 m 173 ls []) := by
                    intro n
                    induction n with
                    | zero =>
                      intro k locs ls hk hn h133 hl hL
                      omega
                    | succ n ih =>
                      intro k locs ls hk hn h133 hl hL
                      refine lv_iload hx hb dX11_peg_173 (lv_at hl 1 rfl) ?_
                      refine lv_iload_n hx hb dX11_peg_175 rfl (lv_at hl 3 rfl) ?_
                      refine lv_icmp_ge (tgt := 231) hx hb dX11_peg_176 (by decide) (fun c176 => ?_) (fun c176 => ?_)
                      · have hkc : k = u := by have := n_ge c176 (by omega) (by omega); omega
                        rw [hkc] at hl
                        refine lv_lload hx hb dX11_peg_231 (lv_at hl 0 rfl) ?_
                        refine lv_aload_n hx hb dX11_peg_233 rfl (lv_at hl 2 rfl) ?_
                        refine gx_get (D := D) (cl := gcl) (ci := 10) (v := .ref (mad s0.heap.size 16)) (C := RX11) (T := TX11) (N := 27) hx hb hts in_X11 hown hK hR.mo rfl 18 (by decide) (hts _ q904) (fun _ h9 => h9) rfl dX11_peg_234 ?_
                        refine lv_iload_n hx hb dX11_peg_237 rfl (lv_at hl 3 rfl) ?_
                        refine gx_iald (n := 72) hx hb hK 1 (hR.mia 16 (by decide)) rfl u (rfl) (by omega) (by decide) dX11_peg_238 ?_
                        refine lv_i2l (v := (mI (mz M 0 0) 16 u).toInt64) hx hb dX11_peg_239 rfl ?_
                        refine lv_ladd hx hb dX11_peg_240 ?_
                        refine gx_tl (m_pb M u a u + (mI M 16 u).toInt64) (rfl) ?_
                        refine lv_lstore (lv' := [(9, .long (m_pb M u a u + (mI M 16 u).toInt64)), (7, .long (m_pb M u a u)), (0, .ref (s0.heap.size + 104)), (1, .int (nI u)), (2, .int 1), (3, .int (nI v)), (6, .int (nI a))]) hx hb dX11_peg_241 hl (by decide) rfl (fun ls hl => ?_)
                        refine lv_iload_n hx hb dX11_peg_243 rfl (lv_at hl 4 rfl) ?_
                        refine lv_if_ne (tgt := 251) hx hb dX11_peg_244 (by decide) (fun c244 => ?_) (fun c244 => ?_)
                        · refine lv_aload_n hx hb dX11_peg_251 rfl (lv_at hl 2 rfl) ?_
                          refine lv_iload hx hb dX11_peg_252 (lv_at hl 6 rfl) ?_
                          refine lv_iload_n hx hb dX11_peg_254 rfl (lv_at hl 4 rfl) ?_
                          refine lv_iload_n hx hb dX11_peg_255 rfl (lv_at hl 5 rfl) ?_
                          refine cc_v (va_runV (b := s0.heap.size + 104) (As := [.int (nI a), .int 1, .int (nI v)]) (rest := []) ⟨hx, hb, hml, hown, hts⟩ (ct_X11_supplied1 (i := a) (v := v) (b := b1) hE ⟨_, hR⟩ ha hb1 hv eb1 (hC.of rfl)) (cwV 3 hts (lw_V q1121 q1123 qs43 q61 q1124) rfl rfl rfl (by decide +kernel) ⟨Nat.le_of_ble_eq_true rfl, Nat.le_of_ble_eq_true rfl⟩) (cc_pV hW0 (cc_re hK hR.mo (show gcl[10]? = _ from rfl))) rfl rfl hl.1 rfl (lv_room (Nat.le_of_ble_eq_true rfl)) dX11_peg_256 ⟨Nat.le_of_ble_eq_true rfl, Nat.le_of_ble_eq_true rfl⟩) hL (fun H locs hP1 hL => ?_)
                          subst hP1
                          refine gx_tl (m_supr M a b1 false v) (m_supr_c (M := M) (M' := mz M 0 0) rfl rfl a b1 false v) ?_
                          refine gx_tl (m_fi M a 1 v) (by unfold m_fi; rw [if_neg (by decide), if_pos rfl, eb1, nI_cl hb1]) ?_
                          refine lv_lstore (lv' := [(11, .long (m_fi M a 1 v)), (9, .long (m_pb M u a u + (mI M 16 u).toInt64)), (7, .long (m_pb M u a u)), (0, .ref (s0.heap.size + 104)), (1, .int (nI u)), (2, .int 1), (3, .int (nI v)), (6, .int (nI a))]) hx hb dX11_peg_259 hl (by decide) rfl (fun ls hl => ?_)
                          refine lv_iload_n hx hb dX11_peg_261 rfl (lv_at hl 5 rfl) ?_
                          refine lv_if_ne (tgt := 276) hx hb dX11_peg_262 (by decide) (fun c262 => ?_) (fun c262 => ?_)
                          · refine lv_lload hx hb dX11_peg_276 (lv_at hl 0 rfl) ?_
                            refine lv_iload_n hx hb dX11_peg_278 rfl (lv_at hl 5 rfl) ?_
                            refine lv_iconst (v := 1) hx hb dX11_peg_279 (by decide) ?_
                            refine lv_icmp_ne (tgt := 296) hx hb dX11_peg_280 (by decide) (fun c280 => ?_) (fun c280 => ?_)
                            · exact absurd rfl c280
                            · refine lv_aload_n hx hb dX11_peg_283 rfl (lv_at hl 3 rfl) ?_
                              refine gx_get (D := D) (cl := gcl) (ci := 10) (v := .ref (mad s0.heap.size 16)) (C := RX11) (T := TX11) (N := 27) hx hb hts in_X11 hown hK hR.mo rfl 18 (by decide) (hts _ q904) (fun _ h9 => h9) rfl dX11_peg_284 ?_
                              refine lv_bipush (v := 24) hx hb dX11_peg_287 (by decide) ?_
                              refine lv_iload_n hx hb dX11_peg_289 rfl (lv_at hl 6 rfl) ?_
                              refine lv_iadd hx hb dX11_peg_290 ?_
                              refine gx_ti (nI (24 + v)) (nI_add 24 v) ?_
                              refine gx_iald (n := 72) hx hb hK 1 (hR.mia 16 (by decide)) rfl (24 + v) (rfl) (by omega) (by decide) dX11_peg_291 ?_
                              refine lv_i2l (v := (mI (mz M 0 0) 16 (24 + v)).toInt64) hx hb dX11_peg_292 rfl ?_
                              refine lv_goto (tgt := 308) hx hb dX11_peg_293 (by decide) ?_
                              refine lv_ladd hx hb dX11_peg_308 ?_
                              refine gx_tl (m_la M a 1 v) (by unfold m_la; rw [if_neg (by decide), if_pos rfl]; rfl) ?_
                              refine lv_lstore (lv' := [(13, .long (m_la M a 1 v)), (11, .long (m_fi M a 1 v)), (9, .long (m_pb M u a u + (mI M 16 u).toInt64)), (7, .long (m_pb M u a u)), (0, .ref (s0.heap.size + 104)), (1, .int (nI u)), (2, .int 1), (3, .int (nI v)), (6, .int (nI a))]) hx hb dX11_peg_309 hl (by decide) rfl (fun ls hl => ?_)
                              refine lv_lload hx hb dX11_peg_311 (lv_at hl 3 rfl) ?_
                              refine lv_lload hx hb dX11_peg_313 (lv_at hl 1 rfl) ?_
                              refine gx_lc_le (tgt := 324) (pc1 := 316) hx hb rfl dX11_peg_315 dX11_peg_316 (by decide) (fun c316 => ?_) (fun c316 => ?_)
                              · refine lv_lload hx hb dX11_peg_324 (lv_at hl 1 rfl) ?_
                                refine gx_tl (p_lo (m_pb M u a u) (m_fi M a 1 v)) (by unfold p_lo; rw [if_neg (Int64.not_lt.mpr c316)]) ?_
                                refine lv_lstore (lv' := [(15, .long (p_lo (m_pb M u a u) (m_fi M a 1 v))), (13, .long (m_la M a 1 v)), (11, .long (m_fi M a 1 v)), (9, .long (m_pb M u a u + (mI M 16 u).toInt64)), (7, .long (m_pb M u a u)), (0, .ref (s0.heap.size + 104)), (1, .int (nI u)), (2, .int 1), (3, .int (nI v)), (6, .int (nI a))]) hx hb dX11_peg_326 hl (by decide) rfl (fun ls hl => ?_)
                                refine lv_lload hx hb dX11_peg_328 (lv_at hl 3 rfl) ?_
                                refine lv_lload hx hb dX11_peg_330 (lv_at hl 1 rfl) ?_
                                refine gx_lc_ge (tgt := 341) (pc1 := 333) hx hb rfl dX11_peg_332 dX11_peg_333 (by decide) (fun c333 => ?_) (fun c333 => ?_)
                                · refine lv_lload hx hb dX11_peg_341 (lv_at hl 1 rfl) ?_
                                  refine gx_tl (p_hi (m_pb M u a u + (mI M 16 u).toInt64) (m_la M a 1 v)) (by unfold p_hi; rw [if_neg (Int64.not_lt.mpr c333)]) ?_
                                  refine lv_lstore (lv' := [(17, .long (p_hi (m_pb M u a u + (mI M 16 u).toInt64) (m_la M a 1 v))), (15, .long (p_lo (m_pb M u a u) (m_fi M a 1 v))), (13, .long (m_la M a 1 v)), (11, .long (m_fi M a 1 v)), (9, .long (m_pb M u a u + (mI M 16 u).toInt64)), (7, .long (m_pb M u a u)), (0, .ref (s0.heap.size + 104)), (1, .int (nI u)), (2, .int 1), (3, .int (nI v)), (6, .int (nI a))]) hx hb dX11_peg_343 hl (by decide) rfl (fun ls hl => ?_)
                                  refine lv_lload hx hb dX11_peg_345 (lv_at hl 0 rfl) ?_
                                  refine lv_lload hx hb dX11_peg_347 (lv_at hl 1 rfl) ?_
                                  refine gx_lc_le (tgt := 361) (pc1 := 350) hx hb rfl dX11_peg_349 dX11_peg_350 (by decide) (fun c350 => ?_) (fun c350 => ?_)
                                  · refine lv_lconst (v := 0) hx hb dX11_peg_361 (by decide) ?_
                                    exact W.lret (v := 0) hx hb hr (fun t ht hW => ⟨ovJ (by rw [m_pegr_0 (by omega) ha ea hx0, hcl]; unfold m_pegv; rw [if_neg (fun q => q.2 h133)]; unfold p_ov; rw [if_neg (Int64.not_lt.mpr c350)]), by rw [ht]; exact (by rw [hx0]; exact ⟨_, hR⟩)⟩) hL dX11_peg_362
                                  · refine lv_lload hx hb dX11_peg_353 (lv_at hl 0 rfl) ?_
                                    refine lv_lload hx hb dX11_peg_355 (lv_at hl 1 rfl) ?_
                                    refine lv_lsub hx hb dX11_peg_357 ?_
                                    refine lv_goto (tgt := 362) hx hb dX11_peg_358 (by decide) ?_
                                    exact W.lret (v := ((p_hi (m_pb M u a u + (mI M 16 u).toInt64) (m_la M a 1 v)) - (p_lo (m_pb M u a u) (m_fi M a 1 v)))) hx hb hr (fun t ht hW => ⟨ovJ (by rw [m_pegr_0 (by omega) ha ea hx0, hcl]; unfold m_pegv; rw [if_neg (fun q => q.2 h133)]; unfold p_ov; rw [if_pos (l_nle c350)]), by rw [ht]; exact (by rw [hx0]; exact ⟨_, hR⟩)⟩) hL dX11_peg_362
                                · refine lv_lload hx hb dX11_peg_336 (lv_at hl 3 rfl) ?_
                                  refine lv_goto (tgt := 343) hx hb dX11_peg_338 (by decide) ?_
                                  refine gx_tl (p_hi (m_pb M u a u + (mI M 16 u).toInt64) (m_la M a 1 v)) (by unfold p_hi; rw [if_pos (l_nle c333)]) ?_
                                  refine lv_lstore (lv' := [(17, .long (p_hi (m_pb M u a u + (mI M 16 u).toInt64) (m_la M a 1 v))), (15, .long (p_lo (m_pb M u a u) (m_fi M a 1 v))), (13, .long (m_la M a 1 v)), (11, .long (m_fi M a 1 v)), (9, .long (m_pb M u a u + (mI M 16 u).toInt64)), (7, .long (m_pb M u a u)), (0, .ref (s0.heap.size + 104)), (1, .int (nI u)), (2, .int 1), (3, .int (nI v)), (6, .int (nI a))]) hx hb dX11_peg_343 hl (by decide) rfl (fun ls hl => ?_)
                                  refine lv_lload hx hb dX11_peg_345 (lv_at hl 0 rfl) ?_
                                  refine lv_lload hx hb dX11_peg_347 (lv_at hl 1 rfl) ?_
                                  refine gx_lc_le (tgt := 361) (pc1 := 350) hx hb rfl dX11_peg_349 dX11_peg_350 (by decide) (fun c350 => ?_) (fun c350 => ?_)
                                  · refine lv_lconst (v := 0) hx hb dX11_peg_361 (by decide) ?_
                                    exact W.lret (v := 0) hx hb hr (fun t ht hW => ⟨ovJ (by rw [m_pegr_0 (by omega) ha ea hx0, hcl]; unfold m_pegv; rw [if_neg (fun q => q.2 h133)]; unfold p_ov; rw [if_neg (Int64.not_lt.mpr c350)]), by rw [ht]; exact (by rw [hx0]; exact ⟨_, hR⟩)⟩) hL dX11_peg_362
                                  · refine lv_lload hx hb dX11_peg_353 (lv_at hl 0 rfl) ?_
                                    refine lv_lload hx hb dX11_peg_355 (lv_at hl 1 rfl) ?_
                                    refine lv_lsub hx hb dX11_peg_357 ?_
                                    refine lv_goto (tgt := 362) hx hb dX11_peg_358 (by decide) ?_
                                    exact W.lret (v := ((p_hi (m_pb M u a u + (mI M 16 u).toInt64) (m_la M a 1 v)) - (p_lo (m_pb M u a u) (m_fi M a 1 v)))) hx hb hr (fun t ht hW => ⟨ovJ (by rw [m_pegr_0 (by omega) ha ea hx0, hcl]; unfold m_pegv; rw [if_neg (fun q => q.2 h133)]; unfold p_ov; rw [if_pos (l_nle c350)]), by rw [ht]; exact (by rw [hx0]; exact ⟨_, hR⟩)⟩) hL dX11_peg_362
                              · refine lv_lload hx hb dX11_peg_319 (lv_at hl 3 rfl) ?_
                                refine lv_goto (tgt := 326) hx hb dX11_peg_321 (by decide) ?_
                                refine gx_tl (p_lo (m_pb M u a u) (m_fi M a 1 v)) (by unfold p_lo; rw [if_pos (l_nle c316)]) ?_
                                refine lv_lstore (lv' := [(15, .long (p_lo (m_pb M u a u) (m_fi M a 1 v))), (13, .long (m_la M a 1 v)), (11, .long (m_fi M a 1 v)), (9, .long (m_pb M u a u + (mI M 16 u).toInt64)), (7, .long (m_pb M u a u)), (0, .ref (s0.heap.size + 104)), (1, .int (nI u)), (2, .int 1), (3, .int (nI v)), (6, .int (nI a))]) hx hb dX11_peg_326 hl (by decide) rfl (fun ls hl => ?_)
                                refine lv_lload hx hb dX11_peg_328 (lv_at hl 3 rfl) ?_
                                refine lv_lload hx hb dX11_peg_330 (lv_at hl 1 rfl) ?_
                                refine gx_lc_ge (tgt := 341) (pc1 := 333) hx hb rfl dX11_peg_332 dX11_peg_333 (by decide) (fun c333 => ?_) (fun c333 => ?_)
                                · refine lv_lload hx hb dX11_peg_341 (lv_at hl 1 rfl) ?_
                                  refine gx_tl (p_hi (m_pb M u a u + (mI M 16 u).toInt64) (m_la M a 1 v)) (by unfold p_hi; rw [if_neg (Int64.not_lt.mpr c333)]) ?_
                                  refine lv_lstore (lv' := [(17, .long (p_hi (m_pb M u a u + (mI M 16 u).toInt64) (m_la M a 1 v))), (15, .long (p_lo (m_pb M u a u) (m_fi M a 1 v))), (13, .long (m_la M a 1 v)), (11, .long (m_fi M a 1 v)), (9, .long (m_pb M u a u + (mI M 16 u).toInt64)), (7, .long (m_pb M u a u)), (0, .ref (s0.heap.size + 104)), (1, .int (nI u)), (2, .int 1), (3, .int (nI v)), (6, .int (nI a))]) hx hb dX11_peg_343 hl (by decide) rfl (fun ls hl => ?_)
                                  refine lv_lload hx hb dX11_peg_345 (lv_at hl 0 rfl) ?_
                                  refine lv_lload hx hb dX11_peg_347 (lv_at hl 1 rfl) ?_
                                  refine gx_lc_le (tgt := 361) (pc1 := 350) hx hb rfl dX11_peg_349 dX11_peg_350 (by decide) (fun c350 => ?_) (fun c350 => ?_)
                                  · refine lv_lconst (v := 0) hx hb dX11_peg_361 (by decide) ?_
                                    exact W.lret (v := 0) hx hb hr (fun t ht hW => ⟨ovJ (by rw [m_pegr_0 (by omega) ha ea hx0, hcl]; unfold m_pegv; rw [if_neg (fun q => q.2 h133)]; unfold p_ov; rw [if_neg (Int64.not_lt.mpr c350)]), by rw [ht]; exact (by rw [hx0]; exact ⟨_, hR⟩)⟩) hL dX11_peg_362
                                  · refine lv_lload hx hb dX11_peg_353 (lv_at hl 0 rfl) ?_
                                    refine lv_lload hx hb dX11_peg_355 (lv_at hl 1 rfl) ?_
                                    refine lv_lsub hx hb dX11_peg_357 ?_
                                    refine lv_goto (tgt := 362) hx hb dX11_peg_358 (by decide) ?_
                                    exact W.lret (v := ((p_hi (m_pb M u a u + (mI M 16 u).toInt64) (m_la M a 1 v)) - (p_lo (m_pb M u a u) (m_fi M a 1 v)))) hx hb hr (fun t ht hW => ⟨ovJ (by rw [m_pegr_0 (by omega) ha ea hx0, hcl]; unfold m_pegv; rw [if_neg (fun q => q.2 h133)]; unfold p_ov; rw [if_pos (l_nle c350)]), by rw [ht]; exact (by rw [hx0]; exact ⟨_, hR⟩)⟩) hL dX11_peg_362
                                · refine lv_lload hx hb dX11_peg_336 (lv_at hl 3 rfl) ?_
                                  refine lv_goto (tgt := 343) hx hb dX11_peg_338 (by decide) ?_
                                  refine gx_tl (p_hi (m_pb M u a u + (mI M 16 u).toInt64) (m_la M a 1 v)) (by unfold p_hi; rw [if_pos (l_nle c333)]) ?_
                                  refine lv_lstore (lv' := [(17, .long (p_hi (m_pb M u a u + (mI M 16 u).toInt64) (m_la M a 1 v))), (15, .long (p_lo (m_pb M u a u) (m_fi M a 1 v))), (13, .long (m_la M a 1 v)), (11, .long (m_fi M a 1 v)), (9, .long (m_pb M u a u + (mI M 16 u).toInt64)), (7, .long (m_pb M u a u)), (0, .ref (s0.heap.size + 104)), (1, .int (nI u)), (2, .int 1), (3, .int (nI v)), (6, .int (nI a))]) hx hb dX11_peg_343 hl (by decide) rfl (fun ls hl => ?_)
                                  refine lv_lload hx hb dX11_peg_345 (lv_at hl 0 rfl) ?_
                                  refine lv_lload hx hb dX11_peg_347 (lv_at hl 1 rfl) ?_
                                  refine gx_lc_le (tgt := 361) (pc1 := 350) hx hb rfl dX11_peg_349 dX11_peg_350 (by decide) (fun c350 => ?_) (fun c350 => ?_)
                                  · refine lv_lconst (v := 0) hx hb dX11_peg_361 (by decide) ?_
                                    exact W.lret (v := 0) hx hb hr (fun t ht hW => ⟨ovJ (by rw [m_pegr_0 (by omega) ha ea hx0, hcl]; unfold m_pegv; rw [if_neg (fun q => q.2 h133)]; unfold p_ov; rw [if_neg (Int64.not_lt.mpr c350)]), by rw [ht]; exact (by rw [hx0]; exact ⟨_, hR⟩)⟩) hL dX11_peg_362
                                  · refine lv_lload hx hb dX11_peg_353 (lv_at hl 0 rfl) ?_
                                    refine lv_lload hx hb dX11_peg_355 (lv_at hl 1 rfl) ?_
                                    refine lv_lsub hx hb dX11_peg_357 ?_
                                    refine lv_goto (tgt := 362) hx hb dX11_peg_358 (by decide) ?_
                                    exact W.lret (v := ((p_hi (m_pb M u a u + (mI M 16 u).toInt64) (m_la M a 1 v)) - (p_lo (m_pb M u a u) (m_fi M a 1 v)))) hx hb hr (fun t ht hW => ⟨ovJ (by rw [m_pegr_0 (by omega) ha ea hx0, hcl]; unfold m_pegv; rw [if_neg (fun q => q.2 h133)]; unfold p_ov; rw [if_pos (l_nle c350)]), by rw [ht]; exact (by rw [hx0]; exact ⟨_, hR⟩)⟩) hL dX11_peg_362
                          · exact absurd c262 (by decide)
                        · exact absurd c244 (by decide)
                      · have hkc : k < u := by have := n_lt c176 (by omega) (by omega); omega
                        refine lv_aload_n hx hb dX11_peg_179 rfl (lv_at hl 2 rfl) ?_
                        refine gx_get (D := D) (cl := gcl) (ci := 10) (v := .ref (mad s0.heap.size 14)) (C := RX11) (T := TX11) (N := 27) hx hb hts in_X11 hown hK hR.mo rfl 16 (by decide) (hts _ q902) (fun _ h9 => h9) rfl dX11_peg_180 ?_
                        refine lv_iload hx hb dX11_peg_183 (lv_at hl 1 rfl) ?_
                        refine gx_iald (n := 72) hx hb hK 1 (hR.mia 14 (by decide)) rfl k (rfl) (by omega) (by decide) dX11_peg_185 ?_
                        refine lv_iload hx hb dX11_peg_186 (lv_at hl 6 rfl) ?_
                        refine lv_icmp_ne (tgt := 221) hx hb dX11_peg_188 (by decide) (fun c188 => ?_) (fun c188 => ?_)
                        · refine lv_lload hx hb dX11_peg_221 (lv_at hl 0 rfl) ?_
                          refine gx_tl (m_pb M u a (k + 1)) (by rw [m_pb, if_neg (fun q => c188 q.1)]; try rfl) ?_
                          refine lv_lstore (lv' := [(7, .long (m_pb M u a (k + 1))), (9, .int (nI k)), (0, .ref (s0.heap.size + 104)), (1, .int (nI u)), (2, .int 1), (3, .int (nI v)), (6, .int (nI a))]) hx hb dX11_peg_223 hl (by decide) rfl (fun ls hl => ?_)
                          refine lv_iinc (v := nI (k + 1)) (lv' := [(9, .int (nI (k + 1))), (7, .long (m_pb M u a (k + 1))), (0, .ref (s0.heap.size + 104)), (1, .int (nI u)), (2, .int 1), (3, .int (nI v)), (6, .int (nI a))]) hx hb dX11_peg_225 hl (k := 1) rfl (nI_1 k) (by decide) rfl (fun ls hl => ?_)
                          refine lv_goto (tgt := 173) hx hb dX11_peg_228 (by decide) ?_
                          exact ih (k + 1) _ _ (by omega) (by omega) (h133) (lv_sub hl [1, 0, 2, 3, 4, 5, 6] rfl) hL
                        · refine lv_aload_n hx hb dX11_peg_191 rfl (lv_at hl 2 rfl) ?_
                          refine gx_get (D := D) (cl := gcl) (ci := 10) (v := .ref (mad s0.heap.size 15)) (C := RX11) (T := TX11) (N := 27) hx hb hts in_X11 hown hK hR.mo rfl 17 (by decide) (hts _ q903) (fun _ h9 => h9) rfl dX11_peg_192 ?_
                          refine lv_iload hx hb dX11_peg_195 (lv_at hl 1 rfl) ?_
                          refine gx_iald (n := 72) hx hb hK 1 (hR.mia 15 (by decide)) rfl k (rfl) (by omega) (by decide) dX11_peg_197 ?_
                          refine lv_aload_n hx hb dX11_peg_198 rfl (lv_at hl 2 rfl) ?_
                          refine gx_get (D := D) (cl := gcl) (ci := 10) (v := .ref (mad s0.heap.size 15)) (C := RX11) (T := TX11) (N := 27) hx hb hts in_X11 hown hK hR.mo rfl 17 (by decide) (hts _ q903) (fun _ h9 => h9) rfl dX11_peg_199 ?_
                          refine lv_iload_n hx hb dX11_peg_202 rfl (lv_at hl 3 rfl) ?_
                          refine gx_iald (n := 72) hx hb hK 1 (hR.mia 15 (by decide)) rfl u (rfl) (by omega) (by decide) dX11_peg_203 ?_
                          refine lv_icmp_ne (tgt := 221) hx hb dX11_peg_204 (by decide) (fun c204 => ?_) (fun c204 => ?_)
                          · refine lv_lload hx hb dX11_peg_221 (lv_at hl 0 rfl) ?_
                            refine gx_tl (m_pb M u a (k + 1)) (by rw [m_pb, if_neg (fun q => c204 q.2)]; try rfl) ?_
                            refine lv_lstore (lv' := [(7, .long (m_pb M u a (k + 1))), (9, .int (nI k)), (0, .ref (s0.heap.size + 104)), (1, .int (nI u)), (2, .int 1), (3, .int (nI v)), (6, .int (nI a))]) hx hb dX11_peg_223 hl (by decide) rfl (fun ls hl => ?_)
                            refine lv_iinc (v := nI (k + 1)) (lv' := [(9, .int (nI (k + 1))), (7, .long (m_pb M u a (k + 1))), (0, .ref (s0.heap.size + 104)), (1, .int (nI u)), (2, .int 1), (3, .int (nI v)), (6, .int (nI a))]) hx hb dX11_peg_225 hl (k := 1) rfl (nI_1 k) (by decide) rfl (fun ls hl => ?_)
                            refine lv_goto (tgt := 173) hx hb dX11_peg_228 (by decide) ?_
                            exact ih (k + 1) _ _ (by omega) (by omega) (h133) (lv_sub hl [1, 0, 2, 3, 4, 5, 6] rfl) hL
                          · refine lv_lload hx hb dX11_peg_207 (lv_at hl 0 rfl) ?_
                            refine lv_aload_n hx hb dX11_peg_209 rfl (lv_at hl 2 rfl) ?_
                            refine gx_get (D := D) (cl := gcl) (ci := 10) (v := .ref (mad s0.heap.size 16)) (C := RX11) (T := TX11) (N := 27) hx hb hts in_X11 hown hK hR.mo rfl 18 (by decide) (hts _ q904) (fun _ h9 => h9) rfl dX11_peg_210 ?_
                            refine lv_iload hx hb dX11_peg_213 (lv_at hl 1 rfl) ?_
                            refine gx_iald (n := 72) hx hb hK 1 (hR.mia 16 (by decide)) rfl k (rfl) (by omega) (by decide) dX11_peg_215 ?_
                            refine lv_i2l (v := (mI (mz M 0 0) 16 k).toInt64) hx hb dX11_peg_216 rfl ?_
                            refine lv_ladd hx hb dX11_peg_217 ?_
                            refine lv_goto (tgt := 223) hx hb dX11_peg_218 (by decide) ?_
                            refine gx_tl (m_pb M u a (k + 1)) (by rw [m_pb, if_pos ⟨c188, c204⟩]; try rfl) ?_
                            refine lv_lstore (lv' := [(7, .long (m_pb M u a (k + 1))), (9, .int (nI k)), (0, .ref (s0.heap.size + 104)), (1, .int (nI u)), (2, .int 1), (3, .int (nI v)), (6, .int (nI a))]) hx hb dX11_peg_223 hl (by decide) rfl (fun ls hl => ?_)
                            refine lv_iinc (v := nI (k + 1)) (lv' := [(9, .int (nI (k + 1))), (7, .long (m_pb M u a (k + 1))), (0, .ref (s0.heap.size + 104)), (1, .int (nI u)), (2, .int 1), (3, .int (nI v)), (6, .int (nI a))]) hx hb dX11_peg_225 hl (k := 1) rfl (nI_1 k) (by decide) rfl (fun ls hl => ?_)
                            refine lv_goto (tgt := 173) hx hb dX11_peg_228 (by decide) ?_
                            exact ih (k + 1) _ _ (by omega) (by omega) (h133) (lv_sub hl [1, 0, 2, 3, 4, 5, 6] rfl) hL
                  refine lv_aload_n hx hb dX11_peg_109 rfl (lv_at hl 2 rfl) ?_
                  refine gx_get (D := D) (cl := gcl) (ci := 10) (v := .ref (mad s0.heap.size 14)) (C := RX11) (T := TX11) (N := 27) hx hb hts in_X11 hown hK hR.mo rfl 16 (by decide) (hts _ q902) (fun _ h9 => h9) rfl dX11_peg_110 ?_
                  refine lv_iload_n hx hb dX11_peg_113 rfl (lv_at hl 3 rfl) ?_
                  refine gx_iald (n := 72) hx hb hK 1 (hR.mia 14 (by decide)) rfl u (rfl) (by omega) (by decide) dX11_peg_114 ?_
                  refine gx_ti (nI a) (ea) ?_
                  refine lv_istore (lv' := [(6, .int (nI a)), (5, .int 1), (4, .int (bZ (inR (nI u) 0 ((mI M 13 0) - 1)))), (0, .ref (s0.heap.size + 104)), (1, .int (nI u)), (2, .int 1), (3, .int (nI v))]) hx hb dX11_peg_115 hl (by decide) rfl (fun ls hl => ?_)
                  refine lv_iload_n hx hb dX11_peg_117 rfl (lv_at hl 5 rfl) ?_
                  refine lv_iconst (v := 1) hx hb dX11_peg_118 (by decide) ?_
                  refine lv_icmp_ne (tgt := 138) hx hb dX11_peg_119 (by decide) (fun c119 => ?_) (fun c119 => ?_)
                  · exact absurd rfl c119
                  · refine lv_aload_n hx hb dX11_peg_122 rfl (lv_at hl 3 rfl) ?_
                    refine gx_get (D := D) (cl := gcl) (ci := 10) (v := .ref (mad s0.heap.size 14)) (C := RX11) (T := TX11) (N := 27) hx hb hts in_X11 hown hK hR.mo rfl 16 (by decide) (hts _ q902) (fun _ h9 => h9) rfl dX11_peg_123 ?_
                    refine lv_bipush (v := 24) hx hb dX11_peg_126 (by decide) ?_
                    refine lv_iload_n hx hb dX11_peg_128 rfl (lv_at hl 6 rfl) ?_
                    refine lv_iadd hx hb dX11_peg_129 ?_
                    refine gx_ti (nI (24 + v)) (nI_add 24 v) ?_
                    refine gx_iald (n := 72) hx hb hK 1 (hR.mia 14 (by decide)) rfl (24 + v) (rfl) (by omega) (by decide) dX11_peg_130 ?_
                    refine lv_iload hx hb dX11_peg_131 (lv_at hl 0 rfl) ?_
                    refine lv_icmp_eq (tgt := 138) hx hb dX11_peg_133 (by decide) (fun c133 => ?_) (fun c133 => ?_)
                    · refine lv_aload_n hx hb dX11_peg_138 rfl (lv_at hl 3 rfl) ?_
                      refine gx_get (D := D) (cl := gcl) (ci := 10) (v := .ref (mad s0.heap.size 15)) (C := RX11) (T := TX11) (N := 27) hx hb hts in_X11 hown hK hR.mo rfl 17 (by decide) (hts _ q903) (fun _ h9 => h9) rfl dX11_peg_139 ?_
                      refine lv_iload_n hx hb dX11_peg_142 rfl (lv_at hl 4 rfl) ?_
                      refine gx_iald (n := 72) hx hb hK 1 (hR.mia 15 (by decide)) rfl u (rfl) (by omega) (by decide) dX11_peg_143 ?_
                      refine gx_ti (nI b) (eb) ?_
                      refine lv_if_le (tgt := 167) hx hb dX11_peg_144 (by decide) (fun c144 => ?_) (fun c144 => ?_)
                      · refine lv_lconst (v := 0) hx hb dX11_peg_167 (by decide) ?_
                        refine gx_tl (m_pb M u a 0) (by rw [m_pb, if_neg (Int32.not_lt.mpr (by rw [eb]; exact c144))]) ?_
                        refine lv_lstore (lv' := [(7, .long (m_pb M u a 0)), (6, .int (nI a)), (5, .int 1), (4, .int (bZ (inR (nI u) 0 ((mI M 13 0) - 1)))), (0, .ref (s0.heap.size + 104)), (1, .int (nI u)), (2, .int 1), (3, .int (nI v))]) hx hb dX11_peg_168 hl (by decide) rfl (fun ls hl => ?_)
                        refine lv_iconst (v := 0) hx hb dX11_peg_170 (by decide) ?_
                        refine gx_ti (nI 0) (by decide) ?_
                        refine lv_istore (lv' := [(9, .int (nI 0)), (7, .long (m_pb M u a 0)), (6, .int (nI a)), (5, .int 1), (4, .int (bZ (inR (nI u) 0 ((mI M 13 0) - 1)))), (0, .ref (s0.heap.size + 104)), (1, .int (nI u)), (2, .int 1), (3, .int (nI v))]) hx hb dX11_peg_171 hl (by decide) rfl (fun ls hl => ?_)
                        exact key (u + 1) 0 _ _ (by omega) (by omega) c133 (lv_sub hl [1, 0, 5, 6, 7, 8, 2] rfl) hL
                      · have h0 : 0 < b := by have := n_lt (b := b) (a := 0) c144 (by omega) (by omega); omega
                        refine lv_aload_n hx hb dX11_peg_147 rfl (lv_at hl 3 rfl) ?_
                        refine gx_get (D := D) (cl := gcl) (ci := 10) (v := .ref (mad s0.heap.size 18)) (C := RX11) (T := TX11) (N := 27) hx hb hts in_X11 hown hK hR.mo rfl 22 (by decide) (hts _ q908) (fun _ h9 => h9) rfl dX11_peg_148 ?_
                        refine lv_iload hx hb dX11_peg_151 (lv_at hl 0 rfl) ?_
                        refine lv_aload_n hx hb dX11_peg_153 rfl (lv_at hl 3 rfl) ?_
                        refine gx_get (D := D) (cl := gcl) (ci := 10) (v := .ref (mad s0.heap.size 15)) (C := RX11) (T := TX11) (N := 27) hx hb hts in_X11 hown hK hR.mo rfl 17 (by decide) (hts _ q903) (fun _ h9 => h9) rfl dX11_peg_154 ?_
                        refine lv_iload_n hx hb dX11_peg_157 rfl (lv_at hl 4 rfl) ?_
                        refine gx_iald (n := 72) hx hb hK 1 (hR.mia 15 (by decide)) rfl u (rfl) (by omega) (by decide) dX11_peg_158 ?_
                        refine gx_ti (nI b) (eb) ?_
                        refine lv_iconst (v := 1) hx hb dX11_peg_159 (by decide) ?_
                        refine lv_isub hx hb dX11_peg_160 ?_
                        refine gx_ti (nI (b - 1)) (by exact pk_sub (a := b) (b := 1) h0) ?_
                        refine cc_v (va_runS (As := [.ref (mad s0.heap.size 18), .int (nI a), .int (nI (b - 1))]) (rest := []) ⟨hx, hb, hml, hown, hts⟩ (ct_X11_upTo (f := mL M 18) (a := mad s0.heap.size 18) (n1 := 144) (n0 := b) (i := a) (wk := nI (b - 1)) hE (hR.mla 18 (by decide) (by decide)) (by decide) (by omega) (fun k h1 h2 => by have := n_gt h2 (by omega) (by omega); omega) (fun k h1 h2 => by have := n_le h2 (by omega) (by omega); omega) (fun k h1 => by omega)) (va_cwS 3 hts (lw_S q1074 q1075 q61 q1076) rfl rfl rfl (by decide +kernel) ⟨Nat.le_of_ble_eq_true rfl, Nat.le_of_ble_eq_true rfl⟩) (cc_pS hW0) rfl rfl hl.1 rfl (lv_room (Nat.le_of_ble_eq_true rfl)) dX11_peg_161 ⟨Nat.le_of_ble_eq_true rfl, Nat.le_of_ble_eq_true rfl⟩) hL (fun H locs hP1 hL => ?_)
                        subst hP1
                        refine lv_goto (tgt := 168) hx hb dX11_peg_164 (by decide) ?_
                        refine gx_tl (m_pb M u a 0) (by rw [m_pb, if_pos (by rw [eb]; exact i_nle c144)]; rw [eb, nI_cl hb2]) ?_
                        refine lv_lstore (lv' := [(7, .long (m_pb M u a 0)), (6, .int (nI a)), (5, .int 1), (4, .int (bZ (inR (nI u) 0 ((mI M 13 0) - 1)))), (0, .ref (s0.heap.size + 104)), (1, .int (nI u)), (2, .int 1), (3, .int (nI v))]) hx hb dX11_peg_168 hl (by decide) rfl (fun ls hl => ?_)
                        refine lv_iconst (v := 0) hx hb dX11_peg_170 (by decide) ?_
                        refine gx_ti (nI 0) (by decide) ?_
                        refine lv_istore (lv' := [(9, .int (nI 0)), (7, .long (m_pb M u a 0)), (6, .int (nI a)), (5, .int 1), (4, .int (bZ (inR (nI u) 0 ((mI M 13 0) - 1)))), (0, .ref (s0.heap.size + 104)), (1, .int (nI u)), (2, .int 1), (3, .int (nI v))]) hx hb dX11_peg_171 hl (by decide) rfl (fun ls hl => ?_)
                        exact key (u + 1) 0 _ _ (by omega) (by omega) c133 (lv_sub hl [1, 0, 5, 6, 7, 8, 2] rfl) hL
                    · refine lv_lconst (v := 0) hx hb dX11_peg_136 (by decide) ?_
                      exact W.lret (v := 0) hx hb hr (fun t ht hW => ⟨ovJ (by rw [m_pegr_0 (by omega) ha ea hx0, hcl]; unfold m_pegv; rw [if_pos ⟨rfl, c133⟩]), by rw [ht]; exact (by rw [hx0]; exact ⟨_, hR⟩)⟩) hL dX11_peg_137
                · exact absurd c104 (by decide)
              · refine lv_iconst (v := 3) hx hb dX11_peg_96 (by decide) ?_
                refine lv_goto (tgt := 101) hx hb dX11_peg_97 (by decide) ?_
                refine cc_v (va_runV (b := s0.heap.size + 104) (As := [.int 3]) (rest := []) ⟨hx, hb, hml, hown, hts⟩ (ct_X11_refused hE ⟨_, hR⟩ 3) (cwV 1 hts (lw_V q983 q985 qs23 q61 q986) rfl rfl rfl (by decide +kernel) ⟨Nat.le_of_ble_eq_true rfl, Nat.le_of_ble_eq_true rfl⟩) (cc_pV hW0 (cc_re hK hR.mo (show gcl[10]? = _ from rfl))) rfl rfl hl.1 rfl (lv_room (Nat.le_of_ble_eq_true rfl)) dX11_peg_101 ⟨Nat.le_of_ble_eq_true rfl, Nat.le_of_ble_eq_true rfl⟩) hL (fun H locs hP1 hL => ?_)
                obtain ⟨Y, hR⟩ := hP1
                refine lv_if_eq (tgt := 109) hx hb dX11_peg_104 (by decide) (fun c104 => ?_) (fun c104 => ?_)
                · exact absurd c104 (by decide)
                · refine lv_lconst (v := 0) hx hb dX11_peg_107 (by decide) ?_
                  exact W.lret (v := 0) hx hb hr (fun t ht hW => ⟨ovJ (m_pegr_x (xg_4 (bZ_1.mp c60) (by decide) hnb c93) (by decide)).symm, by rw [ht]; exact (by rw [xg_4 (bZ_1.mp c60) (by decide) hnb c93]; exact ⟨_, hR⟩)⟩) hL dX11_peg_108
            · exact absurd c82 (by decide)
          · exact absurd c73 (by decide)
        · refine lv_iconst (v := 1) hx hb dX11_peg_63 (by decide) ?_
          refine lv_goto (tgt := 101) hx hb dX11_peg_64 (by decide) ?_
          refine cc_v (va_runV (b := s0.heap.size + 104) (As := [.int 1]) (rest := []) ⟨hx, hb, hml, hown, hts⟩ (ct_X11_refused hE ⟨_, hR⟩ 1) (cwV 1 hts (lw_V q983 q985 qs23 q61 q986) rfl rfl rfl (by decide +kernel) ⟨Nat.le_of_ble_eq_true rfl, Nat.le_of_ble_eq_true rfl⟩) (cc_pV hW0 (cc_re hK hR.mo (show gcl[10]? = _ from rfl))) rfl rfl hl.1 rfl (lv_room (Nat.le_of_ble_eq_true rfl)) dX11_peg_101 ⟨Nat.le_of_ble_eq_true rfl, Nat.le_of_ble_eq_true rfl⟩) hL (fun H locs hP1 hL => ?_)
          obtain ⟨Y, hR⟩ := hP1
          refine lv_if_eq (tgt := 109) hx hb dX11_peg_104 (by decide) (fun c104 => ?_) (fun c104 => ?_)
          · exact absurd c104 (by decide)
          · refine lv_lconst (v := 0) hx hb dX11_peg_107 (by decide) ?_
            exact W.lret (v := 0) hx hb hr (fun t ht hW => ⟨ovJ (m_pegr_x (xg_1 (bZ_0.mp c60)) (by decide)).symm, by rw [ht]; exact (by rw [xg_1 (bZ_0.mp c60)]; exact ⟨_, hR⟩)⟩) hL dX11_peg_108
