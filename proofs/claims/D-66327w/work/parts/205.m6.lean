set_option maxHeartbeats 4000000 in
set_option maxRecDepth 100000 in
/-- net -/
theorem ct_X11_net {l : Launch} {s0 : State} {D : va_G} {DA : Nat → ClassId} {z0 : Nat} {C : CS} {M : MS} {o : Int64} {H : Heap} (hE : G0 l s0 D DA z0) (hR : RR s0 D DA z0 C M o H) {i : Nat} (hi : i < 12) (hC : MC M) : Met l yX11_net (ws_ yX11_net cX11_net 4 (some .boolean)) ({ frames := 5, cells := 0, slots := 0, locals := 123 }) (cP s0 [.ref (s0.heap.size + 104), .int (nI i)] H) (cQv (.int (bZ (m_netb M i))) (fun H1 => RR s0 D DA z0 C (m_net M i) o H1)) 0 0 (cF s0) := by
  refine Met.ofW (cc := cX11_net) (maxL := 4) (ret := (some .boolean)) (by decide) rfl ?_
  intro p e s m args below meth c s₁ Bd hml hv
  obtain ⟨rfl, rfl, hW0⟩ := hv
  have hx := Bd.exec
  have hb := Bd.bytes
  have hr := Bd.returns
  have hts := atoms_spec (ws := (ws_ yX11_net cX11_net 4 (some .boolean))) Bd.pre
  have hts : ∀ w ∈ lw_all, w.before _ s = true := fun w h => hts w (List.mem_cons_of_mem _ h)
  have hown : s.vm.findClass RX11 = some m.cls := findClass_of_methodNamed Bd.named
  have hlocks := Bd.notSynchronized
  have hK := va_K.moved hW0.alike hE.K
  have hL : gx_L s0.heap.size ([] : List Loc) := gx_L0
  obtain ⟨Y, hR⟩ := hR
  have hl := lv_entry ([.ref (s0.heap.size + 104), .int (nI i)]) (n := 4) (Nat.le_of_ble_eq_true rfl)
  rw [lg_entry_eq]
  generalize (lg_sl ([.ref (s0.heap.size + 104), .int (nI i)]) ++ List.replicate (4 - (lg_sl ([.ref (s0.heap.size + 104), .int (nI i)])).length) Slot.unset).toArray = ls at hl ⊢
  have hl : lv_has ls 4 [(0, .ref (s0.heap.size + 104)), (1, .int (nI i))] := hl
  have key2 : ∀ (n : Nat) (k : Nat) (H : Heap) (locs : List Loc) (ls : Array Slot), k ≤ 12 → 12 < k + n → lv_has ls 4 [(2, .int (bZ ((decide (mS M 19 = 0) || decide (mI M 17 i ≠ 0)) || m_dif M i (fun w => m_gs M i w 12) k))), (3, .int (nI k)), (0, .ref (s0.heap.size + 104)), (1, .int (nI i))] → gx_L s0.heap.size locs → GRb s0.heap.size s0.heap D DA z0 Y C (m_wr (m_wr M 20 0 12 (fun w => m_gs M i w 12)) 18 (12 * i) k (fun w => m_gs M i w 12)) o H → W p l e (headSpec (ws_ yX11_net cX11_net 4 (some .boolean)) ({ frames := 5, cells := 0, slots := 0, locals := 123 })).room s m ([.ref (s0.heap.size + 104), .int (nI i)] : List Value).toArray below meth c H locs 0 0 (MQ below (cQv (.int (bZ (m_netb M i))) (fun H1 => RR s0 D DA z0 C (m_net M i) o H1)) ([.ref (s0.heap.size + 104), .int (nI i)] : List Value).toArray s 0 0 (cF s0)) (F0 m 50 ls []) := by
    intro n
    induction n with
    | zero =>
      intro k H locs ls hk hn hl hL hR
      omega
    | succ n ih =>
      intro k H locs ls hk hn hl hL hR
      refine lv_iload_n hx hb dX11_net_50 rfl (lv_at hl 1 rfl) ?_
      refine lv_bipush (v := 12) hx hb dX11_net_51 (by decide) ?_
      refine lv_icmp_ge (tgt := 110) hx hb dX11_net_53 (by decide) (fun c53 => ?_) (fun c53 => ?_)
      · have hkc : k = 12 := by have := n_ge (b := 12) c53 (by omega) (by omega); omega
        subst hkc
        refine lv_aload_n hx hb dX11_net_110 rfl (lv_at hl 2 rfl) ?_
        refine lv_iload_n hx hb dX11_net_111 rfl (lv_at hl 3 rfl) ?_
        refine cc_0 (va_runV (b := s0.heap.size + 104) (As := [.int (nI i)]) (rest := []) ⟨hx, hb, hml, hown, hts⟩ (ct_X11_plan hE ⟨_, hR⟩ hi (hC.of rfl)) (cwV 1 hts (lw_V q1062 q1064 qs34 q61 q1065) rfl rfl rfl (by decide +kernel) ⟨Nat.le_of_ble_eq_true rfl, Nat.le_of_ble_eq_true rfl⟩) (cc_pV hW0 (cc_re hK hR.mo (show gcl[10]? = _ from rfl))) rfl rfl hl.1 rfl (lv_room (Nat.le_of_ble_eq_true rfl)) dX11_net_112 ⟨Nat.le_of_ble_eq_true rfl, Nat.le_of_ble_eq_true rfl⟩) hL (fun H locs hP1 hL => ?_)
        obtain ⟨Y, hR⟩ := hP1
        refine lv_aload_n hx hb dX11_net_115 rfl (lv_at hl 2 rfl) ?_
        refine gx_get (D := D) (cl := gcl) (ci := 10) (v := .ref (mad s0.heap.size 17)) (C := RX11) (T := TX11) (N := 27) hx hb hts in_X11 hown hK hR.mo rfl 21 (by decide) (hts _ q907) (fun _ h9 => h9) rfl dX11_net_116 ?_
        refine lv_iload_n hx hb dX11_net_119 rfl (lv_at hl 3 rfl) ?_
        refine lv_iconst (v := 0) hx hb dX11_net_120 (by decide) ?_
        refine gx_zast (n := 12) hx hb hK 2 hR.mza rfl (rfl) i (rfl) (by omega) (by decide) hL (by (try simp only [aI, aA, aT, aB, aL, mad]); omega) dX11_net_121 (fun H locs hU hA hL => ?_)
        have hR := GRb.pMZ hR hU hA
        refine lv_iload_n hx hb dX11_net_122 rfl (lv_at hl 0 rfl) ?_
        exact W.zret (v := (bZ ((decide (mS M 19 = 0) || decide (mI M 17 i ≠ 0)) || m_dif M i (fun w => m_gs M i w 12) 12))) hx hb hr (bZ_n _) (fun t ht hW => ⟨rfl, by rw [ht]; exact ⟨_, hR⟩⟩) hL dX11_net_123
      · have hkc : k < 12 := by have := n_lt (b := 12) c53 (by omega) (by omega); omega
        refine lv_iload_n hx hb dX11_net_56 rfl (lv_at hl 0 rfl) ?_
        refine lv_if_ne (tgt := 81) hx hb dX11_net_57 (by decide) (fun c57 => ?_) (fun c57 => ?_)
        · refine lv_iconst (v := 1) hx hb dX11_net_81 (by decide) ?_
          refine lv_goto (tgt := 86) hx hb dX11_net_82 (by decide) ?_
          refine gx_ti (bZ ((decide (mS M 19 = 0) || decide (mI M 17 i ≠ 0)) || m_dif M i (fun w => m_gs M i w 12) (k + 1))) (by rw [m_dif, ← Bool.or_assoc, bZ_1.mp c57]; rfl) ?_
          refine lv_istore_n (lv' := [(2, .int (bZ ((decide (mS M 19 = 0) || decide (mI M 17 i ≠ 0)) || m_dif M i (fun w => m_gs M i w 12) (k + 1)))), (3, .int (nI k)), (0, .ref (s0.heap.size + 104)), (1, .int (nI i))]) hx hb dX11_net_86 rfl hl (by decide) rfl (fun ls hl => ?_)
          refine lv_aload_n hx hb dX11_net_87 rfl (lv_at hl 2 rfl) ?_
          refine gx_get (D := D) (cl := gcl) (ci := 10) (v := .ref (mad s0.heap.size 18)) (C := RX11) (T := TX11) (N := 27) hx hb hts in_X11 hown hK hR.mo rfl 22 (by decide) (hts _ q908) (fun _ h9 => h9) rfl dX11_net_88 ?_
          refine lv_bipush (v := 12) hx hb dX11_net_91 (by decide) ?_
          refine lv_iload_n hx hb dX11_net_93 rfl (lv_at hl 3 rfl) ?_
          refine lv_imul hx hb dX11_net_94 ?_
          refine gx_ti (nI (12 * i)) (pk_mul 12 i) ?_
          refine lv_iload_n hx hb dX11_net_95 rfl (lv_at hl 1 rfl) ?_
          refine lv_iadd hx hb dX11_net_96 ?_
          refine gx_ti (nI (12 * i + k)) (nI_add (12 * i) k) ?_
          refine lv_aload_n hx hb dX11_net_97 rfl (lv_at hl 2 rfl) ?_
          refine gx_get (D := D) (cl := gcl) (ci := 10) (v := .ref (mad s0.heap.size 20)) (C := RX11) (T := TX11) (N := 27) hx hb hts in_X11 hown hK hR.mo rfl 24 (by decide) (hts _ q910) (fun _ h9 => h9) rfl dX11_net_98 ?_
          refine lv_iload_n hx hb dX11_net_101 rfl (lv_at hl 1 rfl) ?_
          refine gx_lald (n := 12) hx hb hK 0 (hR.mla 20 (by decide) (by decide)) rfl k (rfl) (by omega) (by decide) dX11_net_102 ?_
          refine gx_tl (m_gs M i k 12) ((congrFun (m_wr_o (m_wr M 20 0 12 (fun w => m_gs M i w 12)) (j := 18) (j' := 20) (fun w => m_gs M i w 12) (by decide)) k).trans (by have := m_wr_i M (j := 20) (a := 0) (fun w => m_gs M i w 12) hkc; rw [Nat.zero_add] at this; exact this)) ?_
          refine gx_last (n := 144) hx hb hK 0 (hR.mla 18 (by decide) (by decide)) rfl (12 * i + k) (rfl) (by omega) (by decide) hL (by (try simp only [aI, aA, aT, aB, aL, mad]); omega) dX11_net_103 (fun H locs hU hA hL => ?_)
          have hR := GRb.pML (j := 18) (by decide) (by decide) hR hU hA
          have hR := GR_M (M := (mI (m_wr (m_wr M 20 0 12 (fun w => m_gs M i w 12)) 18 (12 * i) k (fun w => m_gs M i w 12)), up2 (mL (m_wr (m_wr M 20 0 12 (fun w => m_gs M i w 12)) 18 (12 * i) k (fun w => m_gs M i w 12))) 18 (12 * i + k) (m_gs M i k 12), mS (m_wr (m_wr M 20 0 12 (fun w => m_gs M i w 12)) 18 (12 * i) k (fun w => m_gs M i w 12)))) (M' := m_wr (m_wr M 20 0 12 (fun w => m_gs M i w 12)) 18 (12 * i) (k + 1) (fun w => m_gs M i w 12)) (m_wr_s (m_wr M 20 0 12 (fun w => m_gs M i w 12)) 18 (12 * i) k (fun w => m_gs M i w 12)) hR
          refine lv_iinc (v := nI (k + 1)) (lv' := [(3, .int (nI (k + 1))), (2, .int (bZ ((decide (mS M 19 = 0) || decide (mI M 17 i ≠ 0)) || m_dif M i (fun w => m_gs M i w 12) (k + 1)))), (0, .ref (s0.heap.size + 104)), (1, .int (nI i))]) hx hb dX11_net_104 hl (k := 1) rfl (nI_1 k) (by decide) rfl (fun ls hl => ?_)
          refine lv_goto (tgt := 50) hx hb dX11_net_107 (by decide) ?_
          exact ih (k + 1) _ _ _ (by omega) (by omega) (lv_sub hl [1, 0, 2, 3] rfl) hL hR
        · refine lv_aload_n hx hb dX11_net_60 rfl (lv_at hl 2 rfl) ?_
          refine gx_get (D := D) (cl := gcl) (ci := 10) (v := .ref (mad s0.heap.size 20)) (C := RX11) (T := TX11) (N := 27) hx hb hts in_X11 hown hK hR.mo rfl 24 (by decide) (hts _ q910) (fun _ h9 => h9) rfl dX11_net_61 ?_
          refine lv_iload_n hx hb dX11_net_64 rfl (lv_at hl 1 rfl) ?_
          refine gx_lald (n := 12) hx hb hK 0 (hR.mla 20 (by decide) (by decide)) rfl k (rfl) (by omega) (by decide) dX11_net_65 ?_
          refine gx_tl (m_gs M i k 12) ((congrFun (m_wr_o (m_wr M 20 0 12 (fun w => m_gs M i w 12)) (j := 18) (j' := 20) (fun w => m_gs M i w 12) (by decide)) k).trans (by have := m_wr_i M (j := 20) (a := 0) (fun w => m_gs M i w 12) hkc; rw [Nat.zero_add] at this; exact this)) ?_
          refine lv_aload_n hx hb dX11_net_66 rfl (lv_at hl 2 rfl) ?_
          refine gx_get (D := D) (cl := gcl) (ci := 10) (v := .ref (mad s0.heap.size 18)) (C := RX11) (T := TX11) (N := 27) hx hb hts in_X11 hown hK hR.mo rfl 22 (by decide) (hts _ q908) (fun _ h9 => h9) rfl dX11_net_67 ?_
          refine lv_bipush (v := 12) hx hb dX11_net_70 (by decide) ?_
          refine lv_iload_n hx hb dX11_net_72 rfl (lv_at hl 3 rfl) ?_
          refine lv_imul hx hb dX11_net_73 ?_
          refine gx_ti (nI (12 * i)) (pk_mul 12 i) ?_
          refine lv_iload_n hx hb dX11_net_74 rfl (lv_at hl 1 rfl) ?_
          refine lv_iadd hx hb dX11_net_75 ?_
          refine gx_ti (nI (12 * i + k)) (nI_add (12 * i) k) ?_
          refine gx_lald (n := 144) hx hb hK 0 (hR.mla 18 (by decide) (by decide)) rfl (12 * i + k) (rfl) (by omega) (by decide) dX11_net_76 ?_
          refine gx_tl (mL M 18 (12 * i + k)) ((m_wr_x (m_wr M 20 0 12 (fun w => m_gs M i w 12)) (fun w => m_gs M i w 12) (Or.inr (by omega))).trans (congrFun (m_wr_o M (j := 20) (j' := 18) (fun w => m_gs M i w 12) (by decide)) _)) ?_
          refine gx_lc_eq (tgt := 85) (pc1 := 78) hx hb rfl dX11_net_77 dX11_net_78 (by decide) (fun c78 => ?_) (fun c78 => ?_)
          · refine lv_iconst (v := 0) hx hb dX11_net_85 (by decide) ?_
            refine gx_ti (bZ ((decide (mS M 19 = 0) || decide (mI M 17 i ≠ 0)) || m_dif M i (fun w => m_gs M i w 12) (k + 1))) (by rw [m_dif, ← Bool.or_assoc, bZ_0.mp c57, decide_eq_false (fun q => q c78)]; rfl) ?_
            refine lv_istore_n (lv' := [(2, .int (bZ ((decide (mS M 19 = 0) || decide (mI M 17 i ≠ 0)) || m_dif M i (fun w => m_gs M i w 12) (k + 1)))), (3, .int (nI k)), (0, .ref (s0.heap.size + 104)), (1, .int (nI i))]) hx hb dX11_net_86 rfl hl (by decide) rfl (fun ls hl => ?_)
            refine lv_aload_n hx hb dX11_net_87 rfl (lv_at hl 2 rfl) ?_
            refine gx_get (D := D) (cl := gcl) (ci := 10) (v := .ref (mad s0.heap.size 18)) (C := RX11) (T := TX11) (N := 27) hx hb hts in_X11 hown hK hR.mo rfl 22 (by decide) (hts _ q908) (fun _ h9 => h9) rfl dX11_net_88 ?_
            refine lv_bipush (v := 12) hx hb dX11_net_91 (by decide) ?_
            refine lv_iload_n hx hb dX11_net_93 rfl (lv_at hl 3 rfl) ?_
            refine lv_imul hx hb dX11_net_94 ?_
            refine gx_ti (nI (12 * i)) (pk_mul 12 i) ?_
            refine lv_iload_n hx hb dX11_net_95 rfl (lv_at hl 1 rfl) ?_
            refine lv_iadd hx hb dX11_net_96 ?_
            refine gx_ti (nI (12 * i + k)) (nI_add (12 * i) k) ?_
            refine lv_aload_n hx hb dX11_net_97 rfl (lv_at hl 2 rfl) ?_
            refine gx_get (D := D) (cl := gcl) (ci := 10) (v := .ref (mad s0.heap.size 20)) (C := RX11) (T := TX11) (N := 27) hx hb hts in_X11 hown hK hR.mo rfl 24 (by decide) (hts _ q910) (fun _ h9 => h9) rfl dX11_net_98 ?_
            refine lv_iload_n hx hb dX11_net_101 rfl (lv_at hl 1 rfl) ?_
            refine gx_lald (n := 12) hx hb hK 0 (hR.mla 20 (by decide) (by decide)) rfl k (rfl) (by omega) (by decide) dX11_net_102 ?_
            refine gx_tl (m_gs M i k 12) ((congrFun (m_wr_o (m_wr M 20 0 12 (fun w => m_gs M i w 12)) (j := 18) (j' := 20) (fun w => m_gs M i w 12) (by decide)) k).trans (by have := m_wr_i M (j := 20) (a := 0) (fun w => m_gs M i w 12) hkc; rw [Nat.zero_add] at this; exact this)) ?_
            refine gx_last (n := 144) hx hb hK 0 (hR.mla 18 (by decide) (by decide)) rfl (12 * i + k) (rfl) (by omega) (by decide) hL (by (try simp only [aI, aA, aT, aB, aL, mad]); omega) dX11_net_103 (fun H locs hU hA hL => ?_)
            have hR := GRb.pML (j := 18) (by decide) (by decide) hR hU hA
            have hR := GR_M (M := (mI (m_wr (m_wr M 20 0 12 (fun w => m_gs M i w 12)) 18 (12 * i) k (fun w => m_gs M i w 12)), up2 (mL (m_wr (m_wr M 20 0 12 (fun w => m_gs M i w 12)) 18 (12 * i) k (fun w => m_gs M i w 12))) 18 (12 * i + k) (m_gs M i k 12), mS (m_wr (m_wr M 20 0 12 (fun w => m_gs M i w 12)) 18 (12 * i) k (fun w => m_gs M i w 12)))) (M' := m_wr (m_wr M 20 0 12 (fun w => m_gs M i w 12)) 18 (12 * i) (k + 1) (fun w => m_gs M i w 12)) (m_wr_s (m_wr M 20 0 12 (fun w => m_gs M i w 12)) 18 (12 * i) k (fun w => m_gs M i w 12)) hR
            refine lv_iinc (v := nI (k + 1)) (lv' := [(3, .int (nI (k + 1))), (2, .int (bZ ((decide (mS M 19 = 0) || decide (mI M 17 i ≠ 0)) || m_dif M i (fun w => m_gs M i w 12) (k + 1)))), (0, .ref (s0.heap.size + 104)), (1, .int (nI i))]) hx hb dX11_net_104 hl (k := 1) rfl (nI_1 k) (by decide) rfl (fun ls hl => ?_)
            refine lv_goto (tgt := 50) hx hb dX11_net_107 (by decide) ?_
            exact ih (k + 1) _ _ _ (by omega) (by omega) (lv_sub hl [1, 0, 2, 3] rfl) hL hR
          · refine lv_iconst (v := 1) hx hb dX11_net_81 (by decide) ?_
            refine lv_goto (tgt := 86) hx hb dX11_net_82 (by decide) ?_
            refine gx_ti (bZ ((decide (mS M 19 = 0) || decide (mI M 17 i ≠ 0)) || m_dif M i (fun w => m_gs M i w 12) (k + 1))) (by rw [m_dif, ← Bool.or_assoc, decide_eq_true c78, Bool.or_true]; rfl) ?_
            refine lv_istore_n (lv' := [(2, .int (bZ ((decide (mS M 19 = 0) || decide (mI M 17 i ≠ 0)) || m_dif M i (fun w => m_gs M i w 12) (k + 1)))), (3, .int (nI k)), (0, .ref (s0.heap.size + 104)), (1, .int (nI i))]) hx hb dX11_net_86 rfl hl (by decide) rfl (fun ls hl => ?_)
            refine lv_aload_n hx hb dX11_net_87 rfl (lv_at hl 2 rfl) ?_
            refine gx_get (D := D) (cl := gcl) (ci := 10) (v := .ref (mad s0.heap.size 18)) (C := RX11) (T := TX11) (N := 27) hx hb hts in_X11 hown hK hR.mo rfl 22 (by decide) (hts _ q908) (fun _ h9 => h9) rfl dX11_net_88 ?_
            refine lv_bipush (v := 12) hx hb dX11_net_91 (by decide) ?_
            refine lv_iload_n hx hb dX11_net_93 rfl (lv_at hl 3 rfl) ?_
            refine lv_imul hx hb dX11_net_94 ?_
            refine gx_ti (nI (12 * i)) (pk_mul 12 i) ?_
            refine lv_iload_n hx hb dX11_net_95 rfl (lv_at hl 1 rfl) ?_
            refine lv_iadd hx hb dX11_net_96 ?_
            refine gx_ti (nI (12 * i + k)) (nI_add (12 * i) k) ?_
            refine lv_aload_n hx hb dX11_net_97 rfl (lv_at hl 2 rfl) ?_
            refine gx_get (D := D) (cl := gcl) (ci := 10) (v := .ref (mad s0.heap.size 20)) (C := RX11) (T := TX11) (N := 27) hx hb hts in_X11 hown hK hR.mo rfl 24 (by decide) (hts _ q910) (fun _ h9 => h9) rfl dX11_net_98 ?_
            refine lv_iload_n hx hb dX11_net_101 rfl (lv_at hl 1 rfl) ?_
            refine gx_lald (n := 12) hx hb hK 0 (hR.mla 20 (by decide) (by decide)) rfl k (rfl) (by omega) (by decide) dX11_net_102 ?_
            refine gx_tl (m_gs M i k 12) ((congrFun (m_wr_o (m_wr M 20 0 12 (fun w => m_gs M i w 12)) (j := 18) (j' := 20) (fun w => m_gs M i w 12) (by decide)) k).trans (by have := m_wr_i M (j := 20) (a := 0) (fun w => m_gs M i w 12) hkc; rw [Nat.zero_add] at this; exact this)) ?_
            refine gx_last (n := 144) hx hb hK 0 (hR.mla 18 (by decide) (by decide)) rfl (12 * i + k) (rfl) (by omega) (by decide) hL (by (try simp only [aI, aA, aT, aB, aL, mad]); omega) dX11_net_103 (fun H locs hU hA hL => ?_)
            have hR := GRb.pML (j := 18) (by decide) (by decide) hR hU hA
            have hR := GR_M (M := (mI (m_wr (m_wr M 20 0 12 (fun w => m_gs M i w 12)) 18 (12 * i) k (fun w => m_gs M i w 12)), up2 (mL (m_wr (m_wr M 20 0 12 (fun w => m_gs M i w 12)) 18 (12 * i) k (fun w => m_gs M i w 12))) 18 (12 * i + k) (m_gs M i k 12), mS (m_wr (m_wr M 20 0 12 (fun w => m_gs M i w 12)) 18 (12 * i) k (fun w => m_gs M i w 12)))) (M' := m_wr (m_wr M 20 0 12 (fun w => m_gs M i w 12)) 18 (12 * i) (k + 1) (fun w => m_gs M i w 12)) (m_wr_s (m_wr M 20 0 12 (fun w => m_gs M i w 12)) 18 (12 * i) k (fun w => m_gs M i w 12)) hR
            refine lv_iinc (v := nI (k + 1)) (lv' := [(3, .int (nI (k + 1))), (2, .int (bZ ((decide (mS M 19 = 0) || decide (mI M 17 i ≠ 0)) || m_dif M i (fun w => m_gs M i w 12) (k + 1)))), (0, .ref (s0.heap.size + 104)), (1, .int (nI i))]) hx hb dX11_net_104 hl (k := 1) rfl (nI_1 k) (by decide) rfl (fun ls hl => ?_)
            refine lv_goto (tgt := 50) hx hb dX11_net_107 (by decide) ?_
            exact ih (k + 1) _ _ _ (by omega) (by omega) (lv_sub hl [1, 0, 2, 3] rfl) hL hR
  have key1 : ∀ (n : Nat) (k : Nat) (H : Heap) (locs : List Loc) (ls : Array Slot), k ≤ 12 → 12 < k + n → lv_has ls 4 [(2, .int (bZ (decide (mS M 19 = 0) || decide (mI M 17 i ≠ 0)))), (3, .int (nI k)), (0, .ref (s0.heap.size + 104)), (1, .int (nI i))] → gx_L s0.heap.size locs → GRb s0.heap.size s0.heap D DA z0 Y C (m_wr M 20 0 k (fun w => m_gs M i w 12)) o H → W p l e (headSpec (ws_ yX11_net cX11_net 4 (some .boolean)) ({ frames := 5, cells := 0, slots := 0, locals := 123 })).room s m ([.ref (s0.heap.size + 104), .int (nI i)] : List Value).toArray below meth c H locs 0 0 (MQ below (cQv (.int (bZ (m_netb M i))) (fun H1 => RR s0 D DA z0 C (m_net M i) o H1)) ([.ref (s0.heap.size + 104), .int (nI i)] : List Value).toArray s 0 0 (cF s0)) (F0 m 24 ls []) := by
    intro n
    induction n with
    | zero =>
      intro k H locs ls hk hn hl hL hR
      omega
    | succ n ih =>
      intro k H locs ls hk hn hl hL hR
      refine lv_iload_n hx hb dX11_net_24 rfl (lv_at hl 1 rfl) ?_
      refine lv_bipush (v := 12) hx hb dX11_net_25 (by decide) ?_
      refine lv_icmp_ge (tgt := 48) hx hb dX11_net_27 (by decide) (fun c27 => ?_) (fun c27 => ?_)
      · have hkc : k = 12 := by have := n_ge (b := 12) c27 (by omega) (by omega); omega
        subst hkc
        refine lv_iconst (v := 0) hx hb dX11_net_48 (by decide) ?_
        refine gx_ti (nI 0) (by decide) ?_
        refine lv_istore_n (lv' := [(3, .int (nI 0)), (2, .int (bZ (decide (mS M 19 = 0) || decide (mI M 17 i ≠ 0)))), (0, .ref (s0.heap.size + 104)), (1, .int (nI i))]) hx hb dX11_net_49 rfl hl (by decide) rfl (fun ls hl => ?_)
        have hl : lv_has ls 4 [(3, .int (nI 0)), (2, .int (bZ ((decide (mS M 19 = 0) || decide (mI M 17 i ≠ 0)) || m_dif M i (fun w => m_gs M i w 12) 0))), (0, .ref (s0.heap.size + 104)), (1, .int (nI i))] := by rw [m_dif, Bool.or_false]; exact hl
        exact key2 13 0 _ _ _ (by omega) (by omega) (lv_sub hl [1, 0, 2, 3] rfl) hL (by rw [m_wr_0]; exact hR)
      · have hkc : k < 12 := by have := n_lt (b := 12) c27 (by omega) (by omega); omega
        refine lv_aload_n hx hb dX11_net_30 rfl (lv_at hl 2 rfl) ?_
        refine gx_get (D := D) (cl := gcl) (ci := 10) (v := .ref (mad s0.heap.size 20)) (C := RX11) (T := TX11) (N := 27) hx hb hts in_X11 hown hK hR.mo rfl 24 (by decide) (hts _ q910) (fun _ h9 => h9) rfl dX11_net_31 ?_
        refine lv_iload_n hx hb dX11_net_34 rfl (lv_at hl 1 rfl) ?_
        refine lv_aload_n hx hb dX11_net_35 rfl (lv_at hl 2 rfl) ?_
        refine lv_iload_n hx hb dX11_net_36 rfl (lv_at hl 3 rfl) ?_
        refine lv_iload_n hx hb dX11_net_37 rfl (lv_at hl 1 rfl) ?_
        refine cc_v (va_runV (b := s0.heap.size + 104) (As := [.int (nI i), .int (nI k)]) (rest := [.int (nI k), .ref (mad s0.heap.size 20)]) ⟨hx, hb, hml, hown, hts⟩ (ct_X11_grossOf (wk := k) hE ⟨_, hR⟩ hi hkc (hC.of rfl)) (cwV 2 hts (lw_V q1048 q1050 qs31 q61 q1051) rfl rfl rfl (by decide +kernel) ⟨Nat.le_of_ble_eq_true rfl, Nat.le_of_ble_eq_true rfl⟩) (cc_pV hW0 (cc_re hK hR.mo (show gcl[10]? = _ from rfl))) rfl rfl hl.1 rfl (lv_room (Nat.le_of_ble_eq_true rfl)) dX11_net_38 ⟨Nat.le_of_ble_eq_true rfl, Nat.le_of_ble_eq_true rfl⟩) hL (fun H locs hP1 hL => ?_)
        subst hP1
        refine gx_tl ((fun w => m_gs M i w 12) k) (m_gs_c (M := M) (M' := m_wr M 20 0 k (fun w => m_gs M i w 12)) rfl (m_wr_o M (fun w => m_gs M i w 12) (by decide)) i k 12) ?_
        refine gx_last (n := 12) hx hb hK 0 (hR.mla 20 (by decide) (by decide)) rfl k (rfl) (by omega) (by decide) hL (by (try simp only [aI, aA, aT, aB, aL, mad]); omega) dX11_net_41 (fun H locs hU hA hL => ?_)
        have hR := GRb.pML (j := 20) (by decide) (by decide) hR hU hA
        have hR := GR_M (M := (mI (m_wr M 20 0 k (fun w => m_gs M i w 12)), up2 (mL (m_wr M 20 0 k (fun w => m_gs M i w 12))) 20 k ((fun w => m_gs M i w 12) k), mS (m_wr M 20 0 k (fun w => m_gs M i w 12)))) (M' := m_wr M 20 0 (k + 1) (fun w => m_gs M i w 12)) (m_wr_s0 M 20 k (fun w => m_gs M i w 12)) hR
        refine lv_iinc (v := nI (k + 1)) (lv' := [(3, .int (nI (k + 1))), (2, .int (bZ (decide (mS M 19 = 0) || decide (mI M 17 i ≠ 0)))), (0, .ref (s0.heap.size + 104)), (1, .int (nI i))]) hx hb dX11_net_42 hl (k := 1) rfl (nI_1 k) (by decide) rfl (fun ls hl => ?_)
        refine lv_goto (tgt := 24) hx hb dX11_net_45 (by decide) ?_
        exact ih (k + 1) _ _ _ (by omega) (by omega) (lv_sub hl [1, 0, 2, 3] rfl) hL hR
  refine lv_aload_n hx hb dX11_net_0 rfl (lv_at hl 0 rfl) ?_
  refine gx_get (D := D) (cl := gcl) (ci := 10) (v := .int (mS M 19)) (C := RX11) (T := TX11) (N := 27) hx hb hts in_X11 hown hK hR.mo rfl 19 (by decide) (hts _ q905) (fun _ h9 => h9) rfl dX11_net_1 ?_
  refine lv_if_eq (tgt := 16) hx hb dX11_net_4 (by decide) (fun c4 => ?_) (fun c4 => ?_)
  · refine lv_iconst (v := 1) hx hb dX11_net_16 (by decide) ?_
    refine lv_goto (tgt := 21) hx hb dX11_net_17 (by decide) ?_
    refine gx_ti (bZ (decide (mS M 19 = 0) || decide (mI M 17 i ≠ 0))) ((bZ_t (by simp [c4])).symm) ?_
    refine lv_istore_n (lv' := [(2, .int (bZ (decide (mS M 19 = 0) || decide (mI M 17 i ≠ 0)))), (0, .ref (s0.heap.size + 104)), (1, .int (nI i))]) hx hb dX11_net_21 rfl hl (by decide) rfl (fun ls hl => ?_)
    refine lv_iconst (v := 0) hx hb dX11_net_22 (by decide) ?_
    refine gx_ti (nI 0) (by decide) ?_
    refine lv_istore_n (lv' := [(3, .int (nI 0)), (2, .int (bZ (decide (mS M 19 = 0) || decide (mI M 17 i ≠ 0)))), (0, .ref (s0.heap.size + 104)), (1, .int (nI i))]) hx hb dX11_net_23 rfl hl (by decide) rfl (fun ls hl => ?_)
    exact key1 13 0 _ _ _ (by omega) (by omega) (lv_sub hl [1, 0, 2, 3] rfl) hL (by rw [m_wr_0]; exact hR)
  · refine lv_aload_n hx hb dX11_net_7 rfl (lv_at hl 0 rfl) ?_
    refine gx_get (D := D) (cl := gcl) (ci := 10) (v := .ref (mad s0.heap.size 17)) (C := RX11) (T := TX11) (N := 27) hx hb hts in_X11 hown hK hR.mo rfl 21 (by decide) (hts _ q907) (fun _ h9 => h9) rfl dX11_net_8 ?_
    refine lv_iload_n hx hb dX11_net_11 rfl (lv_at hl 1 rfl) ?_
    refine gx_zald (n := 12) hx hb hK 2 hR.mza rfl i (rfl) (by omega) (by decide) dX11_net_12 ?_
    refine lv_if_eq (tgt := 20) hx hb dX11_net_13 (by decide) (fun c13 => ?_) (fun c13 => ?_)
    · refine lv_iconst (v := 0) hx hb dX11_net_20 (by decide) ?_
      refine gx_ti (bZ (decide (mS M 19 = 0) || decide (mI M 17 i ≠ 0))) ((bZ_f (by simp [c4, c13])).symm) ?_
      refine lv_istore_n (lv' := [(2, .int (bZ (decide (mS M 19 = 0) || decide (mI M 17 i ≠ 0)))), (0, .ref (s0.heap.size + 104)), (1, .int (nI i))]) hx hb dX11_net_21 rfl hl (by decide) rfl (fun ls hl => ?_)
      refine lv_iconst (v := 0) hx hb dX11_net_22 (by decide) ?_
      refine gx_ti (nI 0) (by decide) ?_
      refine lv_istore_n (lv' := [(3, .int (nI 0)), (2, .int (bZ (decide (mS M 19 = 0) || decide (mI M 17 i ≠ 0)))), (0, .ref (s0.heap.size + 104)), (1, .int (nI i))]) hx hb dX11_net_23 rfl hl (by decide) rfl (fun ls hl => ?_)
      exact key1 13 0 _ _ _ (by omega) (by omega) (lv_sub hl [1, 0, 2, 3] rfl) hL (by rw [m_wr_0]; exact hR)
    · refine lv_iconst (v := 1) hx hb dX11_net_16 (by decide) ?_
      refine lv_goto (tgt := 21) hx hb dX11_net_17 (by decide) ?_
      refine gx_ti (bZ (decide (mS M 19 = 0) || decide (mI M 17 i ≠ 0))) ((bZ_t (by simp [c13])).symm) ?_
      refine lv_istore_n (lv' := [(2, .int (bZ (decide (mS M 19 = 0) || decide (mI M 17 i ≠ 0)))), (0, .ref (s0.heap.size + 104)), (1, .int (nI i))]) hx hb dX11_net_21 rfl hl (by decide) rfl (fun ls hl => ?_)
      refine lv_iconst (v := 0) hx hb dX11_net_22 (by decide) ?_
      refine gx_ti (nI 0) (by decide) ?_
      refine lv_istore_n (lv' := [(3, .int (nI 0)), (2, .int (bZ (decide (mS M 19 = 0) || decide (mI M 17 i ≠ 0)))), (0, .ref (s0.heap.size + 104)), (1, .int (nI i))]) hx hb dX11_net_23 rfl hl (by decide) rfl (fun ls hl => ?_)
      exact key1 13 0 _ _ _ (by omega) (by omega) (lv_sub hl [1, 0, 2, 3] rfl) hL (by rw [m_wr_0]; exact hR)
set_option maxHeartbeats 4000000 in
set_option maxRecDepth 100000 in
/-- item -/
theorem ct_X11_item {l : Launch} {s0 : State} {D : va_G} {DA : Nat → ClassId} {z0 : Nat} {C : CS} {M : MS} {o : Int64} {H : Heap} (hE : G0 l s0 D DA z0) (hR : RR s0 D DA z0 C M o H) (i r z d q : Int32) : Met l yX11_item (ws_ yX11_item cX11_item 7 none) ({ frames := 2, cells := 0, slots := 0, locals := 42 }) (cP s0 [.ref (s0.heap.size + 104), .int i, .int r, .int z, .int d, .int q] H) (cQ0 (fun H1 => RR s0 D DA z0 C (m_item M i r z d q) o H1)) 0 0 (cF s0) := by
  refine Met.ofW (cc := cX11_item) (maxL := 7) (ret := none) (by decide) rfl ?_
  intro p e s m args below meth c s₁ Bd hml hv
  obtain ⟨rfl, rfl, hW0⟩ := hv
  have hx := Bd.exec
  have hb := Bd.bytes
  have hr := Bd.returns
  have hts := atoms_spec (ws := (ws_ yX11_item cX11_item 7 none)) Bd.pre
  have hts : ∀ w ∈ lw_all, w.before _ s = true := fun w h => hts w (List.mem_cons_of_mem _ h)
  have hown : s.vm.findClass RX11 = some m.cls := findClass_of_methodNamed Bd.named
  have hlocks := Bd.notSynchronized
  have hK := va_K.moved hW0.alike hE.K
  have hL : gx_L s0.heap.size ([] : List Loc) := gx_L0
  obtain ⟨Y, hR⟩ := hR
  have hl := lv_entry ([.ref (s0.heap.size + 104), .int i, .int r, .int z, .int d, .int q]) (n := 7) (Nat.le_of_ble_eq_true rfl)
  rw [lg_entry_eq]
  generalize (lg_sl ([.ref (s0.heap.size + 104), .int i, .int r, .int z, .int d, .int q]) ++ List.replicate (7 - (lg_sl ([.ref (s0.heap.size + 104), .int i, .int r, .int z, .int d, .int q])).length) Slot.unset).toArray = ls at hl ⊢
  have hl : lv_has ls 7 [(0, .ref (s0.heap.size + 104)), (1, .int i), (2, .int r), (3, .int z), (4, .int d), (5, .int q)] := hl
  have j47 : ∀ (locs : List Loc) (ls : Array Slot), lv_has ls 7 [(0, .ref (s0.heap.size + 104)), (1, .int i), (2, .int r), (3, .int z), (4, .int d), (5, .int q)] → gx_L s0.heap.size locs → W p l e (headSpec (ws_ yX11_item cX11_item 7 none) ({ frames := 2, cells := 0, slots := 0, locals := 42 })).room s m ([.ref (s0.heap.size + 104), .int i, .int r, .int z, .int d, .int q] : List Value).toArray below meth c s.heap locs 0 0 (MQ below (cQ0 (fun H1 => RR s0 D DA z0 C (m_item M i r z d q) o H1)) ([.ref (s0.heap.size + 104), .int i, .int r, .int z, .int d, .int q] : List Value).toArray s 0 0 (cF s0)) (F0 m 47 ls [.int (bZ (inR r 0 3 && inR z 1 1000 && inR d 0 4 && inR q 0 1000))]) := by
    intro locs ls hl hL
    refine lv_istore (lv' := [(6, .int (bZ (inR r 0 3 && inR z 1 1000 && inR d 0 4 && inR q 0 1000))), (0, .ref (s0.heap.size + 104)), (1, .int i), (2, .int r), (3, .int z), (4, .int d), (5, .int q)]) hx hb dX11_item_47 hl (by decide) rfl (fun ls hl => ?_)
    refine lv_aload_n hx hb dX11_item_49 rfl (lv_at hl 1 rfl) ?_
    refine lv_iload_n hx hb dX11_item_50 rfl (lv_at hl 2 rfl) ?_
    refine cc_v (va_runS (As := [.int i]) (rest := [.ref (s0.heap.size + 104)]) ⟨hx, hb, hml, hown, hts⟩ (ct_X11_isTwelve hE i) (va_cwS 1 hts (lw_S q980 q981 q61 q982) rfl rfl rfl (by decide +kernel) ⟨Nat.le_of_ble_eq_true rfl, Nat.le_of_ble_eq_true rfl⟩) (cc_pS hW0) rfl rfl hl.1 rfl (lv_room (Nat.le_of_ble_eq_true rfl)) dX11_item_51 ⟨Nat.le_of_ble_eq_true rfl, Nat.le_of_ble_eq_true rfl⟩) hL (fun H locs hP1 hL => ?_)
    subst hP1
    refine lv_if_ne (tgt := 61) hx hb dX11_item_54 (by decide) (fun c54 => ?_) (fun c54 => ?_)
    · obtain ⟨k, hk, rfl⟩ := in12_t (bZ_1.mp c54)
      refine lv_iload hx hb dX11_item_61 (lv_at hl 0 rfl) ?_
      refine lv_if_ne (tgt := 70) hx hb dX11_item_63 (by decide) (fun c63 => ?_) (fun c63 => ?_)
      · refine lv_iconst (v := 0) hx hb dX11_item_70 (by decide) ?_
        refine cc_v (va_runV (b := s0.heap.size + 104) (As := [.int 0]) (rest := []) ⟨hx, hb, hml, hown, hts⟩ (ct_X11_refused hE ⟨_, hR⟩ 0) (cwV 1 hts (lw_V q983 q985 qs23 q61 q986) rfl rfl rfl (by decide +kernel) ⟨Nat.le_of_ble_eq_true rfl, Nat.le_of_ble_eq_true rfl⟩) (cc_pV hW0 (cc_re hK hR.mo (show gcl[10]? = _ from rfl))) rfl rfl hl.1 rfl (lv_room (Nat.le_of_ble_eq_true rfl)) dX11_item_71 ⟨Nat.le_of_ble_eq_true rfl, Nat.le_of_ble_eq_true rfl⟩) hL (fun H locs hP1 hL => ?_)
        obtain ⟨Y, hR⟩ := hP1
        refine lv_if_ne (tgt := 112) hx hb dX11_item_74 (by decide) (fun c74 => ?_) (fun c74 => ?_)
        · exact absurd c74 (by decide)
        · refine lv_aload_n hx hb dX11_item_77 rfl (lv_at hl 1 rfl) ?_
          refine gx_get (D := D) (cl := gcl) (ci := 10) (v := .ref (mad s0.heap.size 0)) (C := RX11) (T := TX11) (N := 27) hx hb hts in_X11 hown hK hR.mo rfl 1 (by decide) (hts _ q887) (fun _ h9 => h9) rfl dX11_item_78 ?_
          refine lv_iload_n hx hb dX11_item_81 rfl (lv_at hl 2 rfl) ?_
          refine lv_iload_n hx hb dX11_item_82 rfl (lv_at hl 3 rfl) ?_
          refine gx_iast (n := 12) hx hb hK 1 (hR.mia 0 (by decide)) rfl k (rfl) (by omega) (by decide) hL (by (try simp only [aI, aA, aT, aB, aL, mad]); omega) dX11_item_83 (fun H locs hU hA hL => ?_)
          have hR := GRb.pMI (j := 0) (by decide) hR hU hA
          refine lv_aload_n hx hb dX11_item_84 rfl (lv_at hl 1 rfl) ?_
          refine gx_get (D := D) (cl := gcl) (ci := 10) (v := .ref (mad s0.heap.size 1)) (C := RX11) (T := TX11) (N := 27) hx hb hts in_X11 hown hK hR.mo rfl 2 (by decide) (hts _ q888) (fun _ h9 => h9) rfl dX11_item_85 ?_
          refine lv_iload_n hx hb dX11_item_88 rfl (lv_at hl 2 rfl) ?_
          refine lv_iload_n hx hb dX11_item_89 rfl (lv_at hl 4 rfl) ?_
          refine gx_iast (n := 12) hx hb hK 1 (hR.mia 1 (by decide)) rfl k (rfl) (by omega) (by decide) hL (by (try simp only [aI, aA, aT, aB, aL, mad]); omega) dX11_item_90 (fun H locs hU hA hL => ?_)
          have hR := GRb.pMI (j := 1) (by decide) hR hU hA
          refine lv_aload_n hx hb dX11_item_91 rfl (lv_at hl 1 rfl) ?_
          refine gx_get (D := D) (cl := gcl) (ci := 10) (v := .ref (mad s0.heap.size 2)) (C := RX11) (T := TX11) (N := 27) hx hb hts in_X11 hown hK hR.mo rfl 3 (by decide) (hts _ q889) (fun _ h9 => h9) rfl dX11_item_92 ?_
          refine lv_iload_n hx hb dX11_item_95 rfl (lv_at hl 2 rfl) ?_
          refine lv_iload hx hb dX11_item_96 (lv_at hl 5 rfl) ?_
          refine gx_iast (n := 12) hx hb hK 1 (hR.mia 2 (by decide)) rfl k (rfl) (by omega) (by decide) hL (by (try simp only [aI, aA, aT, aB, aL, mad]); omega) dX11_item_98 (fun H locs hU hA hL => ?_)
          have hR := GRb.pMI (j := 2) (by decide) hR hU hA
          refine lv_aload_n hx hb dX11_item_99 rfl (lv_at hl 1 rfl) ?_
          refine gx_get (D := D) (cl := gcl) (ci := 10) (v := .ref (mad s0.heap.size 3)) (C := RX11) (T := TX11) (N := 27) hx hb hts in_X11 hown hK hR.mo rfl 4 (by decide) (hts _ q890) (fun _ h9 => h9) rfl dX11_item_100 ?_
          refine lv_iload_n hx hb dX11_item_103 rfl (lv_at hl 2 rfl) ?_
          refine lv_iload hx hb dX11_item_104 (lv_at hl 6 rfl) ?_
          refine gx_iast (n := 12) hx hb hK 1 (hR.mia 3 (by decide)) rfl k (rfl) (by omega) (by decide) hL (by (try simp only [aI, aA, aT, aB, aL, mad]); omega) dX11_item_106 (fun H locs hU hA hL => ?_)
          have hR := GRb.pMI (j := 3) (by decide) hR hU hA
          refine lv_aload_n hx hb dX11_item_107 rfl (lv_at hl 1 rfl) ?_
          refine lv_iload_n hx hb dX11_item_108 rfl (lv_at hl 2 rfl) ?_
          refine cc_0 (va_runV (b := s0.heap.size + 104) (As := [.int (nI k)]) (rest := []) ⟨hx, hb, hml, hown, hts⟩ (ct_X11_tell hE ⟨_, hR⟩ k hk) (cwV 1 hts (lw_V q987 q989 qs24 q61 q990) rfl rfl rfl (by decide +kernel) ⟨Nat.le_of_ble_eq_true rfl, Nat.le_of_ble_eq_true rfl⟩) (cc_pV hW0 (cc_re hK hR.mo (show gcl[10]? = _ from rfl))) rfl rfl hl.1 rfl (lv_room (Nat.le_of_ble_eq_true rfl)) dX11_item_109 ⟨Nat.le_of_ble_eq_true rfl, Nat.le_of_ble_eq_true rfl⟩) hL (fun H locs hP1 hL => ?_)
          obtain ⟨Y, hR⟩ := hP1
          exact W.vret hx hb hr (fun t ht hW => ⟨rfl, by rw [ht]; exact (RR_M (m_item_0 hk (bZ_1.mp c63)) ⟨_, hR⟩)⟩) hL dX11_item_112
      · refine lv_iconst (v := 2) hx hb dX11_item_66 (by decide) ?_
        refine lv_goto (tgt := 71) hx hb dX11_item_67 (by decide) ?_
        refine cc_v (va_runV (b := s0.heap.size + 104) (As := [.int 2]) (rest := []) ⟨hx, hb, hml, hown, hts⟩ (ct_X11_refused hE ⟨_, hR⟩ 2) (cwV 1 hts (lw_V q983 q985 qs23 q61 q986) rfl rfl rfl (by decide +kernel) ⟨Nat.le_of_ble_eq_true rfl, Nat.le_of_ble_eq_true rfl⟩) (cc_pV hW0 (cc_re hK hR.mo (show gcl[10]? = _ from rfl))) rfl rfl hl.1 rfl (lv_room (Nat.le_of_ble_eq_true rfl)) dX11_item_71 ⟨Nat.le_of_ble_eq_true rfl, Nat.le_of_ble_eq_true rfl⟩) hL (fun H locs hP1 hL => ?_)
        obtain ⟨Y, hR⟩ := hP1
        refine lv_if_ne (tgt := 112) hx hb dX11_item_74 (by decide) (fun c74 => ?_) (fun c74 => ?_)
        · exact W.vret hx hb hr (fun t ht hW => ⟨rfl, by rw [ht]; exact (RR_M (m_item_2 (in12_n hk) (bZ_0.mp c63)) ⟨_, hR⟩)⟩) hL dX11_item_112
        · exact absurd c74 (by decide)
    · refine lv_iconst (v := 1) hx hb dX11_item_57 (by decide) ?_
      refine lv_goto (tgt := 71) hx hb dX11_item_58 (by decide) ?_
      refine cc_v (va_runV (b := s0.heap.size + 104) (As := [.int 1]) (rest := []) ⟨hx, hb, hml, hown, hts⟩ (ct_X11_refused hE ⟨_, hR⟩ 1) (cwV 1 hts (lw_V q983 q985 qs23 q61 q986) rfl rfl rfl (by decide +kernel) ⟨Nat.le_of_ble_eq_true rfl, Nat.le_of_ble_eq_true rfl⟩) (cc_pV hW0 (cc_re hK hR.mo (show gcl[10]? = _ from rfl))) rfl rfl hl.1 rfl (lv_room (Nat.le_of_ble_eq_true rfl)) dX11_item_71 ⟨Nat.le_of_ble_eq_true rfl, Nat.le_of_ble_eq_true rfl⟩) hL (fun H locs hP1 hL => ?_)
      obtain ⟨Y, hR⟩ := hP1
      refine lv_if_ne (tgt := 112) hx hb dX11_item_74 (by decide) (fun c74 => ?_) (fun c74 => ?_)
      · exact W.vret hx hb hr (fun t ht hW => ⟨rfl, by rw [ht]; exact (RR_M (m_item_1 (bZ_0.mp c54)) ⟨_, hR⟩)⟩) hL dX11_item_112
      · exact absurd c74 (by decide)
  refine lv_iload_n hx hb dX11_item_0 rfl (lv_at hl 2 rfl) ?_
  refine lv_iconst (v := 0) hx hb dX11_item_1 (by decide) ?_
  refine lv_iconst (v := 3) hx hb dX11_item_2 (by decide) ?_
  refine cc_v (va_runS (As := [.int r, .int 0, .int 3]) (rest := []) ⟨hx, hb, hml, hown, hts⟩ (ct_X11_isIn hE r 0 3) (va_cwS 3 hts (lw_S q977 q978 q61 q979) rfl rfl rfl (by decide +kernel) ⟨Nat.le_of_ble_eq_true rfl, Nat.le_of_ble_eq_true rfl⟩) (cc_pS hW0) rfl rfl hl.1 rfl (lv_room (Nat.le_of_ble_eq_true rfl)) dX11_item_3 ⟨Nat.le_of_ble_eq_true rfl, Nat.le_of_ble_eq_true rfl⟩) hL (fun H locs hP1 hL => ?_)
  subst hP1
  refine lv_if_eq (tgt := 46) hx hb dX11_item_6 (by decide) (fun c6 => ?_) (fun c6 => ?_)
  · refine lv_iconst (v := 0) hx hb dX11_item_46 (by decide) ?_
    refine gx_ti (bZ (inR r 0 3 && inR z 1 1000 && inR d 0 4 && inR q 0 1000)) ((bZ_f (by simp [bZ_0.mp c6])).symm) ?_
    exact j47 _ _ (lv_sub hl [0, 1, 2, 3, 4, 5] rfl) hL
  · refine lv_iload_n hx hb dX11_item_9 rfl (lv_at hl 3 rfl) ?_
    refine lv_iconst (v := 1) hx hb dX11_item_10 (by decide) ?_
    refine lv_sipush (v := 1000) hx hb dX11_item_11 (by decide) ?_
    refine cc_v (va_runS (As := [.int z, .int 1, .int 1000]) (rest := []) ⟨hx, hb, hml, hown, hts⟩ (ct_X11_isIn hE z 1 1000) (va_cwS 3 hts (lw_S q977 q978 q61 q979) rfl rfl rfl (by decide +kernel) ⟨Nat.le_of_ble_eq_true rfl, Nat.le_of_ble_eq_true rfl⟩) (cc_pS hW0) rfl rfl hl.1 rfl (lv_room (Nat.le_of_ble_eq_true rfl)) dX11_item_14 ⟨Nat.le_of_ble_eq_true rfl, Nat.le_of_ble_eq_true rfl⟩) hL (fun H locs hP1 hL => ?_)
    subst hP1
    refine lv_if_eq (tgt := 46) hx hb dX11_item_17 (by decide) (fun c17 => ?_) (fun c17 => ?_)
    · refine lv_iconst (v := 0) hx hb dX11_item_46 (by decide) ?_
      refine gx_ti (bZ (inR r 0 3 && inR z 1 1000 && inR d 0 4 && inR q 0 1000)) ((bZ_f (by simp [bZ_0.mp c17])).symm) ?_
      exact j47 _ _ (lv_sub hl [0, 1, 2, 3, 4, 5] rfl) hL
    · refine lv_iload hx hb dX11_item_20 (lv_at hl 4 rfl) ?_
      refine lv_iconst (v := 0) hx hb dX11_item_22 (by decide) ?_
      refine lv_iconst (v := 4) hx hb dX11_item_23 (by decide) ?_
      refine cc_v (va_runS (As := [.int d, .int 0, .int 4]) (rest := []) ⟨hx, hb, hml, hown, hts⟩ (ct_X11_isIn hE d 0 4) (va_cwS 3 hts (lw_S q977 q978 q61 q979) rfl rfl rfl (by decide +kernel) ⟨Nat.le_of_ble_eq_true rfl, Nat.le_of_ble_eq_true rfl⟩) (cc_pS hW0) rfl rfl hl.1 rfl (lv_room (Nat.le_of_ble_eq_true rfl)) dX11_item_24 ⟨Nat.le_of_ble_eq_true rfl, Nat.le_of_ble_eq_true rfl⟩) hL (fun H locs hP1 hL => ?_)
      subst hP1
      refine lv_if_eq (tgt := 46) hx hb dX11_item_27 (by decide) (fun c27 => ?_) (fun c27 => ?_)
      · refine lv_iconst (v := 0) hx hb dX11_item_46 (by decide) ?_
        refine gx_ti (bZ (inR r 0 3 && inR z 1 1000 && inR d 0 4 && inR q 0 1000)) ((bZ_f (by simp [bZ_0.mp c27])).symm) ?_
        exact j47 _ _ (lv_sub hl [0, 1, 2, 3, 4, 5] rfl) hL
      · refine lv_iload hx hb dX11_item_30 (lv_at hl 5 rfl) ?_
        refine lv_iconst (v := 0) hx hb dX11_item_32 (by decide) ?_
        refine lv_sipush (v := 1000) hx hb dX11_item_33 (by decide) ?_
        refine cc_v (va_runS (As := [.int q, .int 0, .int 1000]) (rest := []) ⟨hx, hb, hml, hown, hts⟩ (ct_X11_isIn hE q 0 1000) (va_cwS 3 hts (lw_S q977 q978 q61 q979) rfl rfl rfl (by decide +kernel) ⟨Nat.le_of_ble_eq_true rfl, Nat.le_of_ble_eq_true rfl⟩) (cc_pS hW0) rfl rfl hl.1 rfl (lv_room (Nat.le_of_ble_eq_true rfl)) dX11_item_36 ⟨Nat.le_of_ble_eq_true rfl, Nat.le_of_ble_eq_true rfl⟩) hL (fun H locs hP1 hL => ?_)
        subst hP1
        refine lv_if_eq (tgt := 46) hx hb dX11_item_39 (by decide) (fun c39 => ?_) (fun c39 => ?_)
        · refine lv_iconst (v := 0) hx hb dX11_item_46 (by decide) ?_
          refine gx_ti (bZ (inR r 0 3 && inR z 1 1000 && inR d 0 4 && inR q 0 1000)) ((bZ_f (by simp [bZ_0.mp c39])).symm) ?_
          exact j47 _ _ (lv_sub hl [0, 1, 2, 3, 4, 5] rfl) hL
        · refine lv_iconst (v := 1) hx hb dX11_item_42 (by decide) ?_
          refine lv_goto (tgt := 47) hx hb dX11_item_43 (by decide) ?_
          refine gx_ti (bZ (inR r 0 3 && inR z 1 1000 && inR d 0 4 && inR q 0 1000)) ((bZ_t (by simp [bZ_1.mp c6, bZ_1.mp c17, bZ_1.mp c27, bZ_1.mp c39])).symm) ?_
          exact j47 _ _ (lv_sub hl [0, 1, 2, 3, 4, 5] rfl) hL
