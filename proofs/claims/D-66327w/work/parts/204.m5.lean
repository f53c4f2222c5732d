set_option maxHeartbeats 4000000 in
set_option maxRecDepth 100000 in
/-- findBest -/
theorem ct_X11_findBest {l : Launch} {s0 : State} {D : va_G} {DA : Nat → ClassId} {z0 : Nat} {C : CS} {M : MS} {o : Int64} {H : Heap} (hE : G0 l s0 D DA z0) (hR : RR s0 D DA z0 C M o H) {i : Nat} (hi : i < 12) (hC : MC M) : Met l yX11_findBest (ws_ yX11_findBest cX11_findBest 4 none) ({ frames := 3, cells := 0, slots := 0, locals := 71 }) (cP s0 [.ref (s0.heap.size + 104), .int (nI i)] H) (cQ0 (fun H1 => RR s0 D DA z0 C (m_fB M i) o H1)) 0 0 (cF s0) := by
  refine Met.ofW (cc := cX11_findBest) (maxL := 4) (ret := none) (by decide) rfl ?_
  intro p e s m args below meth c s₁ Bd hml hv
  obtain ⟨rfl, rfl, hW0⟩ := hv
  have hx := Bd.exec
  have hb := Bd.bytes
  have hr := Bd.returns
  have hts := atoms_spec (ws := (ws_ yX11_findBest cX11_findBest 4 none)) Bd.pre
  have hts : ∀ w ∈ lw_all, w.before _ s = true := fun w h => hts w (List.mem_cons_of_mem _ h)
  have hown : s.vm.findClass RX11 = some m.cls := findClass_of_methodNamed Bd.named
  have hlocks := Bd.notSynchronized
  have hK := va_K.moved hW0.alike hE.K
  have hL : gx_L s0.heap.size ([] : List Loc) := gx_L0
  obtain ⟨Y, hR⟩ := hR
  have hl := lv_entry ([.ref (s0.heap.size + 104), .int (nI i)]) (n := 4) (Nat.le_of_ble_eq_true rfl)
  rw [lg_entry_eq]
  generalize (lg_sl ([.ref (s0.heap.size + 104), .int (nI i)]) ++ List.replicate (4 - (lg_sl ([.ref (s0.heap.size + 104), .int (nI i)])).length) Slot.unset).toArray = ls at hl ⊢
  have hl : lv_has ls 4 [(0, .ref (s0.heap.size + 104)), (1, .int (nI i))] := hl
  have key : ∀ (n : Nat) (j : Nat) (H : Heap) (locs : List Loc) (ls : Array Slot), mLd M i ≤ j → j ≤ 12 → j < n → lv_has ls 4 [(2, .int (nm j)), (0, .ref (s0.heap.size + 104)), (1, .int (nI i))] → gx_L s0.heap.size locs → GRb s0.heap.size s0.heap D DA z0 Y C (m_sb M (p_bs (m_su M i) (m_ho M i) (m_nd M) (mL M 22) (12 - j))) o H → W p l e (headSpec (ws_ yX11_findBest cX11_findBest 4 none) ({ frames := 3, cells := 0, slots := 0, locals := 71 })).room s m ([.ref (s0.heap.size + 104), .int (nI i)] : List Value).toArray below meth c H locs 0 0 (MQ below (cQ0 (fun H1 => RR s0 D DA z0 C (m_fB M i) o H1)) ([.ref (s0.heap.size + 104), .int (nI i)] : List Value).toArray s 0 0 (cF s0)) (F0 m 11 ls []) := by
    intro n
    induction n with
    | zero =>
      intro j H locs ls hj1 hj2 hn hl hL hR
      omega
    | succ n ih =>
      intro j H locs ls hj1 hj2 hn hl hL hR
      have h4 := hC.l4 hi
      refine lv_iload_n hx hb dX11_findBest_11 rfl (lv_at hl 0 rfl) ?_
      refine lv_aload_n hx hb dX11_findBest_12 rfl (lv_at hl 1 rfl) ?_
      refine gx_get (D := D) (cl := gcl) (ci := 10) (v := .ref (mad s0.heap.size 2)) (C := RX11) (T := TX11) (N := 27) hx hb hts in_X11 hown hK hR.mo rfl 3 (by decide) (hts _ q889) (fun _ h9 => h9) rfl dX11_findBest_13 ?_
      refine lv_iload_n hx hb dX11_findBest_16 rfl (lv_at hl 2 rfl) ?_
      refine gx_iald (n := 12) hx hb hK 1 (hR.mia 2 (by decide)) rfl i (rfl) (by omega) (by decide) dX11_findBest_17 ?_
      refine gx_ti (nI (mLd M i)) (hC.ld hi) ?_
      refine lv_icmp_lt (tgt := 83) hx hb dX11_findBest_18 (by decide) (fun c18 => ?_) (fun c18 => ?_)
      · have hj : j = mLd M i := by have := (nm_lt (by omega) (by omega)).mp c18; omega
        subst hj
        exact W.vret hx hb hr (fun t ht hW => ⟨rfl, by rw [ht]; exact ⟨Y, hR⟩⟩) hL dX11_findBest_83
      · have hj : mLd M i < j := by have := mt (nm_lt (by omega) (by omega)).mpr c18; omega
        obtain ⟨v, rfl⟩ : ∃ v, j = v + 1 := ⟨j - 1, by omega⟩
        have hl : lv_has ls 4 [(2, .int (nI v)), (0, .ref (s0.heap.size + 104)), (1, .int (nI i))] := hl
        have hR : GRb s0.heap.size s0.heap D DA z0 Y C (m_sb M (p_bs (m_su M i) (m_ho M i) (m_nd M) (mL M 22) (12 - (v + 1)))) o H := hR
        have hff := p_lst_lt (p_f (m_su M i) (m_ho M i) (m_nd M) (p_bs (m_su M i) (m_ho M i) (m_nd M) (mL M 22) (12 - (v + 1))) v) (12 - v) (by omega)
        refine lv_aload_n hx hb dX11_findBest_21 rfl (lv_at hl 1 rfl) ?_
        refine lv_iload_n hx hb dX11_findBest_22 rfl (lv_at hl 2 rfl) ?_
        refine lv_iload_n hx hb dX11_findBest_23 rfl (lv_at hl 0 rfl) ?_
        refine cc_v (va_runV (b := s0.heap.size + 104) (As := [.int (nI i), .int (nI v)]) (rest := []) ⟨hx, hb, hml, hown, hts⟩ (ct_X11_lastOf (wk := v) hE ⟨_, hR⟩ hi (by omega)) (cwV 2 hts (lw_V q1081 q1083 qs38 q61 q1084) rfl rfl rfl (by decide +kernel) ⟨Nat.le_of_ble_eq_true rfl, Nat.le_of_ble_eq_true rfl⟩) (cc_pV hW0 (cc_re hK hR.mo (show gcl[10]? = _ from rfl))) rfl rfl hl.1 rfl (lv_room (Nat.le_of_ble_eq_true rfl)) dX11_findBest_24 ⟨Nat.le_of_ble_eq_true rfl, Nat.le_of_ble_eq_true rfl⟩) hL (fun H locs hP1 hL => ?_)
        subst hP1
        refine gx_ti (nI (v + (p_lst (p_f (m_su M i) (m_ho M i) (m_nd M) (p_bs (m_su M i) (m_ho M i) (m_nd M) (mL M 22) (12 - (v + 1))) v) (12 - v)))) (by unfold m_last p_last; rw [m_nd_c (M := M) (M' := m_sb M (p_bs (m_su M i) (m_ho M i) (m_nd M) (mL M 22) (12 - (v + 1)))) rfl]; rfl) ?_
        refine lv_istore_n (lv' := [(3, .int (nI (v + (p_lst (p_f (m_su M i) (m_ho M i) (m_nd M) (p_bs (m_su M i) (m_ho M i) (m_nd M) (mL M 22) (12 - (v + 1))) v) (12 - v))))), (2, .int (nI v)), (0, .ref (s0.heap.size + 104)), (1, .int (nI i))]) hx hb dX11_findBest_27 rfl hl (by decide) rfl (fun ls hl => ?_)
        refine lv_aload_n hx hb dX11_findBest_28 rfl (lv_at hl 2 rfl) ?_
        refine gx_get (D := D) (cl := gcl) (ci := 10) (v := .ref (mad s0.heap.size 22)) (C := RX11) (T := TX11) (N := 27) hx hb hts in_X11 hown hK hR.mo rfl 26 (by decide) (hts _ q912) (fun _ h9 => h9) rfl dX11_findBest_29 ?_
        refine lv_iload_n hx hb dX11_findBest_32 rfl (lv_at hl 1 rfl) ?_
        refine lv_aload_n hx hb dX11_findBest_33 rfl (lv_at hl 2 rfl) ?_
        refine lv_iload_n hx hb dX11_findBest_34 rfl (lv_at hl 1 rfl) ?_
        refine cc_v (va_runV (b := s0.heap.size + 104) (As := [.int (nI v)]) (rest := [.int (nI v), .ref (mad s0.heap.size 22)]) ⟨hx, hb, hml, hown, hts⟩ (ct_X11_needOf hE ⟨_, hR⟩ (v + 1) (by omega)) (cwV 1 hts (lw_V q1089 q1091 qs40 q61 q1092) rfl rfl rfl (by decide +kernel) ⟨Nat.le_of_ble_eq_true rfl, Nat.le_of_ble_eq_true rfl⟩) (cc_pV hW0 (cc_re hK hR.mo (show gcl[10]? = _ from rfl))) rfl rfl hl.1 rfl (lv_room (Nat.le_of_ble_eq_true rfl)) dX11_findBest_35 ⟨Nat.le_of_ble_eq_true rfl, Nat.le_of_ble_eq_true rfl⟩) hL (fun H locs hP1 hL => ?_)
        subst hP1
        refine gx_tl (m_nd M (v + 1)) (by rw [m_nd_c (M := M) (M' := m_sb M (p_bs (m_su M i) (m_ho M i) (m_nd M) (mL M 22) (12 - (v + 1)))) rfl]) ?_
        refine lv_aload_n hx hb dX11_findBest_38 rfl (lv_at hl 2 rfl) ?_
        refine lv_iload_n hx hb dX11_findBest_39 rfl (lv_at hl 1 rfl) ?_
        refine lv_iconst (v := 1) hx hb dX11_findBest_40 (by decide) ?_
        refine lv_isub hx hb dX11_findBest_41 ?_
        refine gx_ti (nm v) (nm_s v) ?_
        refine cc_v (va_runV (b := s0.heap.size + 104) (As := [.int (nm v)]) (rest := [.long (m_nd M (v + 1)), .int (nI v), .ref (mad s0.heap.size 22)]) ⟨hx, hb, hml, hown, hts⟩ (ct_X11_needOf hE ⟨_, hR⟩ v (by omega)) (cwV 1 hts (lw_V q1089 q1091 qs40 q61 q1092) rfl rfl rfl (by decide +kernel) ⟨Nat.le_of_ble_eq_true rfl, Nat.le_of_ble_eq_true rfl⟩) (cc_pV hW0 (cc_re hK hR.mo (show gcl[10]? = _ from rfl))) rfl rfl hl.1 rfl (lv_room (Nat.le_of_ble_eq_true rfl)) dX11_findBest_42 ⟨Nat.le_of_ble_eq_true rfl, Nat.le_of_ble_eq_true rfl⟩) hL (fun H locs hP1 hL => ?_)
        subst hP1
        refine gx_tl (m_nd M v) (by rw [m_nd_c (M := M) (M' := m_sb M (p_bs (m_su M i) (m_ho M i) (m_nd M) (mL M 22) (12 - (v + 1)))) rfl]) ?_
        refine gx_lc_ne (tgt := 60) (pc1 := 46) hx hb rfl dX11_findBest_45 dX11_findBest_46 (by decide) (fun c46 => ?_) (fun c46 => ?_)
        · refine lv_aload_n hx hb dX11_findBest_60 rfl (lv_at hl 2 rfl) ?_
          refine lv_iload_n hx hb dX11_findBest_61 rfl (lv_at hl 3 rfl) ?_
          refine lv_iload_n hx hb dX11_findBest_62 rfl (lv_at hl 1 rfl) ?_
          refine lv_iload_n hx hb dX11_findBest_63 rfl (lv_at hl 0 rfl) ?_
          refine cc_v (va_runV (b := s0.heap.size + 104) (As := [.int (nI i), .int (nI v), .int (nI (v + (p_lst (p_f (m_su M i) (m_ho M i) (m_nd M) (p_bs (m_su M i) (m_ho M i) (m_nd M) (mL M 22) (12 - (v + 1))) v) (12 - v))))]) (rest := [.int (nI v), .ref (mad s0.heap.size 22)]) ⟨hx, hb, hml, hown, hts⟩ (ct_X11_cost (nn := (p_lst (p_f (m_su M i) (m_ho M i) (m_nd M) (p_bs (m_su M i) (m_ho M i) (m_nd M) (mL M 22) (12 - (v + 1))) v) (12 - v))) (wk := v) hE ⟨_, hR⟩ hi (by omega)) (cwV 3 hts (lw_V q1085 q1087 qs39 q61 q1088) rfl rfl rfl (by decide +kernel) ⟨Nat.le_of_ble_eq_true rfl, Nat.le_of_ble_eq_true rfl⟩) (cc_pV hW0 (cc_re hK hR.mo (show gcl[10]? = _ from rfl))) rfl rfl hl.1 rfl (lv_room (Nat.le_of_ble_eq_true rfl)) dX11_findBest_64 ⟨Nat.le_of_ble_eq_true rfl, Nat.le_of_ble_eq_true rfl⟩) hL (fun H locs hP1 hL => ?_)
          subst hP1
          refine gx_tl (p_cost (m_su M i) (m_ho M i) (m_nd M) v (p_lst (p_f (m_su M i) (m_ho M i) (m_nd M) (p_bs (m_su M i) (m_ho M i) (m_nd M) (mL M 22) (12 - (v + 1))) v) (12 - v))) (by rw [m_nd_c (M := M) (M' := m_sb M (p_bs (m_su M i) (m_ho M i) (m_nd M) (mL M 22) (12 - (v + 1)))) rfl]; rfl) ?_
          refine lv_aload_n hx hb dX11_findBest_67 rfl (lv_at hl 2 rfl) ?_
          refine gx_get (D := D) (cl := gcl) (ci := 10) (v := .ref (mad s0.heap.size 22)) (C := RX11) (T := TX11) (N := 27) hx hb hts in_X11 hown hK hR.mo rfl 26 (by decide) (hts _ q912) (fun _ h9 => h9) rfl dX11_findBest_68 ?_
          refine lv_iload_n hx hb dX11_findBest_71 rfl (lv_at hl 0 rfl) ?_
          refine lv_iconst (v := 1) hx hb dX11_findBest_72 (by decide) ?_
          refine lv_iadd hx hb dX11_findBest_73 ?_
          refine gx_ti (nI (v + (p_lst (p_f (m_su M i) (m_ho M i) (m_nd M) (p_bs (m_su M i) (m_ho M i) (m_nd M) (mL M 22) (12 - (v + 1))) v) (12 - v)) + 1)) (nI_add (v + (p_lst (p_f (m_su M i) (m_ho M i) (m_nd M) (p_bs (m_su M i) (m_ho M i) (m_nd M) (mL M 22) (12 - (v + 1))) v) (12 - v))) 1) ?_
          refine gx_lald (n := 13) hx hb hK 0 (hR.mla 22 (by decide) (by decide)) rfl (v + (p_lst (p_f (m_su M i) (m_ho M i) (m_nd M) (p_bs (m_su M i) (m_ho M i) (m_nd M) (mL M 22) (12 - (v + 1))) v) (12 - v)) + 1) (rfl) (by omega) (by decide) dX11_findBest_74 ?_
          refine lv_ladd hx hb dX11_findBest_75 ?_
          refine gx_tl (p_bv (m_su M i) (m_ho M i) (m_nd M) (p_bs (m_su M i) (m_ho M i) (m_nd M) (mL M 22) (12 - (v + 1))) v) (by rw [p_bv, if_neg c46]; rfl) ?_
          refine gx_last (n := 13) hx hb hK 0 (hR.mla 22 (by decide) (by decide)) rfl v (rfl) (by omega) (by decide) hL (by (try simp only [aI, aA, aT, aB, aL, mad]); omega) dX11_findBest_76 (fun H locs hU hA hL => ?_)
          have hR := GRb.pML (j := 22) (by decide) (by decide) hR hU hA
          have hR := GR_M (M := (mI (m_sb M (p_bs (m_su M i) (m_ho M i) (m_nd M) (mL M 22) (12 - (v + 1)))), up2 (mL (m_sb M (p_bs (m_su M i) (m_ho M i) (m_nd M) (mL M 22) (12 - (v + 1))))) 22 v (p_bv (m_su M i) (m_ho M i) (m_nd M) (p_bs (m_su M i) (m_ho M i) (m_nd M) (mL M 22) (12 - (v + 1))) v), mS (m_sb M (p_bs (m_su M i) (m_ho M i) (m_nd M) (mL M 22) (12 - (v + 1)))))) (M' := m_sb M (p_bs (m_su M i) (m_ho M i) (m_nd M) (mL M 22) (12 - v))) ((m_sb_u M (p_bs (m_su M i) (m_ho M i) (m_nd M) (mL M 22) (12 - (v + 1))) v _).trans (congrArg (m_sb M) (p_bs_v _ _ _ _ (by omega)))) hR
          refine lv_iinc (v := nm v) (lv' := [(2, .int (nm v)), (3, .int (nI (v + (p_lst (p_f (m_su M i) (m_ho M i) (m_nd M) (p_bs (m_su M i) (m_ho M i) (m_nd M) (mL M 22) (12 - (v + 1))) v) (12 - v))))), (0, .ref (s0.heap.size + 104)), (1, .int (nI i))]) hx hb dX11_findBest_77 hl (k := 1) rfl (nm_m1 v) (by decide) rfl (fun ls hl => ?_)
          refine lv_goto (tgt := 11) hx hb dX11_findBest_80 (by decide) ?_
          exact ih v _ _ _ (by omega) (by omega) (by omega) (lv_sub hl [0, 2, 3] rfl) hL hR
        · refine lv_aload_n hx hb dX11_findBest_49 rfl (lv_at hl 2 rfl) ?_
          refine gx_get (D := D) (cl := gcl) (ci := 10) (v := .ref (mad s0.heap.size 22)) (C := RX11) (T := TX11) (N := 27) hx hb hts in_X11 hown hK hR.mo rfl 26 (by decide) (hts _ q912) (fun _ h9 => h9) rfl dX11_findBest_50 ?_
          refine lv_iload_n hx hb dX11_findBest_53 rfl (lv_at hl 1 rfl) ?_
          refine lv_iconst (v := 1) hx hb dX11_findBest_54 (by decide) ?_
          refine lv_iadd hx hb dX11_findBest_55 ?_
          refine gx_ti (nI (v + 1)) (nI_add v 1) ?_
          refine gx_lald (n := 13) hx hb hK 0 (hR.mla 22 (by decide) (by decide)) rfl (v + 1) (rfl) (by omega) (by decide) dX11_findBest_56 ?_
          refine lv_goto (tgt := 76) hx hb dX11_findBest_57 (by decide) ?_
          refine gx_tl (p_bv (m_su M i) (m_ho M i) (m_nd M) (p_bs (m_su M i) (m_ho M i) (m_nd M) (mL M 22) (12 - (v + 1))) v) (by rw [p_bv, if_pos c46]; rfl) ?_
          refine gx_last (n := 13) hx hb hK 0 (hR.mla 22 (by decide) (by decide)) rfl v (rfl) (by omega) (by decide) hL (by (try simp only [aI, aA, aT, aB, aL, mad]); omega) dX11_findBest_76 (fun H locs hU hA hL => ?_)
          have hR := GRb.pML (j := 22) (by decide) (by decide) hR hU hA
          have hR := GR_M (M := (mI (m_sb M (p_bs (m_su M i) (m_ho M i) (m_nd M) (mL M 22) (12 - (v + 1)))), up2 (mL (m_sb M (p_bs (m_su M i) (m_ho M i) (m_nd M) (mL M 22) (12 - (v + 1))))) 22 v (p_bv (m_su M i) (m_ho M i) (m_nd M) (p_bs (m_su M i) (m_ho M i) (m_nd M) (mL M 22) (12 - (v + 1))) v), mS (m_sb M (p_bs (m_su M i) (m_ho M i) (m_nd M) (mL M 22) (12 - (v + 1)))))) (M' := m_sb M (p_bs (m_su M i) (m_ho M i) (m_nd M) (mL M 22) (12 - v))) ((m_sb_u M (p_bs (m_su M i) (m_ho M i) (m_nd M) (mL M 22) (12 - (v + 1))) v _).trans (congrArg (m_sb M) (p_bs_v _ _ _ _ (by omega)))) hR
          refine lv_iinc (v := nm v) (lv' := [(2, .int (nm v)), (3, .int (nI (v + (p_lst (p_f (m_su M i) (m_ho M i) (m_nd M) (p_bs (m_su M i) (m_ho M i) (m_nd M) (mL M 22) (12 - (v + 1))) v) (12 - v))))), (0, .ref (s0.heap.size + 104)), (1, .int (nI i))]) hx hb dX11_findBest_77 hl (k := 1) rfl (nm_m1 v) (by decide) rfl (fun ls hl => ?_)
          refine lv_goto (tgt := 11) hx hb dX11_findBest_80 (by decide) ?_
          exact ih v _ _ _ (by omega) (by omega) (by omega) (lv_sub hl [0, 2, 3] rfl) hL hR
  have h4 := hC.l4 hi
  refine lv_aload_n hx hb dX11_findBest_0 rfl (lv_at hl 0 rfl) ?_
  refine gx_get (D := D) (cl := gcl) (ci := 10) (v := .ref (mad s0.heap.size 22)) (C := RX11) (T := TX11) (N := 27) hx hb hts in_X11 hown hK hR.mo rfl 26 (by decide) (hts _ q912) (fun _ h9 => h9) rfl dX11_findBest_1 ?_
  refine lv_bipush (v := 12) hx hb dX11_findBest_4 (by decide) ?_
  refine lv_lconst (v := 0) hx hb dX11_findBest_6 (by decide) ?_
  refine gx_last (n := 13) hx hb hK 0 (hR.mla 22 (by decide) (by decide)) rfl 12 ((by decide)) (by omega) (by decide) hL (by (try simp only [aI, aA, aT, aB, aL, mad]); omega) dX11_findBest_7 (fun H locs hU hA hL => ?_)
  have hR := GRb.pML (j := 22) (by decide) (by decide) hR hU hA
  have hR := GR_M (M := (mI M, up2 (mL M) 22 12 0, mS M)) (M' := m_sb M (p_bs (m_su M i) (m_ho M i) (m_nd M) (mL M 22) (12 - 12))) (by rw [show 12 - 12 = 0 from rfl]; exact m_sb_0 M 12 0) hR
  refine lv_bipush (v := 11) hx hb dX11_findBest_8 (by decide) ?_
  refine gx_ti (nm 12) (by decide) ?_
  refine lv_istore_n (lv' := [(2, .int (nm 12)), (0, .ref (s0.heap.size + 104)), (1, .int (nI i))]) hx hb dX11_findBest_10 rfl hl (by decide) rfl (fun ls hl => ?_)
  exact key 13 12 _ _ _ (by omega) (by omega) (by omega) (lv_sub hl [0, 1, 2] rfl) hL hR
set_option maxHeartbeats 4000000 in
set_option maxRecDepth 100000 in
/-- lot -/
theorem ct_X11_lot {l : Launch} {s0 : State} {D : va_G} {DA : Nat → ClassId} {z0 : Nat} {C : CS} {M : MS} {o : Int64} {H : Heap} (hE : G0 l s0 D DA z0) (hR : RR s0 D DA z0 C M o H) {i wk : Nat} {got : Int64} (hi : i < 12) (hw : wk < 12) (hC : MC M) : Met l yX11_lot (ws_ yX11_lot cX11_lot 7 (some .long)) ({ frames := 3, cells := 0, slots := 0, locals := 71 }) (cP s0 [.ref (s0.heap.size + 104), .int (nI i), .int (nI wk), .long got] H) (cQv (.long (m_lot M i wk got)) (fun H1 => H1 = H)) 0 0 (cF s0) := by
  refine Met.ofW (cc := cX11_lot) (maxL := 7) (ret := (some .long)) (by decide) rfl ?_
  intro p e s m args below meth c s₁ Bd hml hv
  obtain ⟨rfl, rfl, hW0⟩ := hv
  have hx := Bd.exec
  have hb := Bd.bytes
  have hr := Bd.returns
  have hts := atoms_spec (ws := (ws_ yX11_lot cX11_lot 7 (some .long))) Bd.pre
  have hts : ∀ w ∈ lw_all, w.before _ s = true := fun w h => hts w (List.mem_cons_of_mem _ h)
  have hown : s.vm.findClass RX11 = some m.cls := findClass_of_methodNamed Bd.named
  have hlocks := Bd.notSynchronized
  have hK := va_K.moved hW0.alike hE.K
  have hL : gx_L s0.heap.size ([] : List Loc) := gx_L0
  obtain ⟨Y, hR⟩ := hR
  have hl := lv_entry ([.ref (s0.heap.size + 104), .int (nI i), .int (nI wk), .long got]) (n := 7) (Nat.le_of_ble_eq_true rfl)
  rw [lg_entry_eq]
  generalize (lg_sl ([.ref (s0.heap.size + 104), .int (nI i), .int (nI wk), .long got]) ++ List.replicate (7 - (lg_sl ([.ref (s0.heap.size + 104), .int (nI i), .int (nI wk), .long got])).length) Slot.unset).toArray = ls at hl ⊢
  have hl : lv_has ls 7 [(0, .ref (s0.heap.size + 104)), (1, .int (nI i)), (2, .int (nI wk)), (3, .long got)] := hl
  refine lv_aload_n hx hb dX11_lot_0 rfl (lv_at hl 0 rfl) ?_
  refine gx_get (D := D) (cl := gcl) (ci := 10) (v := .ref (mad s0.heap.size 21)) (C := RX11) (T := TX11) (N := 27) hx hb hts in_X11 hown hK hR.mo rfl 25 (by decide) (hts _ q911) (fun _ h9 => h9) rfl dX11_lot_1 ?_
  refine lv_iload_n hx hb dX11_lot_4 rfl (lv_at hl 2 rfl) ?_
  refine gx_lald (n := 13) hx hb hK 0 (hR.mla 21 (by decide) (by decide)) rfl wk (rfl) (by omega) (by decide) dX11_lot_5 ?_
  refine lv_lload_n hx hb dX11_lot_6 rfl (lv_at hl 3 rfl) ?_
  refine lv_lsub hx hb dX11_lot_7 ?_
  refine gx_tl (m_nd M (wk + 1) - got) (rfl) ?_
  refine lv_lstore (lv' := [(5, .long (m_nd M (wk + 1) - got)), (0, .ref (s0.heap.size + 104)), (1, .int (nI i)), (2, .int (nI wk)), (3, .long got)]) hx hb dX11_lot_8 hl (by decide) rfl (fun ls hl => ?_)
  refine lv_aload_n hx hb dX11_lot_10 rfl (lv_at hl 1 rfl) ?_
  refine gx_get (D := D) (cl := gcl) (ci := 10) (v := .ref (mad s0.heap.size 0)) (C := RX11) (T := TX11) (N := 27) hx hb hts in_X11 hown hK hR.mo rfl 1 (by decide) (hts _ q887) (fun _ h9 => h9) rfl dX11_lot_11 ?_
  refine lv_iload_n hx hb dX11_lot_14 rfl (lv_at hl 2 rfl) ?_
  refine gx_iald (n := 12) hx hb hK 1 (hR.mia 0 (by decide)) rfl i (rfl) (by omega) (by decide) dX11_lot_15 ?_
  by_cases e0 : mI M 0 i = 0
  · refine gx_ti (0) (e0) ?_
    refine lv_tableIn (tgt := 44) hx hb dX11_lot_16 (by decide) (by decide) rfl (by decide) ?_
    refine lv_lload hx hb dX11_lot_44 (lv_at hl 0 rfl) ?_
    exact W.lret (v := (m_nd M (wk + 1) - got)) hx hb hr (fun t ht hW => ⟨ovJ (by rw [m_lot, p_lot, if_pos e0]), ht⟩) hL dX11_lot_46
  by_cases e1 : mI M 0 i = 1
  · refine gx_ti (1) (e1) ?_
    refine lv_tableIn (tgt := 47) hx hb dX11_lot_16 (by decide) (by decide) rfl (by decide) ?_
    refine lv_lload hx hb dX11_lot_47 (lv_at hl 0 rfl) ?_
    refine lv_aload_n hx hb dX11_lot_49 rfl (lv_at hl 1 rfl) ?_
    refine gx_get (D := D) (cl := gcl) (ci := 10) (v := .ref (mad s0.heap.size 1)) (C := RX11) (T := TX11) (N := 27) hx hb hts in_X11 hown hK hR.mo rfl 2 (by decide) (hts _ q888) (fun _ h9 => h9) rfl dX11_lot_50 ?_
    refine lv_iload_n hx hb dX11_lot_53 rfl (lv_at hl 2 rfl) ?_
    refine gx_iald (n := 12) hx hb hK 1 (hR.mia 1 (by decide)) rfl i (rfl) (by omega) (by decide) dX11_lot_54 ?_
    refine lv_i2l (v := (mI M 1 i).toInt64) hx hb dX11_lot_55 rfl ?_
    refine lv_ladd hx hb dX11_lot_56 ?_
    refine lv_lconst (v := 1) hx hb dX11_lot_57 (by decide) ?_
    refine lv_lsub hx hb dX11_lot_58 ?_
    refine lv_aload_n hx hb dX11_lot_59 rfl (lv_at hl 1 rfl) ?_
    refine gx_get (D := D) (cl := gcl) (ci := 10) (v := .ref (mad s0.heap.size 1)) (C := RX11) (T := TX11) (N := 27) hx hb hts in_X11 hown hK hR.mo rfl 2 (by decide) (hts _ q888) (fun _ h9 => h9) rfl dX11_lot_60 ?_
    refine lv_iload_n hx hb dX11_lot_63 rfl (lv_at hl 2 rfl) ?_
    refine gx_iald (n := 12) hx hb hK 1 (hR.mia 1 (by decide)) rfl i (rfl) (by omega) (by decide) dX11_lot_64 ?_
    refine lv_i2l (v := (mI M 1 i).toInt64) hx hb dX11_lot_65 rfl ?_
    refine lv_ldiv hx hb dX11_lot_66 (by rw [hC.sz hi]; exact sz_ne (hC.z1 hi) (hC.z2 hi)) ?_
    refine lv_aload_n hx hb dX11_lot_67 rfl (lv_at hl 1 rfl) ?_
    refine gx_get (D := D) (cl := gcl) (ci := 10) (v := .ref (mad s0.heap.size 1)) (C := RX11) (T := TX11) (N := 27) hx hb hts in_X11 hown hK hR.mo rfl 2 (by decide) (hts _ q888) (fun _ h9 => h9) rfl dX11_lot_68 ?_
    refine lv_iload_n hx hb dX11_lot_71 rfl (lv_at hl 2 rfl) ?_
    refine gx_iald (n := 12) hx hb hK 1 (hR.mia 1 (by decide)) rfl i (rfl) (by omega) (by decide) dX11_lot_72 ?_
    refine lv_i2l (v := (mI M 1 i).toInt64) hx hb dX11_lot_73 rfl ?_
    refine lv_lmul hx hb dX11_lot_74 ?_
    exact W.lret (v := (((((m_nd M (wk + 1) - got) + ((mI M 1 i).toInt64)) - 1) / ((mI M 1 i).toInt64)) * ((mI M 1 i).toInt64))) hx hb hr (fun t ht hW => ⟨ovJ (by rw [m_lot, p_lot, if_neg e0, if_pos e1]), ht⟩) hL dX11_lot_75
  by_cases e2 : mI M 0 i = 2
  · refine gx_ti (2) (e2) ?_
    refine lv_tableIn (tgt := 76) hx hb dX11_lot_16 (by decide) (by decide) rfl (by decide) ?_
    have z1 := hC.z1 hi
    have z2 := hC.z2 hi
    refine lv_aload_n hx hb dX11_lot_76 rfl (lv_at hl 1 rfl) ?_
    refine gx_get (D := D) (cl := gcl) (ci := 10) (v := .ref (mad s0.heap.size 21)) (C := RX11) (T := TX11) (N := 27) hx hb hts in_X11 hown hK hR.mo rfl 25 (by decide) (hts _ q911) (fun _ h9 => h9) rfl dX11_lot_77 ?_
    refine lv_iload_n hx hb dX11_lot_80 rfl (lv_at hl 3 rfl) ?_
    refine lv_aload_n hx hb dX11_lot_81 rfl (lv_at hl 1 rfl) ?_
    refine gx_get (D := D) (cl := gcl) (ci := 10) (v := .ref (mad s0.heap.size 1)) (C := RX11) (T := TX11) (N := 27) hx hb hts in_X11 hown hK hR.mo rfl 2 (by decide) (hts _ q888) (fun _ h9 => h9) rfl dX11_lot_82 ?_
    refine lv_iload_n hx hb dX11_lot_85 rfl (lv_at hl 2 rfl) ?_
    refine gx_iald (n := 12) hx hb hK 1 (hR.mia 1 (by decide)) rfl i (rfl) (by omega) (by decide) dX11_lot_86 ?_
    refine lv_iadd hx hb dX11_lot_87 ?_
    refine gx_ti (nI (wk + mSz M i)) (by rw [hC.sz hi]; exact nI_add _ _) ?_
    refine lv_iconst (v := 1) hx hb dX11_lot_88 (by decide) ?_
    refine lv_isub hx hb dX11_lot_89 ?_
    refine gx_ti (nI (wk + mSz M i - 1)) (pk_sub (b := 1) (by omega)) ?_
    refine lv_bipush (v := 12) hx hb dX11_lot_90 (by decide) ?_
    refine lv_icmp_ge (tgt := 108) hx hb dX11_lot_92 (by decide) (fun c92 => ?_) (fun c92 => ?_)
    · refine lv_bipush (v := 11) hx hb dX11_lot_108 (by decide) ?_
      refine gx_lald (n := 13) hx hb hK 0 (hR.mla 21 (by decide) (by decide)) rfl 11 (by decide) (by decide) (by decide) dX11_lot_110 ?_
      refine lv_lload_n hx hb dX11_lot_111 rfl (lv_at hl 4 rfl) ?_
      refine lv_lsub hx hb dX11_lot_112 ?_
      exact W.lret (v := ((mL M 21 11) - got)) hx hb hr (fun t ht hW => ⟨ovJ (by rw [m_lot, p_lot, if_neg e0, if_neg e1, if_pos e2]; show _ = m_nd M ((if wk + mSz M i - 1 < 12 then wk + mSz M i - 1 else 11) + 1) - got; rw [if_neg (by have := n_ge (b := 12) c92 (by omega) (by omega); exact Nat.not_lt.mpr this)]; rfl), ht⟩) hL dX11_lot_113
    · refine lv_iload_n hx hb dX11_lot_95 rfl (lv_at hl 3 rfl) ?_
      refine lv_aload_n hx hb dX11_lot_96 rfl (lv_at hl 1 rfl) ?_
      refine gx_get (D := D) (cl := gcl) (ci := 10) (v := .ref (mad s0.heap.size 1)) (C := RX11) (T := TX11) (N := 27) hx hb hts in_X11 hown hK hR.mo rfl 2 (by decide) (hts _ q888) (fun _ h9 => h9) rfl dX11_lot_97 ?_
      refine lv_iload_n hx hb dX11_lot_100 rfl (lv_at hl 2 rfl) ?_
      refine gx_iald (n := 12) hx hb hK 1 (hR.mia 1 (by decide)) rfl i (rfl) (by omega) (by decide) dX11_lot_101 ?_
      refine lv_iadd hx hb dX11_lot_102 ?_
      refine gx_ti (nI (wk + mSz M i)) (by rw [hC.sz hi]; exact nI_add _ _) ?_
      refine lv_iconst (v := 1) hx hb dX11_lot_103 (by decide) ?_
      refine lv_isub hx hb dX11_lot_104 ?_
      refine gx_ti (nI (wk + mSz M i - 1)) (pk_sub (b := 1) (by omega)) ?_
      refine lv_goto (tgt := 110) hx hb dX11_lot_105 (by decide) ?_
      refine gx_lald (n := 13) hx hb hK 0 (hR.mla 21 (by decide) (by decide)) rfl (wk + mSz M i - 1) (rfl) (by have := n_lt (b := 12) c92 (by omega) (by omega); omega) (by decide) dX11_lot_110 ?_
      refine lv_lload_n hx hb dX11_lot_111 rfl (lv_at hl 4 rfl) ?_
      refine lv_lsub hx hb dX11_lot_112 ?_
      exact W.lret (v := ((mL M 21 (wk + mSz M i - 1)) - got)) hx hb hr (fun t ht hW => ⟨ovJ (by rw [m_lot, p_lot, if_neg e0, if_neg e1, if_pos e2]; show _ = m_nd M ((if wk + mSz M i - 1 < 12 then wk + mSz M i - 1 else 11) + 1) - got; rw [if_pos (n_lt (b := 12) c92 (by omega) (by omega))]; rfl), ht⟩) hL dX11_lot_113
  refine lv_tableOut (tgt := 114) hx hb dX11_lot_16 (tab3 e0 e1 e2) (by decide) ?_
  refine lv_aload_n hx hb dX11_lot_114 rfl (lv_at hl 1 rfl) ?_
  refine gx_get (D := D) (cl := gcl) (ci := 10) (v := .ref (mad s0.heap.size 21)) (C := RX11) (T := TX11) (N := 27) hx hb hts in_X11 hown hK hR.mo rfl 25 (by decide) (hts _ q911) (fun _ h9 => h9) rfl dX11_lot_115 ?_
  refine lv_aload_n hx hb dX11_lot_118 rfl (lv_at hl 1 rfl) ?_
  refine lv_iload_n hx hb dX11_lot_119 rfl (lv_at hl 2 rfl) ?_
  refine lv_iload_n hx hb dX11_lot_120 rfl (lv_at hl 3 rfl) ?_
  refine cc_v (va_runV (b := s0.heap.size + 104) (As := [.int (nI i), .int (nI wk)]) (rest := [.ref (mad s0.heap.size 21)]) ⟨hx, hb, hml, hown, hts⟩ (ct_X11_lastOf hE ⟨_, hR⟩ hi hw) (cwV 2 hts (lw_V q1081 q1083 qs38 q61 q1084) rfl rfl rfl (by decide +kernel) ⟨Nat.le_of_ble_eq_true rfl, Nat.le_of_ble_eq_true rfl⟩) (cc_pV hW0 (cc_re hK hR.mo (show gcl[10]? = _ from rfl))) rfl rfl hl.1 rfl (lv_room (Nat.le_of_ble_eq_true rfl)) dX11_lot_121 ⟨Nat.le_of_ble_eq_true rfl, Nat.le_of_ble_eq_true rfl⟩) hL (fun H locs hP1 hL => ?_)
  subst hP1
  refine gx_lald (n := 13) hx hb hK 0 (hR.mla 21 (by decide) (by decide)) rfl (m_last M i wk) (rfl) (by have := m_last_lt M i hw; omega) (by decide) dX11_lot_124 ?_
  refine lv_lload_n hx hb dX11_lot_125 rfl (lv_at hl 4 rfl) ?_
  refine lv_lsub hx hb dX11_lot_126 ?_
  exact W.lret (v := ((mL M 21 (m_last M i wk)) - got)) hx hb hr (fun t ht hW => ⟨ovJ (by rw [m_lot, p_lot, if_neg e0, if_neg e1, if_neg e2]; rfl), ht⟩) hL dX11_lot_127
set_option maxHeartbeats 4000000 in
set_option maxRecDepth 100000 in
/-- plan -/
theorem ct_X11_plan {l : Launch} {s0 : State} {D : va_G} {DA : Nat → ClassId} {z0 : Nat} {C : CS} {M : MS} {o : Int64} {H : Heap} (hE : G0 l s0 D DA z0) (hR : RR s0 D DA z0 C M o H) {i : Nat} (hi : i < 12) (hC : MC M) : Met l yX11_plan (ws_ yX11_plan cX11_plan 7 none) ({ frames := 4, cells := 0, slots := 0, locals := 97 }) (cP s0 [.ref (s0.heap.size + 104), .int (nI i)] H) (cQ0 (fun H1 => RR s0 D DA z0 C (m_plan M i) o H1)) 0 0 (cF s0) := by
  refine Met.ofW (cc := cX11_plan) (maxL := 7) (ret := none) (by decide) rfl ?_
  intro p e s m args below meth c s₁ Bd hml hv
  obtain ⟨rfl, rfl, hW0⟩ := hv
  have hx := Bd.exec
  have hb := Bd.bytes
  have hr := Bd.returns
  have hts := atoms_spec (ws := (ws_ yX11_plan cX11_plan 7 none)) Bd.pre
  have hts : ∀ w ∈ lw_all, w.before _ s = true := fun w h => hts w (List.mem_cons_of_mem _ h)
  have hown : s.vm.findClass RX11 = some m.cls := findClass_of_methodNamed Bd.named
  have hlocks := Bd.notSynchronized
  have hK := va_K.moved hW0.alike hE.K
  have hL : gx_L s0.heap.size ([] : List Loc) := gx_L0
  obtain ⟨Y, hR⟩ := hR
  have hl := lv_entry ([.ref (s0.heap.size + 104), .int (nI i)]) (n := 7) (Nat.le_of_ble_eq_true rfl)
  rw [lg_entry_eq]
  generalize (lg_sl ([.ref (s0.heap.size + 104), .int (nI i)]) ++ List.replicate (7 - (lg_sl ([.ref (s0.heap.size + 104), .int (nI i)])).length) Slot.unset).toArray = ls at hl ⊢
  have hl : lv_has ls 7 [(0, .ref (s0.heap.size + 104)), (1, .int (nI i))] := hl
  have key : ∀ (n : Nat) (Y : YS) (k : Nat) (H : Heap) (locs : List Loc) (ls : Array Slot), k ≤ 12 → 12 < k + n → lv_has ls 7 [(2, .long (m_pg (m_fB (m_fN M i) i) i k)), (4, .int (nI k)), (0, .ref (s0.heap.size + 104)), (1, .int (nI i))] → gx_L s0.heap.size locs → GRb s0.heap.size s0.heap D DA z0 Y C (m_wr (m_fB (m_fN M i) i) 19 (12 * i) k (fun w => m_pq (m_fB (m_fN M i) i) i w (m_pg (m_fB (m_fN M i) i) i w))) o H → W p l e (headSpec (ws_ yX11_plan cX11_plan 7 none) ({ frames := 4, cells := 0, slots := 0, locals := 97 })).room s m ([.ref (s0.heap.size + 104), .int (nI i)] : List Value).toArray below meth c H locs 0 0 (MQ below (cQ0 (fun H1 => RR s0 D DA z0 C (m_plan M i) o H1)) ([.ref (s0.heap.size + 104), .int (nI i)] : List Value).toArray s 0 0 (cF s0)) (F0 m 15 ls []) := by
    intro n
    induction n with
    | zero =>
      intro Y k H locs ls hk hn hl hL hR
      omega
    | succ n ih =>
      intro Y k H locs ls hk hn hl hL hR
      have h4 := hC.l4 hi
      have hld2 : mLd (m_fB (m_fN M i) i) i = mLd M i := rfl
      refine lv_iload hx hb dX11_plan_15 (lv_at hl 1 rfl) ?_
      refine lv_bipush (v := 12) hx hb dX11_plan_17 (by decide) ?_
      refine lv_icmp_ge (tgt := 84) hx hb dX11_plan_19 (by decide) (fun c19 => ?_) (fun c19 => ?_)
      · have hkc : k = 12 := by have := n_ge (b := 12) c19 (by omega) (by omega); omega
        subst hkc
        exact W.vret hx hb hr (fun t ht hW => ⟨rfl, by rw [ht]; exact ⟨Y, hR⟩⟩) hL dX11_plan_84
      · have hkc : k < 12 := by have := n_lt (b := 12) c19 (by omega) (by omega); omega
        refine lv_iload hx hb dX11_plan_22 (lv_at hl 1 rfl) ?_
        refine lv_aload_n hx hb dX11_plan_24 rfl (lv_at hl 2 rfl) ?_
        refine gx_get (D := D) (cl := gcl) (ci := 10) (v := .ref (mad s0.heap.size 2)) (C := RX11) (T := TX11) (N := 27) hx hb hts in_X11 hown hK hR.mo rfl 3 (by decide) (hts _ q889) (fun _ h9 => h9) rfl dX11_plan_25 ?_
        refine lv_iload_n hx hb dX11_plan_28 rfl (lv_at hl 3 rfl) ?_
        refine gx_iald (n := 12) hx hb hK 1 (hR.mia 2 (by decide)) rfl i (rfl) (by omega) (by decide) dX11_plan_29 ?_
        refine gx_ti (nI (mLd M i)) (hC.ld hi) ?_
        refine lv_icmp_lt (tgt := 56) hx hb dX11_plan_30 (by decide) (fun c30 => ?_) (fun c30 => ?_)
        · refine lv_lconst (v := 0) hx hb dX11_plan_56 (by decide) ?_
          refine gx_tl (m_pq (m_fB (m_fN M i) i) i k (m_pg (m_fB (m_fN M i) i) i k)) ((if_neg (fun q => absurd q.1 (by have := n_gt c30 (by omega) (by omega); omega))).symm) ?_
          refine lv_lstore (lv' := [(5, .long (m_pq (m_fB (m_fN M i) i) i k (m_pg (m_fB (m_fN M i) i) i k))), (2, .long (m_pg (m_fB (m_fN M i) i) i k)), (4, .int (nI k)), (0, .ref (s0.heap.size + 104)), (1, .int (nI i))]) hx hb dX11_plan_57 hl (by decide) rfl (fun ls hl => ?_)
          refine lv_aload_n hx hb dX11_plan_59 rfl (lv_at hl 3 rfl) ?_
          refine gx_get (D := D) (cl := gcl) (ci := 10) (v := .ref (mad s0.heap.size 19)) (C := RX11) (T := TX11) (N := 27) hx hb hts in_X11 hown hK hR.mo rfl 23 (by decide) (hts _ q909) (fun _ h9 => h9) rfl dX11_plan_60 ?_
          refine lv_bipush (v := 12) hx hb dX11_plan_63 (by decide) ?_
          refine lv_iload_n hx hb dX11_plan_65 rfl (lv_at hl 4 rfl) ?_
          refine lv_imul hx hb dX11_plan_66 ?_
          refine gx_ti (nI (12 * i)) (pk_mul 12 i) ?_
          refine lv_iload hx hb dX11_plan_67 (lv_at hl 2 rfl) ?_
          refine lv_iadd hx hb dX11_plan_69 ?_
          refine gx_ti (nI (12 * i + k)) (nI_add (12 * i) k) ?_
          refine lv_lload hx hb dX11_plan_70 (lv_at hl 0 rfl) ?_
          refine gx_last (n := 144) hx hb hK 0 (hR.mla 19 (by decide) (by decide)) rfl (12 * i + k) (rfl) (by omega) (by decide) hL (by (try simp only [aI, aA, aT, aB, aL, mad]); omega) dX11_plan_72 (fun H locs hU hA hL => ?_)
          have hR := GRb.pML (j := 19) (by decide) (by decide) hR hU hA
          have hR := GR_M (M := (mI (m_wr (m_fB (m_fN M i) i) 19 (12 * i) k (fun w => m_pq (m_fB (m_fN M i) i) i w (m_pg (m_fB (m_fN M i) i) i w))), up2 (mL (m_wr (m_fB (m_fN M i) i) 19 (12 * i) k (fun w => m_pq (m_fB (m_fN M i) i) i w (m_pg (m_fB (m_fN M i) i) i w)))) 19 (12 * i + k) (m_pq (m_fB (m_fN M i) i) i k (m_pg (m_fB (m_fN M i) i) i k)), mS (m_wr (m_fB (m_fN M i) i) 19 (12 * i) k (fun w => m_pq (m_fB (m_fN M i) i) i w (m_pg (m_fB (m_fN M i) i) i w))))) (M' := m_wr (m_fB (m_fN M i) i) 19 (12 * i) (k + 1) (fun w => m_pq (m_fB (m_fN M i) i) i w (m_pg (m_fB (m_fN M i) i) i w))) (m_wr_s (m_fB (m_fN M i) i) 19 (12 * i) k (fun w => m_pq (m_fB (m_fN M i) i) i w (m_pg (m_fB (m_fN M i) i) i w))) hR
          refine lv_lload_n hx hb dX11_plan_73 rfl (lv_at hl 1 rfl) ?_
          refine lv_lload hx hb dX11_plan_74 (lv_at hl 0 rfl) ?_
          refine lv_ladd hx hb dX11_plan_76 ?_
          refine gx_tl (m_pg (m_fB (m_fN M i) i) i (k + 1)) (rfl) ?_
          refine lv_lstore_n (lv' := [(2, .long (m_pg (m_fB (m_fN M i) i) i (k + 1))), (5, .long (m_pq (m_fB (m_fN M i) i) i k (m_pg (m_fB (m_fN M i) i) i k))), (4, .int (nI k)), (0, .ref (s0.heap.size + 104)), (1, .int (nI i))]) hx hb dX11_plan_77 rfl hl (by decide) rfl (fun ls hl => ?_)
          refine lv_iinc (v := nI (k + 1)) (lv' := [(4, .int (nI (k + 1))), (2, .long (m_pg (m_fB (m_fN M i) i) i (k + 1))), (5, .long (m_pq (m_fB (m_fN M i) i) i k (m_pg (m_fB (m_fN M i) i) i k))), (0, .ref (s0.heap.size + 104)), (1, .int (nI i))]) hx hb dX11_plan_78 hl (k := 2) rfl (nI_1 k) (by decide) rfl (fun ls hl => ?_)
          refine lv_goto (tgt := 15) hx hb dX11_plan_81 (by decide) ?_
          exact ih Y (k + 1) _ _ _ (by omega) (by omega) (lv_sub hl [1, 0, 3, 4] rfl) hL hR
        · have hld : mLd (m_fB (m_fN M i) i) i ≤ k := n_le c30 (by omega) (by omega)
          refine lv_aload_n hx hb dX11_plan_33 rfl (lv_at hl 2 rfl) ?_
          refine gx_get (D := D) (cl := gcl) (ci := 10) (v := .ref (mad s0.heap.size 21)) (C := RX11) (T := TX11) (N := 27) hx hb hts in_X11 hown hK hR.mo rfl 25 (by decide) (hts _ q911) (fun _ h9 => h9) rfl dX11_plan_34 ?_
          refine lv_iload hx hb dX11_plan_37 (lv_at hl 1 rfl) ?_
          refine gx_lald (n := 13) hx hb hK 0 (hR.mla 21 (by decide) (by decide)) rfl k (rfl) (by omega) (by decide) dX11_plan_39 ?_
          refine gx_tl (m_nd (m_fB (m_fN M i) i) (k + 1)) (congrFun (m_wr_o (m_fB (m_fN M i) i) (j := 19) (j' := 21) (fun w => m_pq (m_fB (m_fN M i) i) i w (m_pg (m_fB (m_fN M i) i) i w)) (by decide)) k) ?_
          refine lv_lload_n hx hb dX11_plan_40 rfl (lv_at hl 0 rfl) ?_
          refine gx_lc_le (tgt := 56) (pc1 := 42) hx hb rfl dX11_plan_41 dX11_plan_42 (by decide) (fun c42 => ?_) (fun c42 => ?_)
          · refine lv_lconst (v := 0) hx hb dX11_plan_56 (by decide) ?_
            refine gx_tl (m_pq (m_fB (m_fN M i) i) i k (m_pg (m_fB (m_fN M i) i) i k)) ((if_neg (fun q => absurd q.2 (Int64.not_lt.mpr c42))).symm) ?_
            refine lv_lstore (lv' := [(5, .long (m_pq (m_fB (m_fN M i) i) i k (m_pg (m_fB (m_fN M i) i) i k))), (2, .long (m_pg (m_fB (m_fN M i) i) i k)), (4, .int (nI k)), (0, .ref (s0.heap.size + 104)), (1, .int (nI i))]) hx hb dX11_plan_57 hl (by decide) rfl (fun ls hl => ?_)
            refine lv_aload_n hx hb dX11_plan_59 rfl (lv_at hl 3 rfl) ?_
            refine gx_get (D := D) (cl := gcl) (ci := 10) (v := .ref (mad s0.heap.size 19)) (C := RX11) (T := TX11) (N := 27) hx hb hts in_X11 hown hK hR.mo rfl 23 (by decide) (hts _ q909) (fun _ h9 => h9) rfl dX11_plan_60 ?_
            refine lv_bipush (v := 12) hx hb dX11_plan_63 (by decide) ?_
            refine lv_iload_n hx hb dX11_plan_65 rfl (lv_at hl 4 rfl) ?_
            refine lv_imul hx hb dX11_plan_66 ?_
            refine gx_ti (nI (12 * i)) (pk_mul 12 i) ?_
            refine lv_iload hx hb dX11_plan_67 (lv_at hl 2 rfl) ?_
            refine lv_iadd hx hb dX11_plan_69 ?_
            refine gx_ti (nI (12 * i + k)) (nI_add (12 * i) k) ?_
            refine lv_lload hx hb dX11_plan_70 (lv_at hl 0 rfl) ?_
            refine gx_last (n := 144) hx hb hK 0 (hR.mla 19 (by decide) (by decide)) rfl (12 * i + k) (rfl) (by omega) (by decide) hL (by (try simp only [aI, aA, aT, aB, aL, mad]); omega) dX11_plan_72 (fun H locs hU hA hL => ?_)
            have hR := GRb.pML (j := 19) (by decide) (by decide) hR hU hA
            have hR := GR_M (M := (mI (m_wr (m_fB (m_fN M i) i) 19 (12 * i) k (fun w => m_pq (m_fB (m_fN M i) i) i w (m_pg (m_fB (m_fN M i) i) i w))), up2 (mL (m_wr (m_fB (m_fN M i) i) 19 (12 * i) k (fun w => m_pq (m_fB (m_fN M i) i) i w (m_pg (m_fB (m_fN M i) i) i w)))) 19 (12 * i + k) (m_pq (m_fB (m_fN M i) i) i k (m_pg (m_fB (m_fN M i) i) i k)), mS (m_wr (m_fB (m_fN M i) i) 19 (12 * i) k (fun w => m_pq (m_fB (m_fN M i) i) i w (m_pg (m_fB (m_fN M i) i) i w))))) (M' := m_wr (m_fB (m_fN M i) i) 19 (12 * i) (k + 1) (fun w => m_pq (m_fB (m_fN M i) i) i w (m_pg (m_fB (m_fN M i) i) i w))) (m_wr_s (m_fB (m_fN M i) i) 19 (12 * i) k (fun w => m_pq (m_fB (m_fN M i) i) i w (m_pg (m_fB (m_fN M i) i) i w))) hR
            refine lv_lload_n hx hb dX11_plan_73 rfl (lv_at hl 1 rfl) ?_
            refine lv_lload hx hb dX11_plan_74 (lv_at hl 0 rfl) ?_
            refine lv_ladd hx hb dX11_plan_76 ?_
            refine gx_tl (m_pg (m_fB (m_fN M i) i) i (k + 1)) (rfl) ?_
            refine lv_lstore_n (lv' := [(2, .long (m_pg (m_fB (m_fN M i) i) i (k + 1))), (5, .long (m_pq (m_fB (m_fN M i) i) i k (m_pg (m_fB (m_fN M i) i) i k))), (4, .int (nI k)), (0, .ref (s0.heap.size + 104)), (1, .int (nI i))]) hx hb dX11_plan_77 rfl hl (by decide) rfl (fun ls hl => ?_)
            refine lv_iinc (v := nI (k + 1)) (lv' := [(4, .int (nI (k + 1))), (2, .long (m_pg (m_fB (m_fN M i) i) i (k + 1))), (5, .long (m_pq (m_fB (m_fN M i) i) i k (m_pg (m_fB (m_fN M i) i) i k))), (0, .ref (s0.heap.size + 104)), (1, .int (nI i))]) hx hb dX11_plan_78 hl (k := 2) rfl (nI_1 k) (by decide) rfl (fun ls hl => ?_)
            refine lv_goto (tgt := 15) hx hb dX11_plan_81 (by decide) ?_
            exact ih Y (k + 1) _ _ _ (by omega) (by omega) (lv_sub hl [1, 0, 3, 4] rfl) hL hR
          · refine lv_aload_n hx hb dX11_plan_45 rfl (lv_at hl 2 rfl) ?_
            refine lv_iload_n hx hb dX11_plan_46 rfl (lv_at hl 3 rfl) ?_
            refine lv_iload hx hb dX11_plan_47 (lv_at hl 1 rfl) ?_
            refine lv_lload_n hx hb dX11_plan_49 rfl (lv_at hl 0 rfl) ?_
            refine cc_v (va_runV (b := s0.heap.size + 104) (As := [.int (nI i), .int (nI k), .long (m_pg (m_fB (m_fN M i) i) i k)]) (rest := []) ⟨hx, hb, hml, hown, hts⟩ (ct_X11_lot (wk := k) (got := m_pg (m_fB (m_fN M i) i) i k) hE ⟨_, hR⟩ hi hkc (hC.of rfl)) (cwV 3 hts (lw_V q1093 q1095 qs41 q61 q1096) rfl rfl rfl (by decide +kernel) ⟨Nat.le_of_ble_eq_true rfl, Nat.le_of_ble_eq_true rfl⟩) (cc_pV hW0 (cc_re hK hR.mo (show gcl[10]? = _ from rfl))) rfl rfl hl.1 rfl (lv_room (Nat.le_of_ble_eq_true rfl)) dX11_plan_50 ⟨Nat.le_of_ble_eq_true rfl, Nat.le_of_ble_eq_true rfl⟩) hL (fun H locs hP1 hL => ?_)
            subst hP1
            refine gx_tl (m_lot (m_fB (m_fN M i) i) i k (m_pg (m_fB (m_fN M i) i) i k)) (m_lot_c (M := (m_fB (m_fN M i) i)) (M' := m_wr (m_fB (m_fN M i) i) 19 (12 * i) k (fun w => m_pq (m_fB (m_fN M i) i) i w (m_pg (m_fB (m_fN M i) i) i w))) rfl (m_wr_o (m_fB (m_fN M i) i) (fun w => m_pq (m_fB (m_fN M i) i) i w (m_pg (m_fB (m_fN M i) i) i w)) (by decide)) (m_wr_o (m_fB (m_fN M i) i) (fun w => m_pq (m_fB (m_fN M i) i) i w (m_pg (m_fB (m_fN M i) i) i w)) (by decide)) i k _) ?_
            refine lv_goto (tgt := 57) hx hb dX11_plan_53 (by decide) ?_
            refine gx_tl (m_pq (m_fB (m_fN M i) i) i k (m_pg (m_fB (m_fN M i) i) i k)) ((if_pos ⟨hld, l_nle c42⟩).symm) ?_
            refine lv_lstore (lv' := [(5, .long (m_pq (m_fB (m_fN M i) i) i k (m_pg (m_fB (m_fN M i) i) i k))), (2, .long (m_pg (m_fB (m_fN M i) i) i k)), (4, .int (nI k)), (0, .ref (s0.heap.size + 104)), (1, .int (nI i))]) hx hb dX11_plan_57 hl (by decide) rfl (fun ls hl => ?_)
            refine lv_aload_n hx hb dX11_plan_59 rfl (lv_at hl 3 rfl) ?_
            refine gx_get (D := D) (cl := gcl) (ci := 10) (v := .ref (mad s0.heap.size 19)) (C := RX11) (T := TX11) (N := 27) hx hb hts in_X11 hown hK hR.mo rfl 23 (by decide) (hts _ q909) (fun _ h9 => h9) rfl dX11_plan_60 ?_
            refine lv_bipush (v := 12) hx hb dX11_plan_63 (by decide) ?_
            refine lv_iload_n hx hb dX11_plan_65 rfl (lv_at hl 4 rfl) ?_
            refine lv_imul hx hb dX11_plan_66 ?_
            refine gx_ti (nI (12 * i)) (pk_mul 12 i) ?_
            refine lv_iload hx hb dX11_plan_67 (lv_at hl 2 rfl) ?_
            refine lv_iadd hx hb dX11_plan_69 ?_
            refine gx_ti (nI (12 * i + k)) (nI_add (12 * i) k) ?_
            refine lv_lload hx hb dX11_plan_70 (lv_at hl 0 rfl) ?_
            refine gx_last (n := 144) hx hb hK 0 (hR.mla 19 (by decide) (by decide)) rfl (12 * i + k) (rfl) (by omega) (by decide) hL (by (try simp only [aI, aA, aT, aB, aL, mad]); omega) dX11_plan_72 (fun H locs hU hA hL => ?_)
            have hR := GRb.pML (j := 19) (by decide) (by decide) hR hU hA
            have hR := GR_M (M := (mI (m_wr (m_fB (m_fN M i) i) 19 (12 * i) k (fun w => m_pq (m_fB (m_fN M i) i) i w (m_pg (m_fB (m_fN M i) i) i w))), up2 (mL (m_wr (m_fB (m_fN M i) i) 19 (12 * i) k (fun w => m_pq (m_fB (m_fN M i) i) i w (m_pg (m_fB (m_fN M i) i) i w)))) 19 (12 * i + k) (m_pq (m_fB (m_fN M i) i) i k (m_pg (m_fB (m_fN M i) i) i k)), mS (m_wr (m_fB (m_fN M i) i) 19 (12 * i) k (fun w => m_pq (m_fB (m_fN M i) i) i w (m_pg (m_fB (m_fN M i) i) i w))))) (M' := m_wr (m_fB (m_fN M i) i) 19 (12 * i) (k + 1) (fun w => m_pq (m_fB (m_fN M i) i) i w (m_pg (m_fB (m_fN M i) i) i w))) (m_wr_s (m_fB (m_fN M i) i) 19 (12 * i) k (fun w => m_pq (m_fB (m_fN M i) i) i w (m_pg (m_fB (m_fN M i) i) i w))) hR
            refine lv_lload_n hx hb dX11_plan_73 rfl (lv_at hl 1 rfl) ?_
            refine lv_lload hx hb dX11_plan_74 (lv_at hl 0 rfl) ?_
            refine lv_ladd hx hb dX11_plan_76 ?_
            refine gx_tl (m_pg (m_fB (m_fN M i) i) i (k + 1)) (rfl) ?_
            refine lv_lstore_n (lv' := [(2, .long (m_pg (m_fB (m_fN M i) i) i (k + 1))), (5, .long (m_pq (m_fB (m_fN M i) i) i k (m_pg (m_fB (m_fN M i) i) i k))), (4, .int (nI k)), (0, .ref (s0.heap.size + 104)), (1, .int (nI i))]) hx hb dX11_plan_77 rfl hl (by decide) rfl (fun ls hl => ?_)
            refine lv_iinc (v := nI (k + 1)) (lv' := [(4, .int (nI (k + 1))), (2, .long (m_pg (m_fB (m_fN M i) i) i (k + 1))), (5, .long (m_pq (m_fB (m_fN M i) i) i k (m_pg (m_fB (m_fN M i) i) i k))), (0, .ref (s0.heap.size + 104)), (1, .int (nI i))]) hx hb dX11_plan_78 hl (k := 2) rfl (nI_1 k) (by decide) rfl (fun ls hl => ?_)
            refine lv_goto (tgt := 15) hx hb dX11_plan_81 (by decide) ?_
            exact ih Y (k + 1) _ _ _ (by omega) (by omega) (lv_sub hl [1, 0, 3, 4] rfl) hL hR
  refine lv_aload_n hx hb dX11_plan_0 rfl (lv_at hl 0 rfl) ?_
  refine lv_iload_n hx hb dX11_plan_1 rfl (lv_at hl 1 rfl) ?_
  refine cc_0 (va_runV (b := s0.heap.size + 104) (As := [.int (nI i)]) (rest := []) ⟨hx, hb, hml, hown, hts⟩ (ct_X11_findNeeds hE ⟨_, hR⟩ hi hC) (cwV 1 hts (lw_V q1066 q1068 qs35 q61 q1069) rfl rfl rfl (by decide +kernel) ⟨Nat.le_of_ble_eq_true rfl, Nat.le_of_ble_eq_true rfl⟩) (cc_pV hW0 (cc_re hK hR.mo (show gcl[10]? = _ from rfl))) rfl rfl hl.1 rfl (lv_room (Nat.le_of_ble_eq_true rfl)) dX11_plan_2 ⟨Nat.le_of_ble_eq_true rfl, Nat.le_of_ble_eq_true rfl⟩) hL (fun H locs hP1 hL => ?_)
  obtain ⟨Y, hR⟩ := hP1
  refine lv_aload_n hx hb dX11_plan_5 rfl (lv_at hl 0 rfl) ?_
  refine lv_iload_n hx hb dX11_plan_6 rfl (lv_at hl 1 rfl) ?_
  refine cc_0 (va_runV (b := s0.heap.size + 104) (As := [.int (nI i)]) (rest := []) ⟨hx, hb, hml, hown, hts⟩ (ct_X11_findBest hE ⟨_, hR⟩ hi (hC.of rfl)) (cwV 1 hts (lw_V q1077 q1079 qs37 q61 q1080) rfl rfl rfl (by decide +kernel) ⟨Nat.le_of_ble_eq_true rfl, Nat.le_of_ble_eq_true rfl⟩) (cc_pV hW0 (cc_re hK hR.mo (show gcl[10]? = _ from rfl))) rfl rfl hl.1 rfl (lv_room (Nat.le_of_ble_eq_true rfl)) dX11_plan_7 ⟨Nat.le_of_ble_eq_true rfl, Nat.le_of_ble_eq_true rfl⟩) hL (fun H locs hP1 hL => ?_)
  obtain ⟨Y, hR⟩ := hP1
  refine lv_lconst (v := 0) hx hb dX11_plan_10 (by decide) ?_
  refine gx_tl (m_pg (m_fB (m_fN M i) i) i 0) (rfl) ?_
  refine lv_lstore_n (lv' := [(2, .long (m_pg (m_fB (m_fN M i) i) i 0)), (0, .ref (s0.heap.size + 104)), (1, .int (nI i))]) hx hb dX11_plan_11 rfl hl (by decide) rfl (fun ls hl => ?_)
  refine lv_iconst (v := 0) hx hb dX11_plan_12 (by decide) ?_
  refine gx_ti (nI 0) (by decide) ?_
  refine lv_istore (lv' := [(4, .int (nI 0)), (2, .long (m_pg (m_fB (m_fN M i) i) i 0)), (0, .ref (s0.heap.size + 104)), (1, .int (nI i))]) hx hb dX11_plan_13 hl (by decide) rfl (fun ls hl => ?_)
  exact key 13 Y 0 _ _ _ (by omega) (by omega) (lv_sub hl [1, 0, 2, 3] rfl) hL (by rw [m_wr_0]; exact hR)
