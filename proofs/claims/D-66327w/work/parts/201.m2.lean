set_option maxHeartbeats 4000000 in
set_option maxRecDepth 100000 in
/-- sumOf -/
theorem ct_X11_sumOf {l : Launch} {s0 : State} {D : va_G} {DA : Nat → ClassId} {z0 : Nat} {C : CS} {M : MS} {o : Int64} {H : Heap} (hE : G0 l s0 D DA z0) (hR : RR s0 D DA z0 C M o H) {K cn : Nat} (hK3 : K < 3) (i w : Int32) (hc : cn ≤ 24) (ec : mI M 13 K = nI cn) : Met l yX11_sumOf (ws_ yX11_sumOf cX11_sumOf 7 (some .long)) ({ frames := 0, cells := 0, slots := 0, locals := 0 }) (cP s0 [.ref (s0.heap.size + 104), .int (nI K), .int i, .int w] H) (cQv (.long (m_sum M K i w cn)) (fun H1 => H1 = H)) 0 0 (cF s0) := by
  refine Met.ofW (cc := cX11_sumOf) (maxL := 7) (ret := (some .long)) (by decide) rfl ?_
  intro p e s m args below meth c s₁ Bd hml hv
  obtain ⟨rfl, rfl, hW0⟩ := hv
  have hx := Bd.exec
  have hb := Bd.bytes
  have hr := Bd.returns
  have hts := atoms_spec (ws := (ws_ yX11_sumOf cX11_sumOf 7 (some .long))) Bd.pre
  have hts : ∀ w ∈ lw_all, w.before _ s = true := fun w h => hts w (List.mem_cons_of_mem _ h)
  have hown : s.vm.findClass RX11 = some m.cls := findClass_of_methodNamed Bd.named
  have hlocks := Bd.notSynchronized
  have hK := va_K.moved hW0.alike hE.K
  have hL : gx_L s0.heap.size ([] : List Loc) := gx_L0
  obtain ⟨Y, hR⟩ := hR
  have hl := lv_entry ([.ref (s0.heap.size + 104), .int (nI K), .int i, .int w]) (n := 7) (Nat.le_of_ble_eq_true rfl)
  rw [lg_entry_eq]
  generalize (lg_sl ([.ref (s0.heap.size + 104), .int (nI K), .int i, .int w]) ++ List.replicate (7 - (lg_sl ([.ref (s0.heap.size + 104), .int (nI K), .int i, .int w])).length) Slot.unset).toArray = ls at hl ⊢
  have hl : lv_has ls 7 [(0, .ref (s0.heap.size + 104)), (1, .int (nI K)), (2, .int i), (3, .int w)] := hl
  have key : ∀ (n : Nat) (k : Nat) (locs : List Loc) (ls : Array Slot), k ≤ cn → cn < k + n → lv_has ls 7 [(4, .long (m_sum M K i w k)), (6, .int (nI (24 * K + k))), (0, .ref (s0.heap.size + 104)), (1, .int (nI K)), (2, .int i), (3, .int w)] → gx_L s0.heap.size locs → W p l e (headSpec (ws_ yX11_sumOf cX11_sumOf 7 (some .long)) ({ frames := 0, cells := 0, slots := 0, locals := 0 })).room s m ([.ref (s0.heap.size + 104), .int (nI K), .int i, .int w] : List Value).toArray below meth c s.heap locs 0 0 (MQ below (cQv (.long (m_sum M K i w cn)) (fun H1 => H1 = s.heap)) ([.ref (s0.heap.size + 104), .int (nI K), .int i, .int w] : List Value).toArray s 0 0 (cF s0)) (F0 m 9 ls []) := by
    intro n
    induction n with
    | zero =>
      intro k locs ls hk hn hl hL
      omega
    | succ n ih =>
      intro k locs ls hk hn hl hL
      refine lv_iload hx hb dX11_sumOf_9 (lv_at hl 1 rfl) ?_
      refine lv_bipush (v := 24) hx hb dX11_sumOf_11 (by decide) ?_
      refine lv_iload_n hx hb dX11_sumOf_13 rfl (lv_at hl 3 rfl) ?_
      refine lv_imul hx hb dX11_sumOf_14 ?_
      refine gx_ti (nI (24 * K)) (pk_mul 24 K) ?_
      refine lv_aload_n hx hb dX11_sumOf_15 rfl (lv_at hl 2 rfl) ?_
      refine gx_get (D := D) (cl := gcl) (ci := 10) (v := .ref (mad s0.heap.size 13)) (C := RX11) (T := TX11) (N := 27) hx hb hts in_X11 hown hK hR.mo rfl 15 (by decide) (hts _ q901) (fun _ h9 => h9) rfl dX11_sumOf_16 ?_
      refine lv_iload_n hx hb dX11_sumOf_19 rfl (lv_at hl 3 rfl) ?_
      refine gx_iald (n := 3) hx hb hK 1 (hR.mia 13 (by decide)) rfl K (rfl) (by omega) (by decide) dX11_sumOf_20 ?_
      refine lv_iadd hx hb dX11_sumOf_21 ?_
      refine gx_ti (nI (24 * K + cn)) (by rw [ec]; exact nI_add _ _) ?_
      refine lv_icmp_ge (tgt := 71) hx hb dX11_sumOf_22 (by decide) (fun c22 => ?_) (fun c22 => ?_)
      · have hkc : k = cn := by have := n_ge c22 (by omega) (by omega); omega
        refine lv_lload hx hb dX11_sumOf_71 (lv_at hl 0 rfl) ?_
        exact W.lret (v := (m_sum M K i w k)) hx hb hr (fun t ht hW => ⟨ovJ (by rw [hkc]), ht⟩) hL dX11_sumOf_73
      · have hkc : k < cn := by have := n_lt c22 (by omega) (by omega); omega
        refine lv_aload_n hx hb dX11_sumOf_25 rfl (lv_at hl 2 rfl) ?_
        refine gx_get (D := D) (cl := gcl) (ci := 10) (v := .ref (mad s0.heap.size 14)) (C := RX11) (T := TX11) (N := 27) hx hb hts in_X11 hown hK hR.mo rfl 16 (by decide) (hts _ q902) (fun _ h9 => h9) rfl dX11_sumOf_26 ?_
        refine lv_iload hx hb dX11_sumOf_29 (lv_at hl 1 rfl) ?_
        refine gx_iald (n := 72) hx hb hK 1 (hR.mia 14 (by decide)) rfl (24 * K + k) (rfl) (by omega) (by decide) dX11_sumOf_31 ?_
        refine lv_iload_n hx hb dX11_sumOf_32 rfl (lv_at hl 4 rfl) ?_
        refine lv_icmp_ne (tgt := 61) hx hb dX11_sumOf_33 (by decide) (fun c33 => ?_) (fun c33 => ?_)
        · refine lv_lload hx hb dX11_sumOf_61 (lv_at hl 0 rfl) ?_
          refine gx_tl (m_sum M K i w (k + 1)) (by rw [m_sum, if_neg (fun q => c33 q.1)]) ?_
          refine lv_lstore (lv' := [(4, .long (m_sum M K i w (k + 1))), (6, .int (nI (24 * K + k))), (0, .ref (s0.heap.size + 104)), (1, .int (nI K)), (2, .int i), (3, .int w)]) hx hb dX11_sumOf_63 hl (by decide) rfl (fun ls hl => ?_)
          refine lv_iinc (v := nI (24 * K + (k + 1))) (lv' := [(6, .int (nI (24 * K + (k + 1)))), (4, .long (m_sum M K i w (k + 1))), (0, .ref (s0.heap.size + 104)), (1, .int (nI K)), (2, .int i), (3, .int w)]) hx hb dX11_sumOf_65 hl (k := 1) rfl (nI_1 (24 * K + k)) (by decide) rfl (fun ls hl => ?_)
          refine lv_goto (tgt := 9) hx hb dX11_sumOf_68 (by decide) ?_
          exact ih (k + 1) _ _ (by omega) (by omega) (lv_sub hl [1, 0, 2, 3, 4, 5] rfl) hL
        · refine lv_aload_n hx hb dX11_sumOf_36 rfl (lv_at hl 2 rfl) ?_
          refine gx_get (D := D) (cl := gcl) (ci := 10) (v := .ref (mad s0.heap.size 15)) (C := RX11) (T := TX11) (N := 27) hx hb hts in_X11 hown hK hR.mo rfl 17 (by decide) (hts _ q903) (fun _ h9 => h9) rfl dX11_sumOf_37 ?_
          refine lv_iload hx hb dX11_sumOf_40 (lv_at hl 1 rfl) ?_
          refine gx_iald (n := 72) hx hb hK 1 (hR.mia 15 (by decide)) rfl (24 * K + k) (rfl) (by omega) (by decide) dX11_sumOf_42 ?_
          refine lv_iload_n hx hb dX11_sumOf_43 rfl (lv_at hl 5 rfl) ?_
          refine lv_icmp_gt (tgt := 61) hx hb dX11_sumOf_44 (by decide) (fun c44 => ?_) (fun c44 => ?_)
          · refine lv_lload hx hb dX11_sumOf_61 (lv_at hl 0 rfl) ?_
            refine gx_tl (m_sum M K i w (k + 1)) (by rw [m_sum, if_neg (fun q => absurd c44 (Int32.not_lt.mpr q.2))]) ?_
            refine lv_lstore (lv' := [(4, .long (m_sum M K i w (k + 1))), (6, .int (nI (24 * K + k))), (0, .ref (s0.heap.size + 104)), (1, .int (nI K)), (2, .int i), (3, .int w)]) hx hb dX11_sumOf_63 hl (by decide) rfl (fun ls hl => ?_)
            refine lv_iinc (v := nI (24 * K + (k + 1))) (lv' := [(6, .int (nI (24 * K + (k + 1)))), (4, .long (m_sum M K i w (k + 1))), (0, .ref (s0.heap.size + 104)), (1, .int (nI K)), (2, .int i), (3, .int w)]) hx hb dX11_sumOf_65 hl (k := 1) rfl (nI_1 (24 * K + k)) (by decide) rfl (fun ls hl => ?_)
            refine lv_goto (tgt := 9) hx hb dX11_sumOf_68 (by decide) ?_
            exact ih (k + 1) _ _ (by omega) (by omega) (lv_sub hl [1, 0, 2, 3, 4, 5] rfl) hL
          · refine lv_lload hx hb dX11_sumOf_47 (lv_at hl 0 rfl) ?_
            refine lv_aload_n hx hb dX11_sumOf_49 rfl (lv_at hl 2 rfl) ?_
            refine gx_get (D := D) (cl := gcl) (ci := 10) (v := .ref (mad s0.heap.size 16)) (C := RX11) (T := TX11) (N := 27) hx hb hts in_X11 hown hK hR.mo rfl 18 (by decide) (hts _ q904) (fun _ h9 => h9) rfl dX11_sumOf_50 ?_
            refine lv_iload hx hb dX11_sumOf_53 (lv_at hl 1 rfl) ?_
            refine gx_iald (n := 72) hx hb hK 1 (hR.mia 16 (by decide)) rfl (24 * K + k) (rfl) (by omega) (by decide) dX11_sumOf_55 ?_
            refine lv_i2l (v := (mI M 16 (24 * K + k)).toInt64) hx hb dX11_sumOf_56 rfl ?_
            refine lv_ladd hx hb dX11_sumOf_57 ?_
            refine lv_goto (tgt := 63) hx hb dX11_sumOf_58 (by decide) ?_
            refine gx_tl (m_sum M K i w (k + 1)) (by rw [m_sum, if_pos ⟨c33, i_nlt c44⟩]) ?_
            refine lv_lstore (lv' := [(4, .long (m_sum M K i w (k + 1))), (6, .int (nI (24 * K + k))), (0, .ref (s0.heap.size + 104)), (1, .int (nI K)), (2, .int i), (3, .int w)]) hx hb dX11_sumOf_63 hl (by decide) rfl (fun ls hl => ?_)
            refine lv_iinc (v := nI (24 * K + (k + 1))) (lv' := [(6, .int (nI (24 * K + (k + 1)))), (4, .long (m_sum M K i w (k + 1))), (0, .ref (s0.heap.size + 104)), (1, .int (nI K)), (2, .int i), (3, .int w)]) hx hb dX11_sumOf_65 hl (k := 1) rfl (nI_1 (24 * K + k)) (by decide) rfl (fun ls hl => ?_)
            refine lv_goto (tgt := 9) hx hb dX11_sumOf_68 (by decide) ?_
            exact ih (k + 1) _ _ (by omega) (by omega) (lv_sub hl [1, 0, 2, 3, 4, 5] rfl) hL
  refine lv_lconst (v := 0) hx hb dX11_sumOf_0 (by decide) ?_
  refine lv_lstore (lv' := [(4, .long 0), (0, .ref (s0.heap.size + 104)), (1, .int (nI K)), (2, .int i), (3, .int w)]) hx hb dX11_sumOf_1 hl (by decide) rfl (fun ls hl => ?_)
  refine lv_bipush (v := 24) hx hb dX11_sumOf_3 (by decide) ?_
  refine lv_iload_n hx hb dX11_sumOf_5 rfl (lv_at hl 2 rfl) ?_
  refine lv_imul hx hb dX11_sumOf_6 ?_
  refine gx_ti (nI (24 * K + 0)) (pk_mul 24 K) ?_
  refine lv_istore (lv' := [(6, .int (nI (24 * K + 0))), (4, .long 0), (0, .ref (s0.heap.size + 104)), (1, .int (nI K)), (2, .int i), (3, .int w)]) hx hb dX11_sumOf_7 hl (by decide) rfl (fun ls hl => ?_)
  exact key (cn + 1) 0 _ _ (by omega) (by omega) (lv_sub hl [1, 0, 2, 3, 4, 5] rfl) hL
set_option maxHeartbeats 4000000 in
set_option maxRecDepth 100000 in
/-- upTo: the first n0 weeks summed -/
theorem ct_X11_upTo {l : Launch} {s0 : State} {D : va_G} {DA : Nat → ClassId} {z0 : Nat} {H : Heap} (hE : G0 l s0 D DA z0) {f : Nat → Int64} {a n1 n0 i : Nat} {wk : Int32} (hA : va_at D gcl (a, .inl (DA 0, n1, .inr (.inl f))) H) (hn1 : n1 < 2 ^ 31) (hn0 : n0 < 2 ^ 30) (hgt : ∀ k, k ≤ n0 → wk < nI k → k = n0) (hle : ∀ k, k ≤ n0 → ¬ wk < nI k → k < n0) (hsz : ∀ k, k < n0 → 12 * i + k < n1) : Met l yX11_upTo (ws_ yX11_upTo cX11_upTo 6 (some .long)) ({ frames := 0, cells := 0, slots := 0, locals := 0 }) (cP s0 [.ref a, .int (nI i), .int wk] H) (cQv (.long (m_up f i n0)) (fun H1 => H1 = H)) 0 0 (cF s0) := by
  refine Met.ofW (cc := cX11_upTo) (maxL := 6) (ret := (some .long)) (by decide) rfl ?_
  intro p e s m args below meth c s₁ Bd hml hv
  obtain ⟨rfl, rfl, hW0⟩ := hv
  have hx := Bd.exec
  have hb := Bd.bytes
  have hr := Bd.returns
  have hts := atoms_spec (ws := (ws_ yX11_upTo cX11_upTo 6 (some .long))) Bd.pre
  have hts : ∀ w ∈ lw_all, w.before _ s = true := fun w h => hts w (List.mem_cons_of_mem _ h)
  have hown : s.vm.findClass RX11 = some m.cls := findClass_of_methodNamed Bd.named
  have hlocks := Bd.notSynchronized
  have hK := va_K.moved hW0.alike hE.K
  have hL : gx_L s0.heap.size ([] : List Loc) := gx_L0
  have hl := lv_entry ([.ref a, .int (nI i), .int wk]) (n := 6) (Nat.le_of_ble_eq_true rfl)
  rw [lg_entry_eq]
  generalize (lg_sl ([.ref a, .int (nI i), .int wk]) ++ List.replicate (6 - (lg_sl ([.ref a, .int (nI i), .int wk])).length) Slot.unset).toArray = ls at hl ⊢
  have hl : lv_has ls 6 [(0, .ref a), (1, .int (nI i)), (2, .int wk)] := hl
  have key : ∀ (n : Nat) (k : Nat) (locs : List Loc) (ls : Array Slot), k ≤ n0 → n0 < k + n → lv_has ls 6 [(3, .long (m_up f i k)), (5, .int (nI k)), (0, .ref a), (1, .int (nI i)), (2, .int wk)] → gx_L s0.heap.size locs → W p l e (headSpec (ws_ yX11_upTo cX11_upTo 6 (some .long)) ({ frames := 0, cells := 0, slots := 0, locals := 0 })).room s m ([.ref a, .int (nI i), .int wk] : List Value).toArray below meth c s.heap locs 0 0 (MQ below (cQv (.long (m_up f i n0)) (fun H1 => H1 = s.heap)) ([.ref a, .int (nI i), .int wk] : List Value).toArray s 0 0 (cF s0)) (F0 m 5 ls []) := by
    intro n
    induction n with
    | zero =>
      intro k locs ls hk hn hl hL
      omega
    | succ n ih =>
      intro k locs ls hk hn hl hL
      refine lv_iload hx hb dX11_upTo_5 (lv_at hl 1 rfl) ?_
      refine lv_iload_n hx hb dX11_upTo_7 rfl (lv_at hl 4 rfl) ?_
      refine lv_icmp_gt (tgt := 29) hx hb dX11_upTo_8 (by decide) (fun c8 => ?_) (fun c8 => ?_)
      · have hkw : k = n0 := hgt k hk c8
        refine lv_lload_n hx hb dX11_upTo_29 rfl (lv_at hl 0 rfl) ?_
        exact W.lret (v := (m_up f i k)) hx hb hr (fun t ht hW => ⟨ovJ (by rw [hkw]), ht⟩) hL dX11_upTo_30
      · have hkw : k < n0 := hle k hk c8
        refine lv_lload_n hx hb dX11_upTo_11 rfl (lv_at hl 0 rfl) ?_
        refine lv_aload_n hx hb dX11_upTo_12 rfl (lv_at hl 2 rfl) ?_
        refine lv_bipush (v := 12) hx hb dX11_upTo_13 (by decide) ?_
        refine lv_iload_n hx hb dX11_upTo_15 rfl (lv_at hl 3 rfl) ?_
        refine lv_imul hx hb dX11_upTo_16 ?_
        refine gx_ti (nI (12 * i)) (pk_mul 12 i) ?_
        refine lv_iload hx hb dX11_upTo_17 (lv_at hl 1 rfl) ?_
        refine lv_iadd hx hb dX11_upTo_19 ?_
        refine gx_ti (nI (12 * i + k)) (nI_add (12 * i) k) ?_
        refine gx_lald (n := n1) hx hb hK 0 hA rfl (12 * i + k) (rfl) (hsz k hkw) (hn1) dX11_upTo_20 ?_
        refine lv_ladd hx hb dX11_upTo_21 ?_
        refine gx_tl (m_up f i (k + 1)) (rfl) ?_
        refine lv_lstore_n (lv' := [(3, .long (m_up f i (k + 1))), (5, .int (nI k)), (0, .ref a), (1, .int (nI i)), (2, .int wk)]) hx hb dX11_upTo_22 rfl hl (by decide) rfl (fun ls hl => ?_)
        refine lv_iinc (v := nI (k + 1)) (lv' := [(5, .int (nI (k + 1))), (3, .long (m_up f i (k + 1))), (0, .ref a), (1, .int (nI i)), (2, .int wk)]) hx hb dX11_upTo_23 hl (k := 1) rfl (nI_1 k) (by decide) rfl (fun ls hl => ?_)
        refine lv_goto (tgt := 5) hx hb dX11_upTo_26 (by decide) ?_
        exact ih (k + 1) _ _ (by omega) (by omega) (lv_sub hl [1, 0, 2, 3, 4] rfl) hL
  refine lv_lconst (v := 0) hx hb dX11_upTo_0 (by decide) ?_
  refine gx_tl (m_up f i 0) (rfl) ?_
  refine lv_lstore_n (lv' := [(3, .long (m_up f i 0)), (0, .ref a), (1, .int (nI i)), (2, .int wk)]) hx hb dX11_upTo_1 rfl hl (by decide) rfl (fun ls hl => ?_)
  refine lv_iconst (v := 0) hx hb dX11_upTo_2 (by decide) ?_
  refine gx_ti (nI 0) (by decide) ?_
  refine lv_istore (lv' := [(5, .int (nI 0)), (3, .long (m_up f i 0)), (0, .ref a), (1, .int (nI i)), (2, .int wk)]) hx hb dX11_upTo_3 hl (by decide) rfl (fun ls hl => ?_)
  exact key (n0 + 1) 0 _ _ (by omega) (by omega) (lv_sub hl [1, 0, 2, 3, 4] rfl) hL
