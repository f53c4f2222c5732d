set_option maxHeartbeats 4000000 in
set_option maxRecDepth 100000 in
/-- levelOf -/
theorem ct_X11_levelOf {l : Launch} {s0 : State} {D : va_G} {DA : Nat → ClassId} {z0 : Nat} {C : CS} {M : MS} {o : Int64} {H : Heap} (hE : G0 l s0 D DA z0) (hR : RR s0 D DA z0 C M o H) {i : Nat} (hi : i < 12) : Met l yX11_levelOf (ws_ yX11_levelOf cX11_levelOf 7 (some .int)) ({ frames := 0, cells := 0, slots := 0, locals := 0 }) (cP s0 [.ref (s0.heap.size + 104), .int (nI i)] H) (cQv (.int (m_lvl M i)) (fun H1 => H1 = H)) 0 0 (cF s0) := by
  refine Met.ofW (cc := cX11_levelOf) (maxL := 7) (ret := (some .int)) (by decide) rfl ?_
  intro p e s m args below meth c s₁ Bd hml hv
  obtain ⟨rfl, rfl, hW0⟩ := hv
  have hx := Bd.exec
  have hb := Bd.bytes
  have hr := Bd.returns
  have hts := atoms_spec (ws := (ws_ yX11_levelOf cX11_levelOf 7 (some .int))) Bd.pre
  have hts : ∀ w ∈ lw_all, w.before _ s = true := fun w h => hts w (List.mem_cons_of_mem _ h)
  have hown : s.vm.findClass RX11 = some m.cls := findClass_of_methodNamed Bd.named
  have hlocks := Bd.notSynchronized
  have hK := va_K.moved hW0.alike hE.K
  have hL : gx_L s0.heap.size ([] : List Loc) := gx_L0
  obtain ⟨Y, hR⟩ := hR
  have hl := lv_entry ([.ref (s0.heap.size + 104), .int (nI i)]) (n := 7) (Nat.le_of_ble_eq_true rfl)
  rw [lg_entry_eq]
  generalize (lg_sl ([.ref (s0.heap.size + 104), .int (nI i)]) ++ List.replicate (7 - (lg_sl ([.ref (s0.heap.size + 104), .int (nI i)])).length) Slot.unset).toArray = ls at hl ⊢
  have hl : lv_has ls 7 [(0, .ref (s0.heap.size + 104)), (1, .int (nI i))] := hl
  have key : ∀ (n : Nat) (k : Nat) (ab : Int32) (locs : List Loc) (ls : Array Slot), k ≤ 21 → 21 < k + n → m_lv M (21 - k) ab = m_lvl M i → lv_has ls 7 [(2, .int ab), (3, .int (nm k)), (0, .ref (s0.heap.size + 104))] → gx_L s0.heap.size locs → W p l e (headSpec (ws_ yX11_levelOf cX11_levelOf 7 (some .int)) ({ frames := 0, cells := 0, slots := 0, locals := 0 })).room s m ([.ref (s0.heap.size + 104), .int (nI i)] : List Value).toArray below meth c s.heap locs 0 0 (MQ below (cQv (.int (m_lvl M i)) (fun H1 => H1 = s.heap)) ([.ref (s0.heap.size + 104), .int (nI i)] : List Value).toArray s 0 0 (cF s0)) (F0 m 6 ls []) := by
    intro n
    induction n with
    | zero =>
      intro k ab locs ls hk hn hrr hl hL
      omega
    | succ n ih =>
      intro k ab locs ls hk hn hrr hl hL
      refine lv_iload_n hx hb dX11_levelOf_6 rfl (lv_at hl 0 rfl) ?_
      refine lv_if_eq (tgt := 97) hx hb dX11_levelOf_7 (by decide) (fun c7 => ?_) (fun c7 => ?_)
      · refine lv_iload_n hx hb dX11_levelOf_97 rfl (lv_at hl 1 rfl) ?_
        refine lv_bipush (v := 20) hx hb dX11_levelOf_98 (by decide) ?_
        refine lv_icmp_lt (tgt := 108) hx hb dX11_levelOf_100 (by decide) (fun c100 => ?_) (fun c100 => ?_)
        · have hk20 : k ≤ 20 := by have := (nm_lt (j := k) (d := 20) (by omega) (by omega)).mp c100; omega
          have hq : nm k = m_lvl M i := by rw [← hrr, show 21 - k = (20 - k) + 1 by omega, m_lv, if_pos c7]; congr 1; omega
          refine lv_iload_n hx hb dX11_levelOf_108 rfl (lv_at hl 1 rfl) ?_
          exact W.iret (v := (nm k)) hx hb hr (fun t ht hW => ⟨ovI hq, ht⟩) hL dX11_levelOf_109
        · have hk20 : k = 21 := by have := mt (nm_lt (j := k) (d := 20) (by omega) (by omega)).mpr c100; omega
          have hq : (99 : Int32) = m_lvl M i := by rw [← hrr, hk20]; rfl
          refine lv_bipush (v := 99) hx hb dX11_levelOf_103 (by decide) ?_
          refine lv_goto (tgt := 109) hx hb dX11_levelOf_105 (by decide) ?_
          exact W.iret (v := 99) hx hb hr (fun t ht hW => ⟨ovI hq, ht⟩) hL dX11_levelOf_109
      · refine lv_iload_n hx hb dX11_levelOf_10 rfl (lv_at hl 1 rfl) ?_
        refine lv_bipush (v := 20) hx hb dX11_levelOf_11 (by decide) ?_
        refine lv_icmp_ge (tgt := 97) hx hb dX11_levelOf_13 (by decide) (fun c13 => ?_) (fun c13 => ?_)
        · have hk21 : k = 21 := by have := (nm_ge (j := k) (d := 20) (by omega) (by omega)).mp c13; omega
          refine lv_iload_n hx hb dX11_levelOf_97 rfl (lv_at hl 1 rfl) ?_
          refine lv_bipush (v := 20) hx hb dX11_levelOf_98 (by decide) ?_
          refine lv_icmp_lt (tgt := 108) hx hb dX11_levelOf_100 (by decide) (fun c100 => ?_) (fun c100 => ?_)
          · exact absurd c100 (by rw [hk21]; decide)
          · have hq : (99 : Int32) = m_lvl M i := by rw [← hrr, hk21]; rfl
            refine lv_bipush (v := 99) hx hb dX11_levelOf_103 (by decide) ?_
            refine lv_goto (tgt := 109) hx hb dX11_levelOf_105 (by decide) ?_
            exact W.iret (v := 99) hx hb hr (fun t ht hW => ⟨ovI hq, ht⟩) hL dX11_levelOf_109
        · have hk20 : k ≤ 20 := by have := mt (nm_ge (j := k) (d := 20) (by omega) (by omega)).mpr c13; omega
          have key2 : ∀ (n : Nat) (v : Nat) (locs : List Loc) (ls : Array Slot), v ≤ 144 → 144 < v + n → lv_has ls 7 [(4, .int (m_nx M ab v)), (5, .int (nI v)), (2, .int ab), (3, .int (nm k)), (0, .ref (s0.heap.size + 104))] → gx_L s0.heap.size locs → W p l e (headSpec (ws_ yX11_levelOf cX11_levelOf 7 (some .int)) ({ frames := 0, cells := 0, slots := 0, locals := 0 })).room s m ([.ref (s0.heap.size + 104), .int (nI i)] : List Value).toArray below meth c s.heap locs 0 0 (MQ below (cQv (.int (m_lvl M i)) (fun H1 => H1 = s.heap)) ([.ref (s0.heap.size + 104), .int (nI i)] : List Value).toArray s 0 0 (cF s0)) (F0 m 22 ls []) := by
            intro n
            induction n with
            | zero =>
              intro v locs ls hv1 hn2 hl hL
              omega
            | succ n ih2 =>
              intro v locs ls hv1 hn2 hl hL
              refine lv_iload hx hb dX11_levelOf_22 (lv_at hl 1 rfl) ?_
              refine lv_sipush (v := 144) hx hb dX11_levelOf_24 (by decide) ?_
              refine lv_icmp_ge (tgt := 88) hx hb dX11_levelOf_27 (by decide) (fun c27 => ?_) (fun c27 => ?_)
              · have hv : v = 144 := by have := n_ge (b := 144) c27 (by omega) (by omega); omega
                rw [hv] at hl
                refine lv_iload hx hb dX11_levelOf_88 (lv_at hl 0 rfl) ?_
                refine lv_istore_n (lv' := [(2, .int (m_nx M ab 144)), (4, .int (m_nx M ab 144)), (5, .int (nI 144)), (3, .int (nm k)), (0, .ref (s0.heap.size + 104))]) hx hb dX11_levelOf_90 rfl hl (by decide) rfl (fun ls hl => ?_)
                refine lv_iinc (v := nm (k + 1)) (lv' := [(3, .int (nm (k + 1))), (2, .int (m_nx M ab 144)), (4, .int (m_nx M ab 144)), (5, .int (nI 144)), (0, .ref (s0.heap.size + 104))]) hx hb dX11_levelOf_91 hl (k := 3) rfl (nm_p1 k) (by decide) rfl (fun ls hl => ?_)
                refine lv_goto (tgt := 6) hx hb dX11_levelOf_94 (by decide) ?_
                exact ih (k + 1) (m_nx M ab 144) _ _ (by omega) (by omega) (by rw [← hrr, show 21 - k = (21 - (k + 1)) + 1 by omega, m_lv, if_neg c7]) (lv_sub hl [1, 0, 4] rfl) hL
              · have hv : v < 144 := by have := n_lt (b := 144) c27 (by omega) (by omega); omega
                refine lv_aload_n hx hb dX11_levelOf_30 rfl (lv_at hl 4 rfl) ?_
                refine gx_get (D := D) (cl := gcl) (ci := 10) (v := .ref (mad s0.heap.size 10)) (C := RX11) (T := TX11) (N := 27) hx hb hts in_X11 hown hK hR.mo rfl 11 (by decide) (hts _ q897) (fun _ h9 => h9) rfl dX11_levelOf_31 ?_
                refine lv_iload hx hb dX11_levelOf_34 (lv_at hl 1 rfl) ?_
                refine gx_iald (n := 144) hx hb hK 1 (hR.mia 10 (by decide)) rfl v (rfl) (by omega) (by decide) dX11_levelOf_36 ?_
                refine lv_if_le (tgt := 57) hx hb dX11_levelOf_37 (by decide) (fun c37 => ?_) (fun c37 => ?_)
                · refine lv_iconst (v := 0) hx hb dX11_levelOf_57 (by decide) ?_
                  refine lv_istore (lv' := [(6, .int 0), (4, .int (m_nx M ab v)), (5, .int (nI v)), (2, .int ab), (3, .int (nm k)), (0, .ref (s0.heap.size + 104))]) hx hb dX11_levelOf_58 hl (by decide) rfl (fun ls hl => ?_)
                  refine lv_iload hx hb dX11_levelOf_60 (lv_at hl 0 rfl) ?_
                  refine lv_if_eq (tgt := 78) hx hb dX11_levelOf_62 (by decide) (fun c62 => ?_) (fun c62 => ?_)
                  · refine lv_iload hx hb dX11_levelOf_78 (lv_at hl 1 rfl) ?_
                    refine gx_ti (m_nx M ab (v + 1)) (by rw [m_nx, if_neg (fun q => absurd q.1 (Int32.not_lt.mpr c37))]) ?_
                    refine lv_istore (lv' := [(4, .int (m_nx M ab (v + 1))), (6, .int 0), (5, .int (nI v)), (2, .int ab), (3, .int (nm k)), (0, .ref (s0.heap.size + 104))]) hx hb dX11_levelOf_80 hl (by decide) rfl (fun ls hl => ?_)
                    refine lv_iinc (v := nI (v + 1)) (lv' := [(5, .int (nI (v + 1))), (4, .int (m_nx M ab (v + 1))), (6, .int 0), (2, .int ab), (3, .int (nm k)), (0, .ref (s0.heap.size + 104))]) hx hb dX11_levelOf_82 hl (k := 2) rfl (nI_1 v) (by decide) rfl (fun ls hl => ?_)
                    refine lv_goto (tgt := 22) hx hb dX11_levelOf_85 (by decide) ?_
                    exact ih2 (v + 1) _ _ (by omega) (by omega) (lv_sub hl [1, 0, 3, 4, 5] rfl) hL
                  · exact absurd rfl c62
                · refine lv_iload_n hx hb dX11_levelOf_40 rfl (lv_at hl 2 rfl) ?_
                  refine lv_iload hx hb dX11_levelOf_41 (lv_at hl 1 rfl) ?_
                  refine lv_bipush (v := 12) hx hb dX11_levelOf_43 (by decide) ?_
                  refine lv_irem hx hb dX11_levelOf_45 (by decide) ?_
                  refine gx_ti (nI (v % 12)) (pk_rem (d := 12) (by omega) (by omega) (by omega)) ?_
                  refine lv_ishr hx hb dX11_levelOf_46 ?_
                  refine lv_iconst (v := 1) hx hb dX11_levelOf_47 (by decide) ?_
                  refine lv_iand hx hb dX11_levelOf_48 ?_
                  refine lv_iconst (v := 1) hx hb dX11_levelOf_49 (by decide) ?_
                  refine lv_icmp_ne (tgt := 57) hx hb dX11_levelOf_50 (by decide) (fun c50 => ?_) (fun c50 => ?_)
                  · refine lv_iconst (v := 0) hx hb dX11_levelOf_57 (by decide) ?_
                    refine lv_istore (lv' := [(6, .int 0), (4, .int (m_nx M ab v)), (5, .int (nI v)), (2, .int ab), (3, .int (nm k)), (0, .ref (s0.heap.size + 104))]) hx hb dX11_levelOf_58 hl (by decide) rfl (fun ls hl => ?_)
                    refine lv_iload hx hb dX11_levelOf_60 (lv_at hl 0 rfl) ?_
                    refine lv_if_eq (tgt := 78) hx hb dX11_levelOf_62 (by decide) (fun c62 => ?_) (fun c62 => ?_)
                    · refine lv_iload hx hb dX11_levelOf_78 (lv_at hl 1 rfl) ?_
                      refine gx_ti (m_nx M ab (v + 1)) (by rw [m_nx, if_neg (fun q => c50 q.2)]) ?_
                      refine lv_istore (lv' := [(4, .int (m_nx M ab (v + 1))), (6, .int 0), (5, .int (nI v)), (2, .int ab), (3, .int (nm k)), (0, .ref (s0.heap.size + 104))]) hx hb dX11_levelOf_80 hl (by decide) rfl (fun ls hl => ?_)
                      refine lv_iinc (v := nI (v + 1)) (lv' := [(5, .int (nI (v + 1))), (4, .int (m_nx M ab (v + 1))), (6, .int 0), (2, .int ab), (3, .int (nm k)), (0, .ref (s0.heap.size + 104))]) hx hb dX11_levelOf_82 hl (k := 2) rfl (nI_1 v) (by decide) rfl (fun ls hl => ?_)
                      refine lv_goto (tgt := 22) hx hb dX11_levelOf_85 (by decide) ?_
                      exact ih2 (v + 1) _ _ (by omega) (by omega) (lv_sub hl [1, 0, 3, 4, 5] rfl) hL
                    · exact absurd rfl c62
                  · refine lv_iconst (v := 1) hx hb dX11_levelOf_53 (by decide) ?_
                    refine lv_goto (tgt := 58) hx hb dX11_levelOf_54 (by decide) ?_
                    refine lv_istore (lv' := [(6, .int 1), (4, .int (m_nx M ab v)), (5, .int (nI v)), (2, .int ab), (3, .int (nm k)), (0, .ref (s0.heap.size + 104))]) hx hb dX11_levelOf_58 hl (by decide) rfl (fun ls hl => ?_)
                    refine lv_iload hx hb dX11_levelOf_60 (lv_at hl 0 rfl) ?_
                    refine lv_if_eq (tgt := 78) hx hb dX11_levelOf_62 (by decide) (fun c62 => ?_) (fun c62 => ?_)
                    · exact absurd c62 (by decide)
                    · refine lv_iload hx hb dX11_levelOf_65 (lv_at hl 1 rfl) ?_
                      refine lv_iconst (v := 1) hx hb dX11_levelOf_67 (by decide) ?_
                      refine lv_iload hx hb dX11_levelOf_68 (lv_at hl 2 rfl) ?_
                      refine lv_bipush (v := 12) hx hb dX11_levelOf_70 (by decide) ?_
                      refine lv_idiv hx hb dX11_levelOf_72 (by decide) ?_
                      refine gx_ti (nI (v / 12)) (pk_div (d := 12) (by omega) (by omega) (by omega)) ?_
                      refine lv_ishl hx hb dX11_levelOf_73 ?_
                      refine lv_ior hx hb dX11_levelOf_74 ?_
                      refine lv_goto (tgt := 80) hx hb dX11_levelOf_75 (by decide) ?_
                      refine gx_ti (m_nx M ab (v + 1)) (by rw [m_nx, if_pos ⟨i_nle c37, c50⟩]) ?_
                      refine lv_istore (lv' := [(4, .int (m_nx M ab (v + 1))), (6, .int 1), (5, .int (nI v)), (2, .int ab), (3, .int (nm k)), (0, .ref (s0.heap.size + 104))]) hx hb dX11_levelOf_80 hl (by decide) rfl (fun ls hl => ?_)
                      refine lv_iinc (v := nI (v + 1)) (lv' := [(5, .int (nI (v + 1))), (4, .int (m_nx M ab (v + 1))), (6, .int 1), (2, .int ab), (3, .int (nm k)), (0, .ref (s0.heap.size + 104))]) hx hb dX11_levelOf_82 hl (k := 2) rfl (nI_1 v) (by decide) rfl (fun ls hl => ?_)
                      refine lv_goto (tgt := 22) hx hb dX11_levelOf_85 (by decide) ?_
                      exact ih2 (v + 1) _ _ (by omega) (by omega) (lv_sub hl [1, 0, 3, 4, 5] rfl) hL
          refine lv_iconst (v := 0) hx hb dX11_levelOf_16 (by decide) ?_
          refine gx_ti (m_nx M ab 0) (rfl) ?_
          refine lv_istore (lv' := [(4, .int (m_nx M ab 0)), (2, .int ab), (3, .int (nm k)), (0, .ref (s0.heap.size + 104))]) hx hb dX11_levelOf_17 hl (by decide) rfl (fun ls hl => ?_)
          refine lv_iconst (v := 0) hx hb dX11_levelOf_19 (by decide) ?_
          refine gx_ti (nI 0) (by decide) ?_
          refine lv_istore (lv' := [(5, .int (nI 0)), (4, .int (m_nx M ab 0)), (2, .int ab), (3, .int (nm k)), (0, .ref (s0.heap.size + 104))]) hx hb dX11_levelOf_20 hl (by decide) rfl (fun ls hl => ?_)
          exact key2 145 0 _ _ (by omega) (by omega) (lv_sub hl [1, 0, 2, 3, 4] rfl) hL
  refine lv_iconst (v := 1) hx hb dX11_levelOf_0 (by decide) ?_
  refine lv_iload_n hx hb dX11_levelOf_1 rfl (lv_at hl 1 rfl) ?_
  refine lv_ishl hx hb dX11_levelOf_2 ?_
  refine lv_istore_n (lv' := [(2, .int (1 <<< ((nI i) &&& 31))), (0, .ref (s0.heap.size + 104)), (1, .int (nI i))]) hx hb dX11_levelOf_3 rfl hl (by decide) rfl (fun ls hl => ?_)
  refine lv_iconst (v := (-1)) hx hb dX11_levelOf_4 (by decide) ?_
  refine gx_ti (nm 0) (rfl) ?_
  refine lv_istore_n (lv' := [(3, .int (nm 0)), (2, .int (1 <<< ((nI i) &&& 31))), (0, .ref (s0.heap.size + 104)), (1, .int (nI i))]) hx hb dX11_levelOf_5 rfl hl (by decide) rfl (fun ls hl => ?_)
  exact key 22 0 _ _ _ (by omega) (by omega) rfl (lv_sub hl [1, 0, 2] rfl) hL
set_option maxHeartbeats 4000000 in
set_option maxRecDepth 100000 in
/-- isSound -/
theorem ct_X11_isSound {l : Launch} {s0 : State} {D : va_G} {DA : Nat → ClassId} {z0 : Nat} {C : CS} {M : MS} {o : Int64} {H : Heap} (hE : G0 l s0 D DA z0) (hR : RR s0 D DA z0 C M o H)  : Met l yX11_isSound (ws_ yX11_isSound cX11_isSound 3 (some .boolean)) ({ frames := 1, cells := 0, slots := 0, locals := 26 }) (cP s0 [.ref (s0.heap.size + 104)] H) (cQv (.int (bZ (m_snd M 12))) (fun H1 => H1 = H)) 0 0 (cF s0) := by
  refine Met.ofW (cc := cX11_isSound) (maxL := 3) (ret := (some .boolean)) (by decide) rfl ?_
  intro p e s m args below meth c s₁ Bd hml hv
  obtain ⟨rfl, rfl, hW0⟩ := hv
  have hx := Bd.exec
  have hb := Bd.bytes
  have hr := Bd.returns
  have hts := atoms_spec (ws := (ws_ yX11_isSound cX11_isSound 3 (some .boolean))) Bd.pre
  have hts : ∀ w ∈ lw_all, w.before _ s = true := fun w h => hts w (List.mem_cons_of_mem _ h)
  have hown : s.vm.findClass RX11 = some m.cls := findClass_of_methodNamed Bd.named
  have hlocks := Bd.notSynchronized
  have hK := va_K.moved hW0.alike hE.K
  have hL : gx_L s0.heap.size ([] : List Loc) := gx_L0
  obtain ⟨Y, hR⟩ := hR
  have hl := lv_entry ([.ref (s0.heap.size + 104)]) (n := 3) (Nat.le_of_ble_eq_true rfl)
  rw [lg_entry_eq]
  generalize (lg_sl ([.ref (s0.heap.size + 104)]) ++ List.replicate (3 - (lg_sl ([.ref (s0.heap.size + 104)])).length) Slot.unset).toArray = ls at hl ⊢
  have hl : lv_has ls 3 [(0, .ref (s0.heap.size + 104))] := hl
  have key : ∀ (n : Nat) (k : Nat) (locs : List Loc) (ls : Array Slot), k ≤ 12 → 12 < k + n → lv_has ls 3 [(1, .int (bZ (m_snd M k))), (2, .int (nI k)), (0, .ref (s0.heap.size + 104))] → gx_L s0.heap.size locs → W p l e (headSpec (ws_ yX11_isSound cX11_isSound 3 (some .boolean)) ({ frames := 1, cells := 0, slots := 0, locals := 26 })).room s m ([.ref (s0.heap.size + 104)] : List Value).toArray below meth c s.heap locs 0 0 (MQ below (cQv (.int (bZ (m_snd M 12))) (fun H1 => H1 = s.heap)) ([.ref (s0.heap.size + 104)] : List Value).toArray s 0 0 (cF s0)) (F0 m 4 ls []) := by
    intro n
    induction n with
    | zero =>
      intro k locs ls hk hn hl hL
      omega
    | succ n ih =>
      intro k locs ls hk hn hl hL
      refine lv_iload_n hx hb dX11_isSound_4 rfl (lv_at hl 1 rfl) ?_
      refine lv_bipush (v := 12) hx hb dX11_isSound_5 (by decide) ?_
      refine lv_icmp_ge (tgt := 35) hx hb dX11_isSound_7 (by decide) (fun c7 => ?_) (fun c7 => ?_)
      · have hkc : k = 12 := by have := n_ge (b := 12) c7 (by omega) (by omega); omega
        refine lv_iload_n hx hb dX11_isSound_35 rfl (lv_at hl 0 rfl) ?_
        exact W.zret (v := (bZ (m_snd M k))) hx hb hr (bZ_n _) (fun t ht hW => ⟨ovI (by rw [hkc]), ht⟩) hL dX11_isSound_36
      · have hkc : k < 12 := by have := n_lt (b := 12) c7 (by omega) (by omega); omega
        refine lv_iload_n hx hb dX11_isSound_10 rfl (lv_at hl 0 rfl) ?_
        refine lv_if_eq (tgt := 27) hx hb dX11_isSound_11 (by decide) (fun c11 => ?_) (fun c11 => ?_)
        · refine lv_iconst (v := 0) hx hb dX11_isSound_27 (by decide) ?_
          refine gx_ti (bZ (m_snd M (k + 1))) ((bZ_f (by rw [m_snd, bZ_0.mp c11]; rfl)).symm) ?_
          refine lv_istore_n (lv' := [(1, .int (bZ (m_snd M (k + 1)))), (2, .int (nI k)), (0, .ref (s0.heap.size + 104))]) hx hb dX11_isSound_28 rfl hl (by decide) rfl (fun ls hl => ?_)
          refine lv_iinc (v := nI (k + 1)) (lv' := [(2, .int (nI (k + 1))), (1, .int (bZ (m_snd M (k + 1)))), (0, .ref (s0.heap.size + 104))]) hx hb dX11_isSound_29 hl (k := 1) rfl (nI_1 k) (by decide) rfl (fun ls hl => ?_)
          refine lv_goto (tgt := 4) hx hb dX11_isSound_32 (by decide) ?_
          exact ih (k + 1) _ _ (by omega) (by omega) (lv_sub hl [1, 0, 2] rfl) hL
        · refine lv_aload_n hx hb dX11_isSound_14 rfl (lv_at hl 2 rfl) ?_
          refine lv_iload_n hx hb dX11_isSound_15 rfl (lv_at hl 1 rfl) ?_
          refine cc_v (va_runV (b := s0.heap.size + 104) (As := [.int (nI k)]) (rest := []) ⟨hx, hb, hml, hown, hts⟩ (ct_X11_levelOf (i := k) hE ⟨_, hR⟩ hkc) (cwV 1 hts (lw_V q1012 q1014 qs27 q61 q1015) rfl rfl rfl (by decide +kernel) ⟨Nat.le_of_ble_eq_true rfl, Nat.le_of_ble_eq_true rfl⟩) (cc_pV hW0 (cc_re hK hR.mo (show gcl[10]? = _ from rfl))) rfl rfl hl.1 rfl (lv_room (Nat.le_of_ble_eq_true rfl)) dX11_isSound_16 ⟨Nat.le_of_ble_eq_true rfl, Nat.le_of_ble_eq_true rfl⟩) hL (fun H locs hP1 hL => ?_)
          subst hP1
          refine lv_iconst (v := 4) hx hb dX11_isSound_19 (by decide) ?_
          refine lv_icmp_gt (tgt := 27) hx hb dX11_isSound_20 (by decide) (fun c20 => ?_) (fun c20 => ?_)
          · refine lv_iconst (v := 0) hx hb dX11_isSound_27 (by decide) ?_
            refine gx_ti (bZ (m_snd M (k + 1))) ((bZ_f (by rw [m_snd, decide_eq_false (Int32.not_le.mpr c20), Bool.and_false])).symm) ?_
            refine lv_istore_n (lv' := [(1, .int (bZ (m_snd M (k + 1)))), (2, .int (nI k)), (0, .ref (s0.heap.size + 104))]) hx hb dX11_isSound_28 rfl hl (by decide) rfl (fun ls hl => ?_)
            refine lv_iinc (v := nI (k + 1)) (lv' := [(2, .int (nI (k + 1))), (1, .int (bZ (m_snd M (k + 1)))), (0, .ref (s0.heap.size + 104))]) hx hb dX11_isSound_29 hl (k := 1) rfl (nI_1 k) (by decide) rfl (fun ls hl => ?_)
            refine lv_goto (tgt := 4) hx hb dX11_isSound_32 (by decide) ?_
            exact ih (k + 1) _ _ (by omega) (by omega) (lv_sub hl [1, 0, 2] rfl) hL
          · refine lv_iconst (v := 1) hx hb dX11_isSound_23 (by decide) ?_
            refine lv_goto (tgt := 28) hx hb dX11_isSound_24 (by decide) ?_
            refine gx_ti (bZ (m_snd M (k + 1))) ((bZ_t (by rw [m_snd, bZ_1.mp c11, decide_eq_true (i_nlt c20)]; rfl)).symm) ?_
            refine lv_istore_n (lv' := [(1, .int (bZ (m_snd M (k + 1)))), (2, .int (nI k)), (0, .ref (s0.heap.size + 104))]) hx hb dX11_isSound_28 rfl hl (by decide) rfl (fun ls hl => ?_)
            refine lv_iinc (v := nI (k + 1)) (lv' := [(2, .int (nI (k + 1))), (1, .int (bZ (m_snd M (k + 1)))), (0, .ref (s0.heap.size + 104))]) hx hb dX11_isSound_29 hl (k := 1) rfl (nI_1 k) (by decide) rfl (fun ls hl => ?_)
            refine lv_goto (tgt := 4) hx hb dX11_isSound_32 (by decide) ?_
            exact ih (k + 1) _ _ (by omega) (by omega) (lv_sub hl [1, 0, 2] rfl) hL
  refine lv_iconst (v := 1) hx hb dX11_isSound_0 (by decide) ?_
  refine gx_ti (bZ (m_snd M 0)) (rfl) ?_
  refine lv_istore_n (lv' := [(1, .int (bZ (m_snd M 0))), (0, .ref (s0.heap.size + 104))]) hx hb dX11_isSound_1 rfl hl (by decide) rfl (fun ls hl => ?_)
  refine lv_iconst (v := 0) hx hb dX11_isSound_2 (by decide) ?_
  refine gx_ti (nI 0) (by decide) ?_
  refine lv_istore_n (lv' := [(2, .int (nI 0)), (1, .int (bZ (m_snd M 0))), (0, .ref (s0.heap.size + 104))]) hx hb dX11_isSound_3 rfl hl (by decide) rfl (fun ls hl => ?_)
  exact key 13 0 _ _ (by omega) (by omega) (lv_sub hl [1, 0, 2] rfl) hL
set_option maxHeartbeats 4000000 in
set_option maxRecDepth 100000 in
/-- setLine -/
theorem ct_X11_setLine {l : Launch} {s0 : State} {D : va_G} {DA : Nat → ClassId} {z0 : Nat} {C : CS} {M : MS} {o : Int64} {H : Heap} (hE : G0 l s0 D DA z0) (hR : RR s0 D DA z0 C M o H) {ln : Nat} (hln : ln < 144) (nn f t : Int32) : Met l yX11_setLine (ws_ yX11_setLine cX11_setLine 5 none) ({ frames := 0, cells := 0, slots := 0, locals := 0 }) (cP s0 [.ref (s0.heap.size + 104), .int (nI ln), .int nn, .int f, .int t] H) (cQ0 (fun H1 => RR s0 D DA z0 C (m_setL M ln nn f t) o H1)) 0 0 (cF s0) := by
  refine Met.ofW (cc := cX11_setLine) (maxL := 5) (ret := none) (by decide) rfl ?_
  intro p e s m args below meth c s₁ Bd hml hv
  obtain ⟨rfl, rfl, hW0⟩ := hv
  have hx := Bd.exec
  have hb := Bd.bytes
  have hr := Bd.returns
  have hts := atoms_spec (ws := (ws_ yX11_setLine cX11_setLine 5 none)) Bd.pre
  have hts : ∀ w ∈ lw_all, w.before _ s = true := fun w h => hts w (List.mem_cons_of_mem _ h)
  have hown : s.vm.findClass RX11 = some m.cls := findClass_of_methodNamed Bd.named
  have hlocks := Bd.notSynchronized
  have hK := va_K.moved hW0.alike hE.K
  have hL : gx_L s0.heap.size ([] : List Loc) := gx_L0
  obtain ⟨Y, hR⟩ := hR
  have hl := lv_entry ([.ref (s0.heap.size + 104), .int (nI ln), .int nn, .int f, .int t]) (n := 5) (Nat.le_of_ble_eq_true rfl)
  rw [lg_entry_eq]
  generalize (lg_sl ([.ref (s0.heap.size + 104), .int (nI ln), .int nn, .int f, .int t]) ++ List.replicate (5 - (lg_sl ([.ref (s0.heap.size + 104), .int (nI ln), .int nn, .int f, .int t])).length) Slot.unset).toArray = ls at hl ⊢
  have hl : lv_has ls 5 [(0, .ref (s0.heap.size + 104)), (1, .int (nI ln)), (2, .int nn), (3, .int f), (4, .int t)] := hl
  refine lv_aload_n hx hb dX11_setLine_0 rfl (lv_at hl 0 rfl) ?_
  refine lv_aload_n hx hb dX11_setLine_1 rfl (lv_at hl 0 rfl) ?_
  refine gx_get (D := D) (cl := gcl) (ci := 10) (v := .int (mS M 14)) (C := RX11) (T := TX11) (N := 27) hx hb hts in_X11 hown hK hR.mo rfl 14 (by decide) (hts _ q900) (fun _ h9 => h9) rfl dX11_setLine_2 ?_
  refine lv_iload_n hx hb dX11_setLine_5 rfl (lv_at hl 2 rfl) ?_
  refine lv_if_le (tgt := 13) hx hb dX11_setLine_6 (by decide) (fun c6 => ?_) (fun c6 => ?_)
  · refine lv_iconst (v := 0) hx hb dX11_setLine_13 (by decide) ?_
    refine gx_ti (bZ (decide (0 < nn))) ((bZ_f (decide_eq_false (Int32.not_lt.mpr c6))).symm) ?_
    refine lv_iadd hx hb dX11_setLine_14 ?_
    refine lv_aload_n hx hb dX11_setLine_15 rfl (lv_at hl 0 rfl) ?_
    refine gx_get (D := D) (cl := gcl) (ci := 10) (v := .ref (mad s0.heap.size 10)) (C := RX11) (T := TX11) (N := 27) hx hb hts in_X11 hown hK hR.mo rfl 11 (by decide) (hts _ q897) (fun _ h9 => h9) rfl dX11_setLine_16 ?_
    refine lv_iload_n hx hb dX11_setLine_19 rfl (lv_at hl 1 rfl) ?_
    refine gx_iald (n := 144) hx hb hK 1 (hR.mia 10 (by decide)) rfl ln (rfl) (by omega) (by decide) dX11_setLine_20 ?_
    refine lv_if_le (tgt := 28) hx hb dX11_setLine_21 (by decide) (fun c21 => ?_) (fun c21 => ?_)
    · refine lv_iconst (v := 0) hx hb dX11_setLine_28 (by decide) ?_
      refine gx_ti (bZ (decide (0 < mI M 10 ln))) ((bZ_f (decide_eq_false (Int32.not_lt.mpr c21))).symm) ?_
      refine lv_isub hx hb dX11_setLine_29 ?_
      refine gx_put (D := D) (cl := gcl) (ci := 10) (v := .int (((mS M 14) + (bZ (decide (0 < nn)))) - (bZ (decide (0 < mI M 10 ln))))) (ty := .int) (C := RX11) (T := TX11) (N := 27) hx hb hts in_X11 tyX11 tyX11_ok nmX11 hown hK hR.mo rfl 14 (by decide) (hts _ q900) (fun _ h9 => h9) rfl (by decide +kernel) (rfl) rfl (Nat.le_of_ble_eq_true rfl) hL (by (try simp only [aI, aA, aT, aB, aL, mad]); omega) dX11_setLine_30 (fun H locs hU hA hL => ?_)
      have hR := GRb.pMS (j := 14) (by decide) hR hU hA
      refine lv_aload_n hx hb dX11_setLine_33 rfl (lv_at hl 0 rfl) ?_
      refine gx_get (D := D) (cl := gcl) (ci := 10) (v := .ref (mad s0.heap.size 10)) (C := RX11) (T := TX11) (N := 27) hx hb hts in_X11 hown hK hR.mo rfl 11 (by decide) (hts _ q897) (fun _ h9 => h9) rfl dX11_setLine_34 ?_
      refine lv_iload_n hx hb dX11_setLine_37 rfl (lv_at hl 1 rfl) ?_
      refine lv_iload_n hx hb dX11_setLine_38 rfl (lv_at hl 2 rfl) ?_
      refine gx_iast (n := 144) hx hb hK 1 (hR.mia 10 (by decide)) rfl ln (rfl) (by omega) (by decide) hL (by (try simp only [aI, aA, aT, aB, aL, mad]); omega) dX11_setLine_39 (fun H locs hU hA hL => ?_)
      have hR := GRb.pMI (j := 10) (by decide) hR hU hA
      refine lv_aload_n hx hb dX11_setLine_40 rfl (lv_at hl 0 rfl) ?_
      refine gx_get (D := D) (cl := gcl) (ci := 10) (v := .ref (mad s0.heap.size 11)) (C := RX11) (T := TX11) (N := 27) hx hb hts in_X11 hown hK hR.mo rfl 12 (by decide) (hts _ q898) (fun _ h9 => h9) rfl dX11_setLine_41 ?_
      refine lv_iload_n hx hb dX11_setLine_44 rfl (lv_at hl 1 rfl) ?_
      refine lv_iload_n hx hb dX11_setLine_45 rfl (lv_at hl 3 rfl) ?_
      refine gx_iast (n := 144) hx hb hK 1 (hR.mia 11 (by decide)) rfl ln (rfl) (by omega) (by decide) hL (by (try simp only [aI, aA, aT, aB, aL, mad]); omega) dX11_setLine_46 (fun H locs hU hA hL => ?_)
      have hR := GRb.pMI (j := 11) (by decide) hR hU hA
      refine lv_aload_n hx hb dX11_setLine_47 rfl (lv_at hl 0 rfl) ?_
      refine gx_get (D := D) (cl := gcl) (ci := 10) (v := .ref (mad s0.heap.size 12)) (C := RX11) (T := TX11) (N := 27) hx hb hts in_X11 hown hK hR.mo rfl 13 (by decide) (hts _ q899) (fun _ h9 => h9) rfl dX11_setLine_48 ?_
      refine lv_iload_n hx hb dX11_setLine_51 rfl (lv_at hl 1 rfl) ?_
      refine lv_iload hx hb dX11_setLine_52 (lv_at hl 4 rfl) ?_
      refine gx_iast (n := 144) hx hb hK 1 (hR.mia 12 (by decide)) rfl ln (rfl) (by omega) (by decide) hL (by (try simp only [aI, aA, aT, aB, aL, mad]); omega) dX11_setLine_54 (fun H locs hU hA hL => ?_)
      have hR := GRb.pMI (j := 12) (by decide) hR hU hA
      exact W.vret hx hb hr (fun t ht hW => ⟨rfl, by rw [ht]; exact ⟨_, hR⟩⟩) hL dX11_setLine_55
    · refine lv_iconst (v := 1) hx hb dX11_setLine_24 (by decide) ?_
      refine lv_goto (tgt := 29) hx hb dX11_setLine_25 (by decide) ?_
      refine gx_ti (bZ (decide (0 < mI M 10 ln))) ((bZ_t (decide_eq_true (i_nle c21))).symm) ?_
      refine lv_isub hx hb dX11_setLine_29 ?_
      refine gx_put (D := D) (cl := gcl) (ci := 10) (v := .int (((mS M 14) + (bZ (decide (0 < nn)))) - (bZ (decide (0 < mI M 10 ln))))) (ty := .int) (C := RX11) (T := TX11) (N := 27) hx hb hts in_X11 tyX11 tyX11_ok nmX11 hown hK hR.mo rfl 14 (by decide) (hts _ q900) (fun _ h9 => h9) rfl (by decide +kernel) (rfl) rfl (Nat.le_of_ble_eq_true rfl) hL (by (try simp only [aI, aA, aT, aB, aL, mad]); omega) dX11_setLine_30 (fun H locs hU hA hL => ?_)
      have hR := GRb.pMS (j := 14) (by decide) hR hU hA
      refine lv_aload_n hx hb dX11_setLine_33 rfl (lv_at hl 0 rfl) ?_
      refine gx_get (D := D) (cl := gcl) (ci := 10) (v := .ref (mad s0.heap.size 10)) (C := RX11) (T := TX11) (N := 27) hx hb hts in_X11 hown hK hR.mo rfl 11 (by decide) (hts _ q897) (fun _ h9 => h9) rfl dX11_setLine_34 ?_
      refine lv_iload_n hx hb dX11_setLine_37 rfl (lv_at hl 1 rfl) ?_
      refine lv_iload_n hx hb dX11_setLine_38 rfl (lv_at hl 2 rfl) ?_
      refine gx_iast (n := 144) hx hb hK 1 (hR.mia 10 (by decide)) rfl ln (rfl) (by omega) (by decide) hL (by (try simp only [aI, aA, aT, aB, aL, mad]); omega) dX11_setLine_39 (fun H locs hU hA hL => ?_)
      have hR := GRb.pMI (j := 10) (by decide) hR hU hA
      refine lv_aload_n hx hb dX11_setLine_40 rfl (lv_at hl 0 rfl) ?_
      refine gx_get (D := D) (cl := gcl) (ci := 10) (v := .ref (mad s0.heap.size 11)) (C := RX11) (T := TX11) (N := 27) hx hb hts in_X11 hown hK hR.mo rfl 12 (by decide) (hts _ q898) (fun _ h9 => h9) rfl dX11_setLine_41 ?_
      refine lv_iload_n hx hb dX11_setLine_44 rfl (lv_at hl 1 rfl) ?_
      refine lv_iload_n hx hb dX11_setLine_45 rfl (lv_at hl 3 rfl) ?_
      refine gx_iast (n := 144) hx hb hK 1 (hR.mia 11 (by decide)) rfl ln (rfl) (by omega) (by decide) hL (by (try simp only [aI, aA, aT, aB, aL, mad]); omega) dX11_setLine_46 (fun H locs hU hA hL => ?_)
      have hR := GRb.pMI (j := 11) (by decide) hR hU hA
      refine lv_aload_n hx hb dX11_setLine_47 rfl (lv_at hl 0 rfl) ?_
      refine gx_get (D := D) (cl := gcl) (ci := 10) (v := .ref (mad s0.heap.size 12)) (C := RX11) (T := TX11) (N := 27) hx hb hts in_X11 hown hK hR.mo rfl 13 (by decide) (hts _ q899) (fun _ h9 => h9) rfl dX11_setLine_48 ?_
      refine lv_iload_n hx hb dX11_setLine_51 rfl (lv_at hl 1 rfl) ?_
      refine lv_iload hx hb dX11_setLine_52 (lv_at hl 4 rfl) ?_
      refine gx_iast (n := 144) hx hb hK 1 (hR.mia 12 (by decide)) rfl ln (rfl) (by omega) (by decide) hL (by (try simp only [aI, aA, aT, aB, aL, mad]); omega) dX11_setLine_54 (fun H locs hU hA hL => ?_)
      have hR := GRb.pMI (j := 12) (by decide) hR hU hA
      exact W.vret hx hb hr (fun t ht hW => ⟨rfl, by rw [ht]; exact ⟨_, hR⟩⟩) hL dX11_setLine_55
  · refine lv_iconst (v := 1) hx hb dX11_setLine_9 (by decide) ?_
    refine lv_goto (tgt := 14) hx hb dX11_setLine_10 (by decide) ?_
    refine gx_ti (bZ (decide (0 < nn))) ((bZ_t (decide_eq_true (i_nle c6))).symm) ?_
    refine lv_iadd hx hb dX11_setLine_14 ?_
    refine lv_aload_n hx hb dX11_setLine_15 rfl (lv_at hl 0 rfl) ?_
    refine gx_get (D := D) (cl := gcl) (ci := 10) (v := .ref (mad s0.heap.size 10)) (C := RX11) (T := TX11) (N := 27) hx hb hts in_X11 hown hK hR.mo rfl 11 (by decide) (hts _ q897) (fun _ h9 => h9) rfl dX11_setLine_16 ?_
    refine lv_iload_n hx hb dX11_setLine_19 rfl (lv_at hl 1 rfl) ?_
    refine gx_iald (n := 144) hx hb hK 1 (hR.mia 10 (by decide)) rfl ln (rfl) (by omega) (by decide) dX11_setLine_20 ?_
    refine lv_if_le (tgt := 28) hx hb dX11_setLine_21 (by decide) (fun c21 => ?_) (fun c21 => ?_)
    · refine lv_iconst (v := 0) hx hb dX11_setLine_28 (by decide) ?_
      refine gx_ti (bZ (decide (0 < mI M 10 ln))) ((bZ_f (decide_eq_false (Int32.not_lt.mpr c21))).symm) ?_
      refine lv_isub hx hb dX11_setLine_29 ?_
      refine gx_put (D := D) (cl := gcl) (ci := 10) (v := .int (((mS M 14) + (bZ (decide (0 < nn)))) - (bZ (decide (0 < mI M 10 ln))))) (ty := .int) (C := RX11) (T := TX11) (N := 27) hx hb hts in_X11 tyX11 tyX11_ok nmX11 hown hK hR.mo rfl 14 (by decide) (hts _ q900) (fun _ h9 => h9) rfl (by decide +kernel) (rfl) rfl (Nat.le_of_ble_eq_true rfl) hL (by (try simp only [aI, aA, aT, aB, aL, mad]); omega) dX11_setLine_30 (fun H locs hU hA hL => ?_)
      have hR := GRb.pMS (j := 14) (by decide) hR hU hA
      refine lv_aload_n hx hb dX11_setLine_33 rfl (lv_at hl 0 rfl) ?_
      refine gx_get (D := D) (cl := gcl) (ci := 10) (v := .ref (mad s0.heap.size 10)) (C := RX11) (T := TX11) (N := 27) hx hb hts in_X11 hown hK hR.mo rfl 11 (by decide) (hts _ q897) (fun _ h9 => h9) rfl dX11_setLine_34 ?_
      refine lv_iload_n hx hb dX11_setLine_37 rfl (lv_at hl 1 rfl) ?_
      refine lv_iload_n hx hb dX11_setLine_38 rfl (lv_at hl 2 rfl) ?_
      refine gx_iast (n := 144) hx hb hK 1 (hR.mia 10 (by decide)) rfl ln (rfl) (by omega) (by decide) hL (by (try simp only [aI, aA, aT, aB, aL, mad]); omega) dX11_setLine_39 (fun H locs hU hA hL => ?_)
      have hR := GRb.pMI (j := 10) (by decide) hR hU hA
      refine lv_aload_n hx hb dX11_setLine_40 rfl (lv_at hl 0 rfl) ?_
      refine gx_get (D := D) (cl := gcl) (ci := 10) (v := .ref (mad s0.heap.size 11)) (C := RX11) (T := TX11) (N := 27) hx hb hts in_X11 hown hK hR.mo rfl 12 (by decide) (hts _ q898) (fun _ h9 => h9) rfl dX11_setLine_41 ?_
      refine lv_iload_n hx hb dX11_setLine_44 rfl (lv_at hl 1 rfl) ?_
      refine lv_iload_n hx hb dX11_setLine_45 rfl (lv_at hl 3 rfl) ?_
      refine gx_iast (n := 144) hx hb hK 1 (hR.mia 11 (by decide)) rfl ln (rfl) (by omega) (by decide) hL (by (try simp only [aI, aA, aT, aB, aL, mad]); omega) dX11_setLine_46 (fun H locs hU hA hL => ?_)
      have hR := GRb.pMI (j := 11) (by decide) hR hU hA
      refine lv_aload_n hx hb dX11_setLine_47 rfl (lv_at hl 0 rfl) ?_
      refine gx_get (D := D) (cl := gcl) (ci := 10) (v := .ref (mad s0.heap.size 12)) (C := RX11) (T := TX11) (N := 27) hx hb hts in_X11 hown hK hR.mo rfl 13 (by decide) (hts _ q899) (fun _ h9 => h9) rfl dX11_setLine_48 ?_
      refine lv_iload_n hx hb dX11_setLine_51 rfl (lv_at hl 1 rfl) ?_
      refine lv_iload hx hb dX11_setLine_52 (lv_at hl 4 rfl) ?_
      refine gx_iast (n := 144) hx hb hK 1 (hR.mia 12 (by decide)) rfl ln (rfl) (by omega) (by decide) hL (by (try simp only [aI, aA, aT, aB, aL, mad]); omega) dX11_setLine_54 (fun H locs hU hA hL => ?_)
      have hR := GRb.pMI (j := 12) (by decide) hR hU hA
      exact W.vret hx hb hr (fun t ht hW => ⟨rfl, by rw [ht]; exact ⟨_, hR⟩⟩) hL dX11_setLine_55
    · refine lv_iconst (v := 1) hx hb dX11_setLine_24 (by decide) ?_
      refine lv_goto (tgt := 29) hx hb dX11_setLine_25 (by decide) ?_
      refine gx_ti (bZ (decide (0 < mI M 10 ln))) ((bZ_t (decide_eq_true (i_nle c21))).symm) ?_
      refine lv_isub hx hb dX11_setLine_29 ?_
      refine gx_put (D := D) (cl := gcl) (ci := 10) (v := .int (((mS M 14) + (bZ (decide (0 < nn)))) - (bZ (decide (0 < mI M 10 ln))))) (ty := .int) (C := RX11) (T := TX11) (N := 27) hx hb hts in_X11 tyX11 tyX11_ok nmX11 hown hK hR.mo rfl 14 (by decide) (hts _ q900) (fun _ h9 => h9) rfl (by decide +kernel) (rfl) rfl (Nat.le_of_ble_eq_true rfl) hL (by (try simp only [aI, aA, aT, aB, aL, mad]); omega) dX11_setLine_30 (fun H locs hU hA hL => ?_)
      have hR := GRb.pMS (j := 14) (by decide) hR hU hA
      refine lv_aload_n hx hb dX11_setLine_33 rfl (lv_at hl 0 rfl) ?_
      refine gx_get (D := D) (cl := gcl) (ci := 10) (v := .ref (mad s0.heap.size 10)) (C := RX11) (T := TX11) (N := 27) hx hb hts in_X11 hown hK hR.mo rfl 11 (by decide) (hts _ q897) (fun _ h9 => h9) rfl dX11_setLine_34 ?_
      refine lv_iload_n hx hb dX11_setLine_37 rfl (lv_at hl 1 rfl) ?_
      refine lv_iload_n hx hb dX11_setLine_38 rfl (lv_at hl 2 rfl) ?_
      refine gx_iast (n := 144) hx hb hK 1 (hR.mia 10 (by decide)) rfl ln (rfl) (by omega) (by decide) hL (by (try simp only [aI, aA, aT, aB, aL, mad]); omega) dX11_setLine_39 (fun H locs hU hA hL => ?_)
      have hR := GRb.pMI (j := 10) (by decide) hR hU hA
      refine lv_aload_n hx hb dX11_setLine_40 rfl (lv_at hl 0 rfl) ?_
      refine gx_get (D := D) (cl := gcl) (ci := 10) (v := .ref (mad s0.heap.size 11)) (C := RX11) (T := TX11) (N := 27) hx hb hts in_X11 hown hK hR.mo rfl 12 (by decide) (hts _ q898) (fun _ h9 => h9) rfl dX11_setLine_41 ?_
      refine lv_iload_n hx hb dX11_setLine_44 rfl (lv_at hl 1 rfl) ?_
      refine lv_iload_n hx hb dX11_setLine_45 rfl (lv_at hl 3 rfl) ?_
      refine gx_iast (n := 144) hx hb hK 1 (hR.mia 11 (by decide)) rfl ln (rfl) (by omega) (by decide) hL (by (try simp only [aI, aA, aT, aB, aL, mad]); omega) dX11_setLine_46 (fun H locs hU hA hL => ?_)
      have hR := GRb.pMI (j := 11) (by decide) hR hU hA
      refine lv_aload_n hx hb dX11_setLine_47 rfl (lv_at hl 0 rfl) ?_
      refine gx_get (D := D) (cl := gcl) (ci := 10) (v := .ref (mad s0.heap.size 12)) (C := RX11) (T := TX11) (N := 27) hx hb hts in_X11 hown hK hR.mo rfl 13 (by decide) (hts _ q899) (fun _ h9 => h9) rfl dX11_setLine_48 ?_
      refine lv_iload_n hx hb dX11_setLine_51 rfl (lv_at hl 1 rfl) ?_
      refine lv_iload hx hb dX11_setLine_52 (lv_at hl 4 rfl) ?_
      refine gx_iast (n := 144) hx hb hK 1 (hR.mia 12 (by decide)) rfl ln (rfl) (by omega) (by decide) hL (by (try simp only [aI, aA, aT, aB, aL, mad]); omega) dX11_setLine_54 (fun H locs hU hA hL => ?_)
      have hR := GRb.pMI (j := 12) (by decide) hR hU hA
      exact W.vret hx hb hr (fun t ht hW => ⟨rfl, by rw [ht]; exact ⟨_, hR⟩⟩) hL dX11_setLine_55
set_option maxHeartbeats 4000000 in
set_option maxRecDepth 100000 in
/-- level -/
theorem ct_X11_level {l : Launch} {s0 : State} {D : va_G} {DA : Nat → ClassId} {z0 : Nat} {C : CS} {M : MS} {o : Int64} {H : Heap} (hE : G0 l s0 D DA z0) (hR : RR s0 D DA z0 C M o H) (i : Int32) : Met l yX11_level (ws_ yX11_level cX11_level 2 (some .int)) ({ frames := 2, cells := 0, slots := 0, locals := 42 }) (cP s0 [.ref (s0.heap.size + 104), .int i] H) (cQv (.int (m_levr M i)) (fun H1 => RR s0 D DA z0 C (mz M 0 (x_lev i)) o H1)) 0 0 (cF s0) := by
  refine Met.ofW (cc := cX11_level) (maxL := 2) (ret := (some .int)) (by decide) rfl ?_
  intro p e s m args below meth c s₁ Bd hml hv
  obtain ⟨rfl, rfl, hW0⟩ := hv
  have hx := Bd.exec
  have hb := Bd.bytes
  have hr := Bd.returns
  have hts := atoms_spec (ws := (ws_ yX11_level cX11_level 2 (some .int))) Bd.pre
  have hts : ∀ w ∈ lw_all, w.before _ s = true := fun w h => hts w (List.mem_cons_of_mem _ h)
  have hown : s.vm.findClass RX11 = some m.cls := findClass_of_methodNamed Bd.named
  have hlocks := Bd.notSynchronized
  have hK := va_K.moved hW0.alike hE.K
  have hL : gx_L s0.heap.size ([] : List Loc) := gx_L0
  obtain ⟨Y, hR⟩ := hR
  have hl := lv_entry ([.ref (s0.heap.size + 104), .int i]) (n := 2) (Nat.le_of_ble_eq_true rfl)
  rw [lg_entry_eq]
  generalize (lg_sl ([.ref (s0.heap.size + 104), .int i]) ++ List.replicate (2 - (lg_sl ([.ref (s0.heap.size + 104), .int i])).length) Slot.unset).toArray = ls at hl ⊢
  have hl : lv_has ls 2 [(0, .ref (s0.heap.size + 104)), (1, .int i)] := hl
  refine lv_aload_n hx hb dX11_level_0 rfl (lv_at hl 0 rfl) ?_
  refine lv_iload_n hx hb dX11_level_1 rfl (lv_at hl 1 rfl) ?_
  refine cc_v (va_runS (As := [.int i]) (rest := [.ref (s0.heap.size + 104)]) ⟨hx, hb, hml, hown, hts⟩ (ct_X11_isTwelve hE i) (va_cwS 1 hts (lw_S q980 q981 q61 q982) rfl rfl rfl (by decide +kernel) ⟨Nat.le_of_ble_eq_true rfl, Nat.le_of_ble_eq_true rfl⟩) (cc_pS hW0) rfl rfl hl.1 rfl (lv_room (Nat.le_of_ble_eq_true rfl)) dX11_level_2 ⟨Nat.le_of_ble_eq_true rfl, Nat.le_of_ble_eq_true rfl⟩) hL (fun H locs hP1 hL => ?_)
  subst hP1
  refine lv_if_eq (tgt := 12) hx hb dX11_level_5 (by decide) (fun c5 => ?_) (fun c5 => ?_)
  · refine lv_iconst (v := 1) hx hb dX11_level_12 (by decide) ?_
    refine cc_v (va_runV (b := s0.heap.size + 104) (As := [.int 1]) (rest := []) ⟨hx, hb, hml, hown, hts⟩ (ct_X11_refused hE ⟨_, hR⟩ 1) (cwV 1 hts (lw_V q983 q985 qs23 q61 q986) rfl rfl rfl (by decide +kernel) ⟨Nat.le_of_ble_eq_true rfl, Nat.le_of_ble_eq_true rfl⟩) (cc_pV hW0 (cc_re hK hR.mo (show gcl[10]? = _ from rfl))) rfl rfl hl.1 rfl (lv_room (Nat.le_of_ble_eq_true rfl)) dX11_level_13 ⟨Nat.le_of_ble_eq_true rfl, Nat.le_of_ble_eq_true rfl⟩) hL (fun H locs hP1 hL => ?_)
    obtain ⟨Y, hR⟩ := hP1
    refine lv_if_eq (tgt := 23) hx hb dX11_level_16 (by decide) (fun c16 => ?_) (fun c16 => ?_)
    · exact absurd c16 (by decide)
    · refine lv_iconst (v := 0) hx hb dX11_level_19 (by decide) ?_
      refine lv_goto (tgt := 28) hx hb dX11_level_20 (by decide) ?_
      exact W.iret (v := 0) hx hb hr (fun t ht hW => ⟨ovI (by unfold m_levr; rw [bZ_0.mp c5]; rfl), by rw [ht]; exact (by unfold x_lev; rw [bZ_0.mp c5]; exact ⟨_, hR⟩)⟩) hL dX11_level_28
  · obtain ⟨k, hk, rfl⟩ := in12_t (bZ_1.mp c5)
    refine lv_iconst (v := 0) hx hb dX11_level_8 (by decide) ?_
    refine lv_goto (tgt := 13) hx hb dX11_level_9 (by decide) ?_
    refine cc_v (va_runV (b := s0.heap.size + 104) (As := [.int 0]) (rest := []) ⟨hx, hb, hml, hown, hts⟩ (ct_X11_refused hE ⟨_, hR⟩ 0) (cwV 1 hts (lw_V q983 q985 qs23 q61 q986) rfl rfl rfl (by decide +kernel) ⟨Nat.le_of_ble_eq_true rfl, Nat.le_of_ble_eq_true rfl⟩) (cc_pV hW0 (cc_re hK hR.mo (show gcl[10]? = _ from rfl))) rfl rfl hl.1 rfl (lv_room (Nat.le_of_ble_eq_true rfl)) dX11_level_13 ⟨Nat.le_of_ble_eq_true rfl, Nat.le_of_ble_eq_true rfl⟩) hL (fun H locs hP1 hL => ?_)
    obtain ⟨Y, hR⟩ := hP1
    refine lv_if_eq (tgt := 23) hx hb dX11_level_16 (by decide) (fun c16 => ?_) (fun c16 => ?_)
    · refine lv_aload_n hx hb dX11_level_23 rfl (lv_at hl 0 rfl) ?_
      refine lv_iload_n hx hb dX11_level_24 rfl (lv_at hl 1 rfl) ?_
      refine cc_v (va_runV (b := s0.heap.size + 104) (As := [.int (nI k)]) (rest := []) ⟨hx, hb, hml, hown, hts⟩ (ct_X11_levelOf (i := k) hE ⟨_, hR⟩ hk) (cwV 1 hts (lw_V q1012 q1014 qs27 q61 q1015) rfl rfl rfl (by decide +kernel) ⟨Nat.le_of_ble_eq_true rfl, Nat.le_of_ble_eq_true rfl⟩) (cc_pV hW0 (cc_re hK hR.mo (show gcl[10]? = _ from rfl))) rfl rfl hl.1 rfl (lv_room (Nat.le_of_ble_eq_true rfl)) dX11_level_25 ⟨Nat.le_of_ble_eq_true rfl, Nat.le_of_ble_eq_true rfl⟩) hL (fun H locs hP1 hL => ?_)
      subst hP1
      exact W.iret (v := (m_lvl (mz M 0 0) k)) hx hb hr (fun t ht hW => ⟨ovI (by unfold m_levr; rw [in12_n hk, if_pos rfl, nI_cl hk]; exact m_lvl_c rfl k), by rw [ht]; exact (by unfold x_lev; rw [in12_n hk, if_pos rfl]; exact ⟨_, hR⟩)⟩) hL dX11_level_28
    · exact absurd c16 (by decide)
set_option maxHeartbeats 4000000 in
set_option maxRecDepth 100000 in
/-- count -/
theorem ct_X11_count {l : Launch} {s0 : State} {D : va_G} {DA : Nat → ClassId} {z0 : Nat} {C : CS} {M : MS} {o : Int64} {H : Heap} (hE : G0 l s0 D DA z0) (hR : RR s0 D DA z0 C M o H) (k : Int32) (hC : MC M) : Met l yX11_count (ws_ yX11_count cX11_count 2 (some .int)) ({ frames := 3, cells := 0, slots := 0, locals := 72 }) (cP s0 [.ref (s0.heap.size + 104), .int k] H) (cQv (.int (m_cnt M k)) (fun H1 => RR s0 D DA z0 C (mz M 0 (x_count M k)) o H1)) 0 0 (cF s0) := by
  refine Met.ofW (cc := cX11_count) (maxL := 2) (ret := (some .int)) (by decide) rfl ?_
  intro p e s m args below meth c s₁ Bd hml hv
  obtain ⟨rfl, rfl, hW0⟩ := hv
  have hx := Bd.exec
  have hb := Bd.bytes
  have hr := Bd.returns
  have hts := atoms_spec (ws := (ws_ yX11_count cX11_count 2 (some .int))) Bd.pre
  have hts : ∀ w ∈ lw_all, w.before _ s = true := fun w h => hts w (List.mem_cons_of_mem _ h)
  have hown : s.vm.findClass RX11 = some m.cls := findClass_of_methodNamed Bd.named
  have hlocks := Bd.notSynchronized
  have hK := va_K.moved hW0.alike hE.K
  have hL : gx_L s0.heap.size ([] : List Loc) := gx_L0
  obtain ⟨Y, hR⟩ := hR
  have hl := lv_entry ([.ref (s0.heap.size + 104), .int k]) (n := 2) (Nat.le_of_ble_eq_true rfl)
  rw [lg_entry_eq]
  generalize (lg_sl ([.ref (s0.heap.size + 104), .int k]) ++ List.replicate (2 - (lg_sl ([.ref (s0.heap.size + 104), .int k])).length) Slot.unset).toArray = ls at hl ⊢
  have hl : lv_has ls 2 [(0, .ref (s0.heap.size + 104)), (1, .int k)] := hl
  refine lv_aload_n hx hb dX11_count_0 rfl (lv_at hl 0 rfl) ?_
  refine lv_iload_n hx hb dX11_count_1 rfl (lv_at hl 1 rfl) ?_
  refine lv_iconst (v := 4) hx hb dX11_count_2 (by decide) ?_
  refine lv_icmp_ne (tgt := 17) hx hb dX11_count_3 (by decide) (fun c3 => ?_) (fun c3 => ?_)
  · have hx0 : x_count M k = 0 := if_neg (fun q => c3 q.1)
    refine lv_iconst (v := 0) hx hb dX11_count_17 (by decide) ?_
    refine cc_v (va_runV (b := s0.heap.size + 104) (As := [.int 0]) (rest := []) ⟨hx, hb, hml, hown, hts⟩ (ct_X11_refused hE ⟨_, hR⟩ 0) (cwV 1 hts (lw_V q983 q985 qs23 q61 q986) rfl rfl rfl (by decide +kernel) ⟨Nat.le_of_ble_eq_true rfl, Nat.le_of_ble_eq_true rfl⟩) (cc_pV hW0 (cc_re hK hR.mo (show gcl[10]? = _ from rfl))) rfl rfl hl.1 rfl (lv_room (Nat.le_of_ble_eq_true rfl)) dX11_count_18 ⟨Nat.le_of_ble_eq_true rfl, Nat.le_of_ble_eq_true rfl⟩) hL (fun H locs hP1 hL => ?_)
    obtain ⟨Y, hR⟩ := hP1
    refine lv_if_eq (tgt := 26) hx hb dX11_count_21 (by decide) (fun c21 => ?_) (fun c21 => ?_)
    · refine lv_iload_n hx hb dX11_count_26 rfl (lv_at hl 1 rfl) ?_
      by_cases e0 : k = 0
      · refine gx_ti (0) (e0) ?_
        refine lv_tableIn (tgt := 64) hx hb dX11_count_27 (by decide) (by decide) rfl (by decide) ?_
        refine lv_aload_n hx hb dX11_count_64 rfl (lv_at hl 0 rfl) ?_
        refine gx_get (D := D) (cl := gcl) (ci := 10) (v := .int (mS (mz M 0 0) 14)) (C := RX11) (T := TX11) (N := 27) hx hb hts in_X11 hown hK hR.mo rfl 14 (by decide) (hts _ q900) (fun _ h9 => h9) rfl dX11_count_65 ?_
        exact W.iret (v := (mS (mz M 0 0) 14)) hx hb hr (fun t ht hW => ⟨ovI (by unfold m_cnt; rw [if_neg (by rw [hx0]; decide), if_pos e0]; rfl), by rw [ht]; exact (by rw [hx0]; exact ⟨_, hR⟩)⟩) hL dX11_count_68
      by_cases e1 : k = 1
      · refine gx_ti (1) (e1) ?_
        refine lv_tableIn (tgt := 69) hx hb dX11_count_27 (by decide) (by decide) rfl (by decide) ?_
        refine lv_aload_n hx hb dX11_count_69 rfl (lv_at hl 0 rfl) ?_
        refine gx_get (D := D) (cl := gcl) (ci := 10) (v := .ref (mad s0.heap.size 13)) (C := RX11) (T := TX11) (N := 27) hx hb hts in_X11 hown hK hR.mo rfl 15 (by decide) (hts _ q901) (fun _ h9 => h9) rfl dX11_count_70 ?_
        refine lv_iconst (v := 0) hx hb dX11_count_73 (by decide) ?_
        refine gx_iald (n := 3) hx hb hK 1 (hR.mia 13 (by decide)) rfl 0 (by decide) (by decide) (by decide) dX11_count_74 ?_
        exact W.iret (v := (mI (mz M 0 0) 13 0)) hx hb hr (fun t ht hW => ⟨ovI (by unfold m_cnt; rw [if_neg (by rw [hx0]; decide), if_neg e0, if_pos e1]; rfl), by rw [ht]; exact (by rw [hx0]; exact ⟨_, hR⟩)⟩) hL dX11_count_75
      by_cases e2 : k = 2
      · refine gx_ti (2) (e2) ?_
        refine lv_tableIn (tgt := 76) hx hb dX11_count_27 (by decide) (by decide) rfl (by decide) ?_
        refine lv_aload_n hx hb dX11_count_76 rfl (lv_at hl 0 rfl) ?_
        refine gx_get (D := D) (cl := gcl) (ci := 10) (v := .ref (mad s0.heap.size 13)) (C := RX11) (T := TX11) (N := 27) hx hb hts in_X11 hown hK hR.mo rfl 15 (by decide) (hts _ q901) (fun _ h9 => h9) rfl dX11_count_77 ?_
        refine lv_iconst (v := 1) hx hb dX11_count_80 (by decide) ?_
        refine gx_iald (n := 3) hx hb hK 1 (hR.mia 13 (by decide)) rfl 1 (by decide) (by decide) (by decide) dX11_count_81 ?_
        exact W.iret (v := (mI (mz M 0 0) 13 1)) hx hb hr (fun t ht hW => ⟨ovI (by unfold m_cnt; rw [if_neg (by rw [hx0]; decide), if_neg e0, if_neg e1, if_pos e2]; rfl), by rw [ht]; exact (by rw [hx0]; exact ⟨_, hR⟩)⟩) hL dX11_count_82
      by_cases e3 : k = 3
      · refine gx_ti (3) (e3) ?_
        refine lv_tableIn (tgt := 83) hx hb dX11_count_27 (by decide) (by decide) rfl (by decide) ?_
        refine lv_aload_n hx hb dX11_count_83 rfl (lv_at hl 0 rfl) ?_
        refine gx_get (D := D) (cl := gcl) (ci := 10) (v := .ref (mad s0.heap.size 13)) (C := RX11) (T := TX11) (N := 27) hx hb hts in_X11 hown hK hR.mo rfl 15 (by decide) (hts _ q901) (fun _ h9 => h9) rfl dX11_count_84 ?_
        refine lv_iconst (v := 2) hx hb dX11_count_87 (by decide) ?_
        refine gx_iald (n := 3) hx hb hK 1 (hR.mia 13 (by decide)) rfl 2 (by decide) (by decide) (by decide) dX11_count_88 ?_
        exact W.iret (v := (mI (mz M 0 0) 13 2)) hx hb hr (fun t ht hW => ⟨ovI (by unfold m_cnt; rw [if_neg (by rw [hx0]; decide), if_neg e0, if_neg e1, if_neg e2, if_pos e3]; rfl), by rw [ht]; exact (by rw [hx0]; exact ⟨_, hR⟩)⟩) hL dX11_count_89
      by_cases e4 : k = 4
      · refine gx_ti (4) (e4) ?_
        refine lv_tableIn (tgt := 90) hx hb dX11_count_27 (by decide) (by decide) rfl (by decide) ?_
        refine lv_aload_n hx hb dX11_count_90 rfl (lv_at hl 0 rfl) ?_
        refine cc_v (va_runV (b := s0.heap.size + 104) (As := []) (rest := []) ⟨hx, hb, hml, hown, hts⟩ (ct_X11_shortItems hE ⟨_, hR⟩ (hC.of rfl)) (cwV 0 hts (lw_V q1149 q1151 qs45 q61 q1152) rfl rfl rfl (by decide +kernel) ⟨Nat.le_of_ble_eq_true rfl, Nat.le_of_ble_eq_true rfl⟩) (cc_pV hW0 (cc_re hK hR.mo (show gcl[10]? = _ from rfl))) rfl rfl hl.1 rfl (lv_room (Nat.le_of_ble_eq_true rfl)) dX11_count_91 ⟨Nat.le_of_ble_eq_true rfl, Nat.le_of_ble_eq_true rfl⟩) hL (fun H locs hP1 hL => ?_)
        subst hP1
        exact W.iret (v := (nI (m_shn (mz M 0 0) 12))) hx hb hr (fun t ht hW => ⟨ovI (by unfold m_cnt; rw [if_neg (by rw [hx0]; decide), if_neg e0, if_neg e1, if_neg e2, if_neg e3, if_pos e4]; exact congrArg nI (m_shn_c (M := M) (M' := mz M 0 0) rfl rfl rfl 12)), by rw [ht]; exact (by rw [hx0]; exact ⟨_, hR⟩)⟩) hL dX11_count_94
      by_cases e5 : k = 5
      · refine gx_ti (5) (e5) ?_
        refine lv_tableIn (tgt := 95) hx hb dX11_count_27 (by decide) (by decide) rfl (by decide) ?_
        refine lv_aload_n hx hb dX11_count_95 rfl (lv_at hl 0 rfl) ?_
        refine gx_get (D := D) (cl := gcl) (ci := 10) (v := .int (mS (mz M 0 0) 20)) (C := RX11) (T := TX11) (N := 27) hx hb hts in_X11 hown hK hR.mo rfl 20 (by decide) (hts _ q906) (fun _ h9 => h9) rfl dX11_count_96 ?_
        refine lv_if_eq (tgt := 106) hx hb dX11_count_99 (by decide) (fun c99 => ?_) (fun c99 => ?_)
        · refine lv_iconst (v := 0) hx hb dX11_count_106 (by decide) ?_
          exact W.iret (v := 0) hx hb hr (fun t ht hW => ⟨ovI (by unfold m_cnt; rw [if_neg (by rw [hx0]; decide), if_neg e0, if_neg e1, if_neg e2, if_neg e3, if_neg e4, if_pos e5, if_pos (show mS M 20 = 0 from c99)]), by rw [ht]; exact (by rw [hx0]; exact ⟨_, hR⟩)⟩) hL dX11_count_107
        · refine lv_iconst (v := 1) hx hb dX11_count_102 (by decide) ?_
          refine lv_goto (tgt := 107) hx hb dX11_count_103 (by decide) ?_
          exact W.iret (v := 1) hx hb hr (fun t ht hW => ⟨ovI (by unfold m_cnt; rw [if_neg (by rw [hx0]; decide), if_neg e0, if_neg e1, if_neg e2, if_neg e3, if_neg e4, if_pos e5, if_neg (show ¬ mS M 20 = 0 from c99)]), by rw [ht]; exact (by rw [hx0]; exact ⟨_, hR⟩)⟩) hL dX11_count_107
      refine lv_tableOut (tgt := 108) hx hb dX11_count_27 (tab6 e0 e1 e2 e3 e4 e5) (by decide) ?_
      refine lv_iconst (v := (-1)) hx hb dX11_count_108 (by decide) ?_
      exact W.iret (v := (-1)) hx hb hr (fun t ht hW => ⟨ovI (by unfold m_cnt; rw [if_neg (by rw [hx0]; decide), if_neg e0, if_neg e1, if_neg e2, if_neg e3, if_neg e4, if_neg e5]), by rw [ht]; exact (by rw [hx0]; exact ⟨_, hR⟩)⟩) hL dX11_count_109
    · exact absurd c21 (by decide)
  · refine lv_aload_n hx hb dX11_count_6 rfl (lv_at hl 0 rfl) ?_
    refine gx_get (D := D) (cl := gcl) (ci := 10) (v := .int (mS M 20)) (C := RX11) (T := TX11) (N := 27) hx hb hts in_X11 hown hK hR.mo rfl 20 (by decide) (hts _ q906) (fun _ h9 => h9) rfl dX11_count_7 ?_
    refine lv_if_eq (tgt := 17) hx hb dX11_count_10 (by decide) (fun c10 => ?_) (fun c10 => ?_)
    · have hx0 : x_count M k = 0 := if_neg (fun q => q.2 c10)
      refine lv_iconst (v := 0) hx hb dX11_count_17 (by decide) ?_
      refine cc_v (va_runV (b := s0.heap.size + 104) (As := [.int 0]) (rest := []) ⟨hx, hb, hml, hown, hts⟩ (ct_X11_refused hE ⟨_, hR⟩ 0) (cwV 1 hts (lw_V q983 q985 qs23 q61 q986) rfl rfl rfl (by decide +kernel) ⟨Nat.le_of_ble_eq_true rfl, Nat.le_of_ble_eq_true rfl⟩) (cc_pV hW0 (cc_re hK hR.mo (show gcl[10]? = _ from rfl))) rfl rfl hl.1 rfl (lv_room (Nat.le_of_ble_eq_true rfl)) dX11_count_18 ⟨Nat.le_of_ble_eq_true rfl, Nat.le_of_ble_eq_true rfl⟩) hL (fun H locs hP1 hL => ?_)
      obtain ⟨Y, hR⟩ := hP1
      refine lv_if_eq (tgt := 26) hx hb dX11_count_21 (by decide) (fun c21 => ?_) (fun c21 => ?_)
      · refine lv_iload_n hx hb dX11_count_26 rfl (lv_at hl 1 rfl) ?_
        by_cases e0 : k = 0
        · refine gx_ti (0) (e0) ?_
          refine lv_tableIn (tgt := 64) hx hb dX11_count_27 (by decide) (by decide) rfl (by decide) ?_
          refine lv_aload_n hx hb dX11_count_64 rfl (lv_at hl 0 rfl) ?_
          refine gx_get (D := D) (cl := gcl) (ci := 10) (v := .int (mS (mz M 0 0) 14)) (C := RX11) (T := TX11) (N := 27) hx hb hts in_X11 hown hK hR.mo rfl 14 (by decide) (hts _ q900) (fun _ h9 => h9) rfl dX11_count_65 ?_
          exact W.iret (v := (mS (mz M 0 0) 14)) hx hb hr (fun t ht hW => ⟨ovI (by unfold m_cnt; rw [if_neg (by rw [hx0]; decide), if_pos e0]; rfl), by rw [ht]; exact (by rw [hx0]; exact ⟨_, hR⟩)⟩) hL dX11_count_68
        by_cases e1 : k = 1
        · refine gx_ti (1) (e1) ?_
          refine lv_tableIn (tgt := 69) hx hb dX11_count_27 (by decide) (by decide) rfl (by decide) ?_
          refine lv_aload_n hx hb dX11_count_69 rfl (lv_at hl 0 rfl) ?_
          refine gx_get (D := D) (cl := gcl) (ci := 10) (v := .ref (mad s0.heap.size 13)) (C := RX11) (T := TX11) (N := 27) hx hb hts in_X11 hown hK hR.mo rfl 15 (by decide) (hts _ q901) (fun _ h9 => h9) rfl dX11_count_70 ?_
          refine lv_iconst (v := 0) hx hb dX11_count_73 (by decide) ?_
          refine gx_iald (n := 3) hx hb hK 1 (hR.mia 13 (by decide)) rfl 0 (by decide) (by decide) (by decide) dX11_count_74 ?_
          exact W.iret (v := (mI (mz M 0 0) 13 0)) hx hb hr (fun t ht hW => ⟨ovI (by unfold m_cnt; rw [if_neg (by rw [hx0]; decide), if_neg e0, if_pos e1]; rfl), by rw [ht]; exact (by rw [hx0]; exact ⟨_, hR⟩)⟩) hL dX11_count_75
        by_cases e2 : k = 2
        · refine gx_ti (2) (e2) ?_
          refine lv_tableIn (tgt := 76) hx hb dX11_count_27 (by decide) (by decide) rfl (by decide) ?_
          refine lv_aload_n hx hb dX11_count_76 rfl (lv_at hl 0 rfl) ?_
          refine gx_get (D := D) (cl := gcl) (ci := 10) (v := .ref (mad s0.heap.size 13)) (C := RX11) (T := TX11) (N := 27) hx hb hts in_X11 hown hK hR.mo rfl 15 (by decide) (hts _ q901) (fun _ h9 => h9) rfl dX11_count_77 ?_
          refine lv_iconst (v := 1) hx hb dX11_count_80 (by decide) ?_
          refine gx_iald (n := 3) hx hb hK 1 (hR.mia 13 (by decide)) rfl 1 (by decide) (by decide) (by decide) dX11_count_81 ?_
          exact W.iret (v := (mI (mz M 0 0) 13 1)) hx hb hr (fun t ht hW => ⟨ovI (by unfold m_cnt; rw [if_neg (by rw [hx0]; decide), if_neg e0, if_neg e1, if_pos e2]; rfl), by rw [ht]; exact (by rw [hx0]; exact ⟨_, hR⟩)⟩) hL dX11_count_82
        by_cases e3 : k = 3
        · refine gx_ti (3) (e3) ?_
          refine lv_tableIn (tgt := 83) hx hb dX11_count_27 (by decide) (by decide) rfl (by decide) ?_
          refine lv_aload_n hx hb dX11_count_83 rfl (lv_at hl 0 rfl) ?_
          refine gx_get (D := D) (cl := gcl) (ci := 10) (v := .ref (mad s0.heap.size 13)) (C := RX11) (T := TX11) (N := 27) hx hb hts in_X11 hown hK hR.mo rfl 15 (by decide) (hts _ q901) (fun _ h9 => h9) rfl dX11_count_84 ?_
          refine lv_iconst (v := 2) hx hb dX11_count_87 (by decide) ?_
          refine gx_iald (n := 3) hx hb hK 1 (hR.mia 13 (by decide)) rfl 2 (by decide) (by decide) (by decide) dX11_count_88 ?_
          exact W.iret (v := (mI (mz M 0 0) 13 2)) hx hb hr (fun t ht hW => ⟨ovI (by unfold m_cnt; rw [if_neg (by rw [hx0]; decide), if_neg e0, if_neg e1, if_neg e2, if_pos e3]; rfl), by rw [ht]; exact (by rw [hx0]; exact ⟨_, hR⟩)⟩) hL dX11_count_89
        by_cases e4 : k = 4
        · refine gx_ti (4) (e4) ?_
          refine lv_tableIn (tgt := 90) hx hb dX11_count_27 (by decide) (by decide) rfl (by decide) ?_
          refine lv_aload_n hx hb dX11_count_90 rfl (lv_at hl 0 rfl) ?_
          refine cc_v (va_runV (b := s0.heap.size + 104) (As := []) (rest := []) ⟨hx, hb, hml, hown, hts⟩ (ct_X11_shortItems hE ⟨_, hR⟩ (hC.of rfl)) (cwV 0 hts (lw_V q1149 q1151 qs45 q61 q1152) rfl rfl rfl (by decide +kernel) ⟨Nat.le_of_ble_eq_true rfl, Nat.le_of_ble_eq_true rfl⟩) (cc_pV hW0 (cc_re hK hR.mo (show gcl[10]? = _ from rfl))) rfl rfl hl.1 rfl (lv_room (Nat.le_of_ble_eq_true rfl)) dX11_count_91 ⟨Nat.le_of_ble_eq_true rfl, Nat.le_of_ble_eq_true rfl⟩) hL (fun H locs hP1 hL => ?_)
          subst hP1
          exact W.iret (v := (nI (m_shn (mz M 0 0) 12))) hx hb hr (fun t ht hW => ⟨ovI (by unfold m_cnt; rw [if_neg (by rw [hx0]; decide), if_neg e0, if_neg e1, if_neg e2, if_neg e3, if_pos e4]; exact congrArg nI (m_shn_c (M := M) (M' := mz M 0 0) rfl rfl rfl 12)), by rw [ht]; exact (by rw [hx0]; exact ⟨_, hR⟩)⟩) hL dX11_count_94
        by_cases e5 : k = 5
        · refine gx_ti (5) (e5) ?_
          refine lv_tableIn (tgt := 95) hx hb dX11_count_27 (by decide) (by decide) rfl (by decide) ?_
          refine lv_aload_n hx hb dX11_count_95 rfl (lv_at hl 0 rfl) ?_
          refine gx_get (D := D) (cl := gcl) (ci := 10) (v := .int (mS (mz M 0 0) 20)) (C := RX11) (T := TX11) (N := 27) hx hb hts in_X11 hown hK hR.mo rfl 20 (by decide) (hts _ q906) (fun _ h9 => h9) rfl dX11_count_96 ?_
          refine lv_if_eq (tgt := 106) hx hb dX11_count_99 (by decide) (fun c99 => ?_) (fun c99 => ?_)
          · refine lv_iconst (v := 0) hx hb dX11_count_106 (by decide) ?_
            exact W.iret (v := 0) hx hb hr (fun t ht hW => ⟨ovI (by unfold m_cnt; rw [if_neg (by rw [hx0]; decide), if_neg e0, if_neg e1, if_neg e2, if_neg e3, if_neg e4, if_pos e5, if_pos (show mS M 20 = 0 from c99)]), by rw [ht]; exact (by rw [hx0]; exact ⟨_, hR⟩)⟩) hL dX11_count_107
          · refine lv_iconst (v := 1) hx hb dX11_count_102 (by decide) ?_
            refine lv_goto (tgt := 107) hx hb dX11_count_103 (by decide) ?_
            exact W.iret (v := 1) hx hb hr (fun t ht hW => ⟨ovI (by unfold m_cnt; rw [if_neg (by rw [hx0]; decide), if_neg e0, if_neg e1, if_neg e2, if_neg e3, if_neg e4, if_pos e5, if_neg (show ¬ mS M 20 = 0 from c99)]), by rw [ht]; exact (by rw [hx0]; exact ⟨_, hR⟩)⟩) hL dX11_count_107
        refine lv_tableOut (tgt := 108) hx hb dX11_count_27 (tab6 e0 e1 e2 e3 e4 e5) (by decide) ?_
        refine lv_iconst (v := (-1)) hx hb dX11_count_108 (by decide) ?_
        exact W.iret (v := (-1)) hx hb hr (fun t ht hW => ⟨ovI (by unfold m_cnt; rw [if_neg (by rw [hx0]; decide), if_neg e0, if_neg e1, if_neg e2, if_neg e3, if_neg e4, if_neg e5]), by rw [ht]; exact (by rw [hx0]; exact ⟨_, hR⟩)⟩) hL dX11_count_109
      · exact absurd c21 (by decide)
    · have hx0 : x_count M k = 1 := if_pos ⟨c3, c10⟩
      refine lv_iconst (v := 1) hx hb dX11_count_13 (by decide) ?_
      refine lv_goto (tgt := 18) hx hb dX11_count_14 (by decide) ?_
      refine cc_v (va_runV (b := s0.heap.size + 104) (As := [.int 1]) (rest := []) ⟨hx, hb, hml, hown, hts⟩ (ct_X11_refused hE ⟨_, hR⟩ 1) (cwV 1 hts (lw_V q983 q985 qs23 q61 q986) rfl rfl rfl (by decide +kernel) ⟨Nat.le_of_ble_eq_true rfl, Nat.le_of_ble_eq_true rfl⟩) (cc_pV hW0 (cc_re hK hR.mo (show gcl[10]? = _ from rfl))) rfl rfl hl.1 rfl (lv_room (Nat.le_of_ble_eq_true rfl)) dX11_count_18 ⟨Nat.le_of_ble_eq_true rfl, Nat.le_of_ble_eq_true rfl⟩) hL (fun H locs hP1 hL => ?_)
      obtain ⟨Y, hR⟩ := hP1
      refine lv_if_eq (tgt := 26) hx hb dX11_count_21 (by decide) (fun c21 => ?_) (fun c21 => ?_)
      · exact absurd c21 (by decide)
      · refine lv_iconst (v := 0) hx hb dX11_count_24 (by decide) ?_
        exact W.iret (v := 0) hx hb hr (fun t ht hW => ⟨ovI (by unfold m_cnt; rw [if_pos hx0]), by rw [ht]; exact (by rw [hx0]; exact ⟨_, hR⟩)⟩) hL dX11_count_25
