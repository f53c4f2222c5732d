def c_cnt (C : CS) (x : Int32) : Int32 := if x = 0 then nI (kN C 0) else if x = 1 then nI (kN C 1) else if x = 2 then nI (kN C 2) else if x = 3 then nI (kN C 3) else if x = 4 then nI (c_shn C 12) else if x = 5 then (if kT C = 0 then 0 else 1) else -1
set_option maxHeartbeats 4000000 in
set_option maxRecDepth 100000 in
/-- count -/
theorem ct_X1_count {l : Launch} {s0 : State} {D : va_G} {DA : Nat → ClassId} {z0 : Nat} {Y : YS} {C : CS} {M : MS} {o : Int64} {H : Heap} (hE : G0 l s0 D DA z0) (hR : GRb s0.heap.size s0.heap D DA z0 Y C M o H) (x : Int32) (h4 : x = 4 → kT C = 0) : Met l yX1_count (ws_ yX1_count cX1_count 7 (some .int)) ({ frames := 1, cells := 0, slots := 0, locals := 26 }) (cP s0 [.ref s0.heap.size, .int x] H) (cQv (.int (c_cnt C x)) (fun H1 => H1 = H)) 0 0 (cF s0) := by
  refine Met.ofW (cc := cX1_count) (maxL := 7) (ret := (some .int)) (by decide) rfl ?_
  intro p e s m args below meth c s₁ Bd hml hv
  obtain ⟨rfl, rfl, hW0⟩ := hv
  have hx := Bd.exec
  have hb := Bd.bytes
  have hr := Bd.returns
  have hts := atoms_spec (ws := (ws_ yX1_count cX1_count 7 (some .int))) Bd.pre
  have hts : ∀ w ∈ lw_all, w.before _ s = true := fun w h => hts w (List.mem_cons_of_mem _ h)
  have hown : s.vm.findClass RX1 = some m.cls := findClass_of_methodNamed Bd.named
  have hlocks := Bd.notSynchronized
  have hK := va_K.moved hW0.alike hE.K
  have hL : gx_L s0.heap.size ([] : List Loc) := gx_L0
  have hl := lv_entry ([.ref s0.heap.size, .int x]) (n := 7) (Nat.le_of_ble_eq_true rfl)
  rw [lg_entry_eq]
  generalize (lg_sl ([.ref s0.heap.size, .int x]) ++ List.replicate (7 - (lg_sl ([.ref s0.heap.size, .int x])).length) Slot.unset).toArray = ls at hl ⊢
  have hl : lv_has ls 7 [(0, .ref s0.heap.size), (1, .int x)] := hl
  refine lv_iload_n hx hb dX1_count_0 rfl (lv_at hl 1 rfl) ?_
  by_cases e0 : x = 0
  · refine gx_ti (0) (e0) ?_
    refine lv_tableIn (tgt := 40) hx hb dX1_count_1 (by decide) (by decide) rfl (by decide) ?_
    refine lv_aload_n hx hb dX1_count_40 rfl (lv_at hl 0 rfl) ?_
    refine gx_get (D := D) (cl := gcl) (ci := 0) (v := .ref (aL s0.heap.size 0)) (C := RX1) (T := TX1) (N := 10) hx hb hts in_X1 hown hK hR.np rfl 1 (by decide) (hts _ q273) (fun _ h9 => h9) rfl dX1_count_41 ?_
    refine cc_v (va_runV (b := aL s0.heap.size 0) (As := []) (rest := []) ⟨hx, hb, hml, hown, hts⟩ (ct_J2_size hE (hR.lob 0 (by omega))) (cwV 0 hts (lw_V q459 q379 q380 q50 q381) rfl rfl rfl (by decide +kernel) ⟨Nat.le_of_ble_eq_true rfl, Nat.le_of_ble_eq_true rfl⟩) (cc_pV hW0 (cc_re hK (hR.lob 0 (by omega)) (show gcl[1]? = _ from rfl))) rfl rfl hl.1 rfl (lv_room (Nat.le_of_ble_eq_true rfl)) dX1_count_44 ⟨Nat.le_of_ble_eq_true rfl, Nat.le_of_ble_eq_true rfl⟩) hL (fun H locs hP1 hL => ?_)
    subst hP1
    exact W.iret (v := (nI (kN C 0))) hx hb hr (fun t ht hW => ⟨ovI (by unfold c_cnt; rw [if_pos e0]), ht⟩) hL dX1_count_47
  by_cases e1 : x = 1
  · refine gx_ti (1) (e1) ?_
    refine lv_tableIn (tgt := 48) hx hb dX1_count_1 (by decide) (by decide) rfl (by decide) ?_
    refine lv_aload_n hx hb dX1_count_48 rfl (lv_at hl 0 rfl) ?_
    refine gx_get (D := D) (cl := gcl) (ci := 0) (v := .ref (aB s0.heap.size 1)) (C := RX1) (T := TX1) (N := 10) hx hb hts in_X1 hown hK hR.np rfl 2 (by decide) (hts _ q274) (fun _ h9 => h9) rfl dX1_count_49 ?_
    refine gx_getN (D := D) (cl := gcl) (ci := 2) (v := .ref (aL s0.heap.size 1)) (C := RX2) (T := TX2) (N := 1) hx hb hts in_X2 hown hK (hR.bok 1 (by decide) (by decide)) rfl 0 (by decide) (hE.nF hW0 q121) (fun _ h9 => h9) rfl dX1_count_52 ?_
    refine cc_v (va_runV (b := aL s0.heap.size 1) (As := []) (rest := []) ⟨hx, hb, hml, hown, hts⟩ (ct_J2_size hE (hR.lob 1 (by omega))) (cwV 0 hts (lw_V q459 q379 q380 q50 q381) rfl rfl rfl (by decide +kernel) ⟨Nat.le_of_ble_eq_true rfl, Nat.le_of_ble_eq_true rfl⟩) (cc_pV hW0 (cc_re hK (hR.lob 1 (by omega)) (show gcl[1]? = _ from rfl))) rfl rfl hl.1 rfl (lv_room (Nat.le_of_ble_eq_true rfl)) dX1_count_55 ⟨Nat.le_of_ble_eq_true rfl, Nat.le_of_ble_eq_true rfl⟩) hL (fun H locs hP1 hL => ?_)
    subst hP1
    exact W.iret (v := (nI (kN C 1))) hx hb hr (fun t ht hW => ⟨ovI (by unfold c_cnt; rw [if_neg e0, if_pos e1]), ht⟩) hL dX1_count_58
  by_cases e2 : x = 2
  · refine gx_ti (2) (e2) ?_
    refine lv_tableIn (tgt := 59) hx hb dX1_count_1 (by decide) (by decide) rfl (by decide) ?_
    refine lv_aload_n hx hb dX1_count_59 rfl (lv_at hl 0 rfl) ?_
    refine gx_get (D := D) (cl := gcl) (ci := 0) (v := .ref (aB s0.heap.size 2)) (C := RX1) (T := TX1) (N := 10) hx hb hts in_X1 hown hK hR.np rfl 3 (by decide) (hts _ q275) (fun _ h9 => h9) rfl dX1_count_60 ?_
    refine gx_getN (D := D) (cl := gcl) (ci := 2) (v := .ref (aL s0.heap.size 2)) (C := RX2) (T := TX2) (N := 1) hx hb hts in_X2 hown hK (hR.bok 2 (by decide) (by decide)) rfl 0 (by decide) (hE.nF hW0 q121) (fun _ h9 => h9) rfl dX1_count_63 ?_
    refine cc_v (va_runV (b := aL s0.heap.size 2) (As := []) (rest := []) ⟨hx, hb, hml, hown, hts⟩ (ct_J2_size hE (hR.lob 2 (by omega))) (cwV 0 hts (lw_V q459 q379 q380 q50 q381) rfl rfl rfl (by decide +kernel) ⟨Nat.le_of_ble_eq_true rfl, Nat.le_of_ble_eq_true rfl⟩) (cc_pV hW0 (cc_re hK (hR.lob 2 (by omega)) (show gcl[1]? = _ from rfl))) rfl rfl hl.1 rfl (lv_room (Nat.le_of_ble_eq_true rfl)) dX1_count_66 ⟨Nat.le_of_ble_eq_true rfl, Nat.le_of_ble_eq_true rfl⟩) hL (fun H locs hP1 hL => ?_)
    subst hP1
    exact W.iret (v := (nI (kN C 2))) hx hb hr (fun t ht hW => ⟨ovI (by unfold c_cnt; rw [if_neg e0, if_neg e1, if_pos e2]), ht⟩) hL dX1_count_69
  by_cases e3 : x = 3
  · refine gx_ti (3) (e3) ?_
    refine lv_tableIn (tgt := 70) hx hb dX1_count_1 (by decide) (by decide) rfl (by decide) ?_
    refine lv_aload_n hx hb dX1_count_70 rfl (lv_at hl 0 rfl) ?_
    refine gx_get (D := D) (cl := gcl) (ci := 0) (v := .ref (aB s0.heap.size 3)) (C := RX1) (T := TX1) (N := 10) hx hb hts in_X1 hown hK hR.np rfl 4 (by decide) (hts _ q276) (fun _ h9 => h9) rfl dX1_count_71 ?_
    refine gx_getN (D := D) (cl := gcl) (ci := 2) (v := .ref (aL s0.heap.size 3)) (C := RX2) (T := TX2) (N := 1) hx hb hts in_X2 hown hK (hR.bok 3 (by decide) (by decide)) rfl 0 (by decide) (hE.nF hW0 q121) (fun _ h9 => h9) rfl dX1_count_74 ?_
    refine cc_v (va_runV (b := aL s0.heap.size 3) (As := []) (rest := []) ⟨hx, hb, hml, hown, hts⟩ (ct_J2_size hE (hR.lob 3 (by omega))) (cwV 0 hts (lw_V q459 q379 q380 q50 q381) rfl rfl rfl (by decide +kernel) ⟨Nat.le_of_ble_eq_true rfl, Nat.le_of_ble_eq_true rfl⟩) (cc_pV hW0 (cc_re hK (hR.lob 3 (by omega)) (show gcl[1]? = _ from rfl))) rfl rfl hl.1 rfl (lv_room (Nat.le_of_ble_eq_true rfl)) dX1_count_77 ⟨Nat.le_of_ble_eq_true rfl, Nat.le_of_ble_eq_true rfl⟩) hL (fun H locs hP1 hL => ?_)
    subst hP1
    exact W.iret (v := (nI (kN C 3))) hx hb hr (fun t ht hW => ⟨ovI (by unfold c_cnt; rw [if_neg e0, if_neg e1, if_neg e2, if_pos e3]), ht⟩) hL dX1_count_80
  by_cases e4 : x = 4
  · refine gx_ti (4) (e4) ?_
    refine lv_tableIn (tgt := 81) hx hb dX1_count_1 (by decide) (by decide) rfl (by decide) ?_
    have h0 := h4 e4
    have key : ∀ (n : Nat) (v : Nat) (locs : List Loc) (ls : Array Slot), v ≤ 12 → 12 < v + n → lv_has ls 7 [(2, .int (nI (c_shn C v))), (5, .int (nI v)), (3, .ref (s0.heap.size + 1)), (4, .int (nI 12))] → gx_L s0.heap.size locs → W p l e (headSpec (ws_ yX1_count cX1_count 7 (some .int)) ({ frames := 1, cells := 0, slots := 0, locals := 26 })).room s m ([.ref s0.heap.size, .int x] : List Value).toArray below meth c s.heap locs 0 0 (MQ below (cQv (.int (c_cnt C x)) (fun H1 => H1 = s.heap)) ([.ref s0.heap.size, .int x] : List Value).toArray s 0 0 (cF s0)) (F0 m 110 ls []) := by
      intro n
      induction n with
      | zero =>
        intro v locs ls hv hn hl hL
        omega
      | succ n ih =>
        intro v locs ls hv hn hl hL
        refine lv_iload hx hb dX1_count_110 (lv_at hl 1 rfl) ?_
        refine lv_iload hx hb dX1_count_112 (lv_at hl 3 rfl) ?_
        refine lv_icmp_ge (tgt := 145) hx hb dX1_count_114 (by decide) (fun c114 => ?_) (fun c114 => ?_)
        · have hkc : v = 12 := by have := n_ge (b := 12) c114 (by omega) (by omega); omega
          refine lv_iload_n hx hb dX1_count_145 rfl (lv_at hl 0 rfl) ?_
          exact W.iret (v := (nI (c_shn C v))) hx hb hr (fun t ht hW => ⟨ovI (by rw [hkc, e4]; rfl), ht⟩) hL dX1_count_146
        · have hkc : v < 12 := by have := n_lt (b := 12) c114 (by omega) (by omega); omega
          refine lv_aload_n hx hb dX1_count_117 rfl (lv_at hl 2 rfl) ?_
          refine lv_iload hx hb dX1_count_118 (lv_at hl 1 rfl) ?_
          refine gx_aald (x := aI s0.heap.size v) hx hb hK 3 hR.its rfl v (rfl) (hkc) (by decide) rfl dX1_count_120 ?_
          refine lv_astore (lv' := [(6, .ref (aI s0.heap.size v)), (2, .int (nI (c_shn C v))), (5, .int (nI v)), (3, .ref (s0.heap.size + 1)), (4, .int (nI 12))]) hx hb dX1_count_121 hl (by decide) rfl (fun ls hl => ?_)
          refine lv_iload_n hx hb dX1_count_123 rfl (lv_at hl 1 rfl) ?_
          refine lv_aload hx hb dX1_count_124 (lv_at hl 0 rfl) ?_
          refine cc_v (va_runV (b := aI s0.heap.size v) (As := []) (rest := [.int (nI (c_shn C v))]) ⟨hx, hb, hml, hown, hts⟩ (ct_X9_isShort (k := v) hE hR hkc) (cwV 0 hts (lw_V q876 q877 q878 q58 q879) rfl rfl rfl (by decide +kernel) ⟨Nat.le_of_ble_eq_true rfl, Nat.le_of_ble_eq_true rfl⟩) (cc_pV hW0 (cc_re hK (hR.itm v hkc) (show gcl[8]? = _ from rfl))) rfl rfl hl.1 rfl (lv_room (Nat.le_of_ble_eq_true rfl)) dX1_count_126 ⟨Nat.le_of_ble_eq_true rfl, Nat.le_of_ble_eq_true rfl⟩) hL (fun H locs hP1 hL => ?_)
          subst hP1
          refine lv_if_eq (tgt := 136) hx hb dX1_count_129 (by decide) (fun c129 => ?_) (fun c129 => ?_)
          · refine lv_iconst (v := 0) hx hb dX1_count_136 (by decide) ?_
            refine lv_iadd hx hb dX1_count_137 ?_
            refine gx_ti (nI (c_shn C (v + 1))) (by rw [show c_shn C (v + 1) = c_shn C v by rw [c_shn, bZ_0.mp c129]; rfl]; exact nI_add _ 0) ?_
            refine lv_istore_n (lv' := [(2, .int (nI (c_shn C (v + 1)))), (6, .ref (aI s0.heap.size v)), (5, .int (nI v)), (3, .ref (s0.heap.size + 1)), (4, .int (nI 12))]) hx hb dX1_count_138 rfl hl (by decide) rfl (fun ls hl => ?_)
            refine lv_iinc (v := nI (v + 1)) (lv' := [(5, .int (nI (v + 1))), (2, .int (nI (c_shn C (v + 1)))), (6, .ref (aI s0.heap.size v)), (3, .ref (s0.heap.size + 1)), (4, .int (nI 12))]) hx hb dX1_count_139 hl (k := 2) rfl (nI_1 v) (by decide) rfl (fun ls hl => ?_)
            refine lv_goto (tgt := 110) hx hb dX1_count_142 (by decide) ?_
            exact ih (v + 1) _ _ (by omega) (by omega) (lv_sub hl [1, 0, 3, 4] rfl) hL
          · refine lv_iconst (v := 1) hx hb dX1_count_132 (by decide) ?_
            refine lv_goto (tgt := 137) hx hb dX1_count_133 (by decide) ?_
            refine lv_iadd hx hb dX1_count_137 ?_
            refine gx_ti (nI (c_shn C (v + 1))) (by rw [show c_shn C (v + 1) = c_shn C v + 1 by rw [c_shn, bZ_1.mp c129]; rfl]; exact nI_1 _) ?_
            refine lv_istore_n (lv' := [(2, .int (nI (c_shn C (v + 1)))), (6, .ref (aI s0.heap.size v)), (5, .int (nI v)), (3, .ref (s0.heap.size + 1)), (4, .int (nI 12))]) hx hb dX1_count_138 rfl hl (by decide) rfl (fun ls hl => ?_)
            refine lv_iinc (v := nI (v + 1)) (lv' := [(5, .int (nI (v + 1))), (2, .int (nI (c_shn C (v + 1)))), (6, .ref (aI s0.heap.size v)), (3, .ref (s0.heap.size + 1)), (4, .int (nI 12))]) hx hb dX1_count_139 hl (k := 2) rfl (nI_1 v) (by decide) rfl (fun ls hl => ?_)
            refine lv_goto (tgt := 110) hx hb dX1_count_142 (by decide) ?_
            exact ih (v + 1) _ _ (by omega) (by omega) (lv_sub hl [1, 0, 3, 4] rfl) hL
    refine lv_aload_n hx hb dX1_count_81 rfl (lv_at hl 0 rfl) ?_
    refine gx_get (D := D) (cl := gcl) (ci := 0) (v := .int (kT C)) (C := RX1) (T := TX1) (N := 10) hx hb hts in_X1 hown hK hR.np rfl 8 (by decide) (hts _ q280) (fun _ h9 => h9) rfl dX1_count_82 ?_
    refine lv_if_ne (tgt := 92) hx hb dX1_count_85 (by decide) (fun c85 => ?_) (fun c85 => ?_)
    · exact absurd h0 c85
    · refine lv_iconst (v := 1) hx hb dX1_count_88 (by decide) ?_
      refine lv_goto (tgt := 93) hx hb dX1_count_89 (by decide) ?_
      refine cc_0 (va_runS (As := [.int 1]) (rest := []) ⟨hx, hb, hml, hown, hts⟩ (ct_X1_allow hE (x := 1) (by decide)) (va_cwS 1 hts (lw_S q666 q667 q47 q668) rfl rfl rfl (by decide +kernel) ⟨Nat.le_of_ble_eq_true rfl, Nat.le_of_ble_eq_true rfl⟩) (cc_pS hW0) rfl rfl hl.1 rfl (lv_room (Nat.le_of_ble_eq_true rfl)) dX1_count_93 ⟨Nat.le_of_ble_eq_true rfl, Nat.le_of_ble_eq_true rfl⟩) hL (fun H locs hP1 hL => ?_)
      subst hP1
      refine lv_iconst (v := 0) hx hb dX1_count_96 (by decide) ?_
      refine gx_ti (nI (c_shn C 0)) (by show (0 : Int32) = nI 0; decide) ?_
      refine lv_istore_n (lv' := [(2, .int (nI (c_shn C 0))), (0, .ref s0.heap.size), (1, .int x)]) hx hb dX1_count_97 rfl hl (by decide) rfl (fun ls hl => ?_)
      refine lv_aload_n hx hb dX1_count_98 rfl (lv_at hl 1 rfl) ?_
      refine gx_get (D := D) (cl := gcl) (ci := 0) (v := .ref (s0.heap.size + 1)) (C := RX1) (T := TX1) (N := 10) hx hb hts in_X1 hown hK hR.np rfl 0 (by decide) (hts _ q272) (fun _ h9 => h9) rfl dX1_count_99 ?_
      refine lv_astore_n (lv' := [(3, .ref (s0.heap.size + 1)), (2, .int (nI (c_shn C 0))), (0, .ref s0.heap.size), (1, .int x)]) hx hb dX1_count_102 rfl hl (by decide) rfl (fun ls hl => ?_)
      refine lv_aload_n hx hb dX1_count_103 rfl (lv_at hl 0 rfl) ?_
      refine gx_alen hx hb hK 3 hR.its rfl dX1_count_104 ?_
      refine gx_ti (nI 12) rfl ?_
      refine lv_istore (lv' := [(4, .int (nI 12)), (3, .ref (s0.heap.size + 1)), (2, .int (nI (c_shn C 0))), (0, .ref s0.heap.size), (1, .int x)]) hx hb dX1_count_105 hl (by decide) rfl (fun ls hl => ?_)
      refine lv_iconst (v := 0) hx hb dX1_count_107 (by decide) ?_
      refine gx_ti (nI 0) (by decide) ?_
      refine lv_istore (lv' := [(5, .int (nI 0)), (4, .int (nI 12)), (3, .ref (s0.heap.size + 1)), (2, .int (nI (c_shn C 0))), (0, .ref s0.heap.size), (1, .int x)]) hx hb dX1_count_108 hl (by decide) rfl (fun ls hl => ?_)
      exact key 13 0 _ _ (by omega) (by omega) (lv_sub hl [3, 0, 2, 1] rfl) hL
  by_cases e5 : x = 5
  · refine gx_ti (5) (e5) ?_
    refine lv_tableIn (tgt := 147) hx hb dX1_count_1 (by decide) (by decide) rfl (by decide) ?_
    refine lv_aload_n hx hb dX1_count_147 rfl (lv_at hl 0 rfl) ?_
    refine gx_get (D := D) (cl := gcl) (ci := 0) (v := .int (kT C)) (C := RX1) (T := TX1) (N := 10) hx hb hts in_X1 hown hK hR.np rfl 8 (by decide) (hts _ q280) (fun _ h9 => h9) rfl dX1_count_148 ?_
    refine lv_if_eq (tgt := 158) hx hb dX1_count_151 (by decide) (fun c151 => ?_) (fun c151 => ?_)
    · refine lv_iconst (v := 0) hx hb dX1_count_158 (by decide) ?_
      exact W.iret (v := 0) hx hb hr (fun t ht hW => ⟨ovI (by unfold c_cnt; rw [if_neg e0, if_neg e1, if_neg e2, if_neg e3, if_neg e4, if_pos e5, if_pos c151]), ht⟩) hL dX1_count_159
    · refine lv_iconst (v := 1) hx hb dX1_count_154 (by decide) ?_
      refine lv_goto (tgt := 159) hx hb dX1_count_155 (by decide) ?_
      exact W.iret (v := 1) hx hb hr (fun t ht hW => ⟨ovI (by unfold c_cnt; rw [if_neg e0, if_neg e1, if_neg e2, if_neg e3, if_neg e4, if_pos e5, if_neg c151]), ht⟩) hL dX1_count_159
  refine lv_tableOut (tgt := 160) hx hb dX1_count_1 (tab6 e0 e1 e2 e3 e4 e5) (by decide) ?_
  refine lv_iconst (v := (-1)) hx hb dX1_count_160 (by decide) ?_
  exact W.iret (v := (-1)) hx hb hr (fun t ht hW => ⟨ovI (by unfold c_cnt; rw [if_neg e0, if_neg e1, if_neg e2, if_neg e3, if_neg e4, if_neg e5]), ht⟩) hL dX1_count_161
set_option maxHeartbeats 4000000 in
set_option maxRecDepth 100000 in
theorem ct_X1_count_S {l : Launch} {s0 : State} {D : va_G} {DA : Nat → ClassId} {z0 : Nat} {C : CS} {M : MS} {o : Int64} {H : Heap} (hE : G0 l s0 D DA z0) (hR : RR s0 D DA z0 C M o H) (h0 : ¬ kT C = 0) : MetT l yX1_count (ws_ yX1_count cX1_count 7 (some .int)) ({ frames := 7, cells := 1, slots := 6, locals := 102 }) (cP s0 [.ref s0.heap.size, .int 4] H) (cQT s0 "java/lang/IllegalStateException" (fun H1 => RR s0 D DA z0 C M o H1)) 1 6 (cF s0) := by
  refine MetT.ofW (cc := cX1_count) (maxL := 7) (ret := (some .int)) (by decide) rfl ?_
  intro p e s m args below meth c s₁ Bd hml hv
  obtain ⟨rfl, rfl, hW0⟩ := hv
  have hx := Bd.exec
  have hb := Bd.bytes
  have hr := Bd.returns
  have hts := atoms_spec (ws := (ws_ yX1_count cX1_count 7 (some .int))) Bd.pre
  have hno := BodyLoose.noHandlers Bd (hts _ List.mem_cons_self)
  have hts : ∀ w ∈ lw_all, w.before _ s = true := fun w h => hts w (List.mem_cons_of_mem _ h)
  have hown : s.vm.findClass RX1 = some m.cls := findClass_of_methodNamed Bd.named
  have hlocks := Bd.notSynchronized
  have hK := va_K.moved hW0.alike hE.K
  have hL : gx_L s0.heap.size ([] : List Loc) := gx_L0
  obtain ⟨Y, hR⟩ := hR
  have hl := lv_entry ([.ref s0.heap.size, .int 4]) (n := 7) (Nat.le_of_ble_eq_true rfl)
  rw [lg_entry_eq]
  generalize (lg_sl ([.ref s0.heap.size, .int 4]) ++ List.replicate (7 - (lg_sl ([.ref s0.heap.size, .int 4])).length) Slot.unset).toArray = ls at hl ⊢
  have hl : lv_has ls 7 [(0, .ref s0.heap.size), (1, .int 4)] := hl
  refine lv_iload_n hx hb dX1_count_0 rfl (lv_at hl 1 rfl) ?_
  refine lv_tableIn (tgt := 81) hx hb dX1_count_1 (by decide) (by decide) rfl (by decide) ?_
  refine lv_aload_n hx hb dX1_count_81 rfl (lv_at hl 0 rfl) ?_
  refine gx_get (D := D) (cl := gcl) (ci := 0) (v := .int (kT C)) (C := RX1) (T := TX1) (N := 10) hx hb hts in_X1 hown hK hR.np rfl 8 (by decide) (hts _ q280) (fun _ h9 => h9) rfl dX1_count_82 ?_
  refine lv_if_ne (tgt := 92) hx hb dX1_count_85 (by decide) (fun c85 => ?_) (fun c85 => ?_)
  · refine lv_iconst (v := 0) hx hb dX1_count_92 (by decide) ?_
    exact gt_leave (va_runTS (As := [.int 0]) (rest := []) ⟨hx, hb, hml, hown, hts⟩ (ct_X1_allow_T hE ⟨_, hR⟩ (x := 0) (rfl)) (va_cwS 1 hts (lw_S q666 q667 q47 q668) rfl rfl rfl (by decide +kernel) ⟨Nat.le_of_ble_eq_true rfl, Nat.le_of_ble_eq_true rfl⟩) (cc_pS hW0) rfl rfl hl.1 rfl (lv_room (Nat.le_of_ble_eq_true rfl)) dX1_count_93 ⟨Nat.le_of_ble_eq_true rfl, Nat.le_of_ble_eq_true rfl⟩) hno (fun st t u x hq h1 h2 h3 => ⟨by rw [h1]; exact hq.1, by rw [h1]; exact hq.2⟩) hL (fun q h => h) Bd.notSynchronized
  · exact absurd c85 h0
set_option maxHeartbeats 4000000 in
set_option maxRecDepth 100000 in
/-- find -/
theorem ct_X1_find {l : Launch} {s0 : State} {D : va_G} {DA : Nat → ClassId} {z0 : Nat} {Y : YS} {C : CS} {M : MS} {o : Int64} {H : Heap} (hE : G0 l s0 D DA z0) (hR : GRb s0.heap.size s0.heap D DA z0 Y C M o H) {pa ch : Nat} (hpa : pa < 12) (hch : ch < 12) : Met l yX1_find (ws_ yX1_find cX1_find 5 (some .int)) ({ frames := 3, cells := 0, slots := 0, locals := 64 }) (cP s0 [.ref s0.heap.size, .ref (aI s0.heap.size pa), .ref (aI s0.heap.size ch)] H) (cQv (.int (c_fd C pa ch (kN C 0))) (fun H1 => H1 = H)) 0 0 (cF s0) := by
  refine Met.ofW (cc := cX1_find) (maxL := 5) (ret := (some .int)) (by decide) rfl ?_
  intro p e s m args below meth c s₁ Bd hml hv
  obtain ⟨rfl, rfl, hW0⟩ := hv
  have hx := Bd.exec
  have hb := Bd.bytes
  have hr := Bd.returns
  have hts := atoms_spec (ws := (ws_ yX1_find cX1_find 5 (some .int))) Bd.pre
  have hts : ∀ w ∈ lw_all, w.before _ s = true := fun w h => hts w (List.mem_cons_of_mem _ h)
  have hown : s.vm.findClass RX1 = some m.cls := findClass_of_methodNamed Bd.named
  have hlocks := Bd.notSynchronized
  have hK := va_K.moved hW0.alike hE.K
  have hL : gx_L s0.heap.size ([] : List Loc) := gx_L0
  have hl := lv_entry ([.ref s0.heap.size, .ref (aI s0.heap.size pa), .ref (aI s0.heap.size ch)]) (n := 5) (Nat.le_of_ble_eq_true rfl)
  rw [lg_entry_eq]
  generalize (lg_sl ([.ref s0.heap.size, .ref (aI s0.heap.size pa), .ref (aI s0.heap.size ch)]) ++ List.replicate (5 - (lg_sl ([.ref s0.heap.size, .ref (aI s0.heap.size pa), .ref (aI s0.heap.size ch)])).length) Slot.unset).toArray = ls at hl ⊢
  have hl : lv_has ls 5 [(0, .ref s0.heap.size), (1, .ref (aI s0.heap.size pa)), (2, .ref (aI s0.heap.size ch))] := hl
  have h24 := hR.lay.2.2.2.2.2.2.1.1
  have key : ∀ (n : Nat) (v : Nat) (locs : List Loc) (ls : Array Slot), v ≤ kN C 0 → kN C 0 < v + n → lv_has ls 5 [(3, .int (c_fd C pa ch v)), (4, .int (nI v)), (0, .ref s0.heap.size), (1, .ref (aI s0.heap.size pa)), (2, .ref (aI s0.heap.size ch))] → gx_L s0.heap.size locs → W p l e (headSpec (ws_ yX1_find cX1_find 5 (some .int)) ({ frames := 3, cells := 0, slots := 0, locals := 64 })).room s m ([.ref s0.heap.size, .ref (aI s0.heap.size pa), .ref (aI s0.heap.size ch)] : List Value).toArray below meth c s.heap locs 0 0 (MQ below (cQv (.int (c_fd C pa ch (kN C 0))) (fun H1 => H1 = s.heap)) ([.ref s0.heap.size, .ref (aI s0.heap.size pa), .ref (aI s0.heap.size ch)] : List Value).toArray s 0 0 (cF s0)) (F0 m 5 ls []) := by
    intro n
    induction n with
    | zero =>
      intro v locs ls hv hn hl hL
      omega
    | succ n ih =>
      intro v locs ls hv hn hl hL
      refine lv_iload hx hb dX1_find_5 (lv_at hl 1 rfl) ?_
      refine lv_aload_n hx hb dX1_find_7 rfl (lv_at hl 2 rfl) ?_
      refine gx_get (D := D) (cl := gcl) (ci := 0) (v := .ref (aL s0.heap.size 0)) (C := RX1) (T := TX1) (N := 10) hx hb hts in_X1 hown hK hR.np rfl 1 (by decide) (hts _ q273) (fun _ h9 => h9) rfl dX1_find_8 ?_
      refine cc_v (va_runV (b := aL s0.heap.size 0) (As := []) (rest := [.int (nI v)]) ⟨hx, hb, hml, hown, hts⟩ (ct_J2_size hE (hR.lob 0 (by omega))) (cwV 0 hts (lw_V q459 q379 q380 q50 q381) rfl rfl rfl (by decide +kernel) ⟨Nat.le_of_ble_eq_true rfl, Nat.le_of_ble_eq_true rfl⟩) (cc_pV hW0 (cc_re hK (hR.lob 0 (by omega)) (show gcl[1]? = _ from rfl))) rfl rfl hl.1 rfl (lv_room (Nat.le_of_ble_eq_true rfl)) dX1_find_11 ⟨Nat.le_of_ble_eq_true rfl, Nat.le_of_ble_eq_true rfl⟩) hL (fun H locs hP1 hL => ?_)
      subst hP1
      refine lv_icmp_ge (tgt := 68) hx hb dX1_find_14 (by decide) (fun c14 => ?_) (fun c14 => ?_)
      · have hvc : v = kN C 0 := by have := n_ge c14 (by omega) (by omega); omega
        refine lv_iload_n hx hb dX1_find_68 rfl (lv_at hl 0 rfl) ?_
        exact W.iret (v := (c_fd C pa ch v)) hx hb hr (fun t ht hW => ⟨ovI (by rw [hvc]), ht⟩) hL dX1_find_69
      · have hv2 : v < kN C 0 := n_lt c14 (by omega) (by omega)
        refine lv_aload_n hx hb dX1_find_17 rfl (lv_at hl 2 rfl) ?_
        refine gx_get (D := D) (cl := gcl) (ci := 0) (v := .ref (aL s0.heap.size 0)) (C := RX1) (T := TX1) (N := 10) hx hb hts in_X1 hown hK hR.np rfl 1 (by decide) (hts _ q273) (fun _ h9 => h9) rfl dX1_find_18 ?_
        refine lv_iload hx hb dX1_find_21 (lv_at hl 1 rfl) ?_
        refine cc_v (va_runV (b := aL s0.heap.size 0) (As := [.int (nI v)]) (rest := []) ⟨hx, hb, hml, hown, hts⟩ (ct_J2_get (i := v) hE (hR.lob 0 (by omega)) (hR.lda 0 (by omega) (Nat.lt_of_lt_of_le (Nat.lt_of_le_of_lt (Nat.zero_le _) hv2) (hR.lay.1 0 (by omega)).1)) (by have := (hR.lay.1 0 (by omega)).2; omega) hv2 (hR.lay.1 0 (by omega)).1 (hR.lay.2.1 0 (by omega) v hv2)) (cwV 1 hts (lw_V q460 q383 q384 q50 q385) rfl rfl rfl (by decide +kernel) ⟨Nat.le_of_ble_eq_true rfl, Nat.le_of_ble_eq_true rfl⟩) (cc_pV hW0 (cc_re hK (hR.lob 0 (by omega)) (show gcl[1]? = _ from rfl))) rfl rfl hl.1 rfl (lv_room (Nat.le_of_ble_eq_true rfl)) dX1_find_23 ⟨Nat.le_of_ble_eq_true rfl, Nat.le_of_ble_eq_true rfl⟩) hL (fun H locs hP1 hL => ?_)
        subst hP1
        refine gx_castS (ci := 11) hx hb hown (hts _ q461) hK (hR.lin v hv2) (show gcl[11]? = _ from rfl) dX1_find_26 ?_
        refine cc_v (va_runV (b := yE Y 0 v) (As := []) (rest := []) ⟨hx, hb, hml, hown, hts⟩ (ct_X12_parent hE hR hv2) (cwV 0 hts (lw_V q462 q463 q464 q71 q465) rfl rfl rfl (by decide +kernel) ⟨Nat.le_of_ble_eq_true rfl, Nat.le_of_ble_eq_true rfl⟩) (cc_pV hW0 (cc_re hK (hR.lin v hv2) (show gcl[11]? = _ from rfl))) rfl rfl hl.1 rfl (lv_room (Nat.le_of_ble_eq_true rfl)) dX1_find_29 ⟨Nat.le_of_ble_eq_true rfl, Nat.le_of_ble_eq_true rfl⟩) hL (fun H locs hP1 hL => ?_)
        subst hP1
        refine lv_aload_n hx hb dX1_find_32 rfl (lv_at hl 3 rfl) ?_
        refine lv_acmp_ne (rx := some (aI s0.heap.size (kP C v))) (ry := some (aI s0.heap.size pa)) (tgt := 60) hx hb dX1_find_33 (by decide) (fun c33 => ?_) (fun c33 => ?_)
        · refine lv_iload_n hx hb dX1_find_60 rfl (lv_at hl 0 rfl) ?_
          refine gx_ti (c_fd C pa ch (v + 1)) (by rw [c_fd]; exact (if_neg (fun q => c33 (by rw [q.1]))).symm) ?_
          refine lv_istore_n (lv' := [(3, .int (c_fd C pa ch (v + 1))), (4, .int (nI v)), (0, .ref s0.heap.size), (1, .ref (aI s0.heap.size pa)), (2, .ref (aI s0.heap.size ch))]) hx hb dX1_find_61 rfl hl (by decide) rfl (fun ls hl => ?_)
          refine lv_iinc (v := nI (v + 1)) (lv' := [(4, .int (nI (v + 1))), (3, .int (c_fd C pa ch (v + 1))), (0, .ref s0.heap.size), (1, .ref (aI s0.heap.size pa)), (2, .ref (aI s0.heap.size ch))]) hx hb dX1_find_62 hl (k := 1) rfl (nI_1 v) (by decide) rfl (fun ls hl => ?_)
          refine lv_goto (tgt := 5) hx hb dX1_find_65 (by decide) ?_
          exact ih (v + 1) _ _ (by omega) (by omega) (lv_sub hl [1, 0, 2, 3, 4] rfl) hL
        · refine lv_aload_n hx hb dX1_find_36 rfl (lv_at hl 2 rfl) ?_
          refine gx_get (D := D) (cl := gcl) (ci := 0) (v := .ref (aL s0.heap.size 0)) (C := RX1) (T := TX1) (N := 10) hx hb hts in_X1 hown hK hR.np rfl 1 (by decide) (hts _ q273) (fun _ h9 => h9) rfl dX1_find_37 ?_
          refine lv_iload hx hb dX1_find_40 (lv_at hl 1 rfl) ?_
          refine cc_v (va_runV (b := aL s0.heap.size 0) (As := [.int (nI v)]) (rest := []) ⟨hx, hb, hml, hown, hts⟩ (ct_J2_get (i := v) hE (hR.lob 0 (by omega)) (hR.lda 0 (by omega) (Nat.lt_of_lt_of_le (Nat.lt_of_le_of_lt (Nat.zero_le _) hv2) (hR.lay.1 0 (by omega)).1)) (by have := (hR.lay.1 0 (by omega)).2; omega) hv2 (hR.lay.1 0 (by omega)).1 (hR.lay.2.1 0 (by omega) v hv2)) (cwV 1 hts (lw_V q460 q383 q384 q50 q385) rfl rfl rfl (by decide +kernel) ⟨Nat.le_of_ble_eq_true rfl, Nat.le_of_ble_eq_true rfl⟩) (cc_pV hW0 (cc_re hK (hR.lob 0 (by omega)) (show gcl[1]? = _ from rfl))) rfl rfl hl.1 rfl (lv_room (Nat.le_of_ble_eq_true rfl)) dX1_find_42 ⟨Nat.le_of_ble_eq_true rfl, Nat.le_of_ble_eq_true rfl⟩) hL (fun H locs hP1 hL => ?_)
          subst hP1
          refine gx_castS (ci := 11) hx hb hown (hts _ q461) hK (hR.lin v hv2) (show gcl[11]? = _ from rfl) dX1_find_45 ?_
          refine cc_v (va_runV (b := yE Y 0 v) (As := []) (rest := []) ⟨hx, hb, hml, hown, hts⟩ (ct_X12_child hE hR hv2) (cwV 0 hts (lw_V q466 q467 q468 q71 q469) rfl rfl rfl (by decide +kernel) ⟨Nat.le_of_ble_eq_true rfl, Nat.le_of_ble_eq_true rfl⟩) (cc_pV hW0 (cc_re hK (hR.lin v hv2) (show gcl[11]? = _ from rfl))) rfl rfl hl.1 rfl (lv_room (Nat.le_of_ble_eq_true rfl)) dX1_find_48 ⟨Nat.le_of_ble_eq_true rfl, Nat.le_of_ble_eq_true rfl⟩) hL (fun H locs hP1 hL => ?_)
          subst hP1
          refine lv_aload_n hx hb dX1_find_51 rfl (lv_at hl 4 rfl) ?_
          refine lv_acmp_ne (rx := some (aI s0.heap.size (kC C v))) (ry := some (aI s0.heap.size ch)) (tgt := 60) hx hb dX1_find_52 (by decide) (fun c52 => ?_) (fun c52 => ?_)
          · refine lv_iload_n hx hb dX1_find_60 rfl (lv_at hl 0 rfl) ?_
            refine gx_ti (c_fd C pa ch (v + 1)) (by rw [c_fd]; exact (if_neg (fun q => c52 (by rw [q.2]))).symm) ?_
            refine lv_istore_n (lv' := [(3, .int (c_fd C pa ch (v + 1))), (4, .int (nI v)), (0, .ref s0.heap.size), (1, .ref (aI s0.heap.size pa)), (2, .ref (aI s0.heap.size ch))]) hx hb dX1_find_61 rfl hl (by decide) rfl (fun ls hl => ?_)
            refine lv_iinc (v := nI (v + 1)) (lv' := [(4, .int (nI (v + 1))), (3, .int (c_fd C pa ch (v + 1))), (0, .ref s0.heap.size), (1, .ref (aI s0.heap.size pa)), (2, .ref (aI s0.heap.size ch))]) hx hb dX1_find_62 hl (k := 1) rfl (nI_1 v) (by decide) rfl (fun ls hl => ?_)
            refine lv_goto (tgt := 5) hx hb dX1_find_65 (by decide) ?_
            exact ih (v + 1) _ _ (by omega) (by omega) (lv_sub hl [1, 0, 2, 3, 4] rfl) hL
          · refine lv_iload hx hb dX1_find_55 (lv_at hl 1 rfl) ?_
            refine lv_goto (tgt := 61) hx hb dX1_find_57 (by decide) ?_
            refine gx_ti (c_fd C pa ch (v + 1)) (by rw [c_fd]; exact (if_pos ⟨aI_inj.mp (Option.some.inj c33), aI_inj.mp (Option.some.inj c52)⟩).symm) ?_
            refine lv_istore_n (lv' := [(3, .int (c_fd C pa ch (v + 1))), (4, .int (nI v)), (0, .ref s0.heap.size), (1, .ref (aI s0.heap.size pa)), (2, .ref (aI s0.heap.size ch))]) hx hb dX1_find_61 rfl hl (by decide) rfl (fun ls hl => ?_)
            refine lv_iinc (v := nI (v + 1)) (lv' := [(4, .int (nI (v + 1))), (3, .int (c_fd C pa ch (v + 1))), (0, .ref s0.heap.size), (1, .ref (aI s0.heap.size pa)), (2, .ref (aI s0.heap.size ch))]) hx hb dX1_find_62 hl (k := 1) rfl (nI_1 v) (by decide) rfl (fun ls hl => ?_)
            refine lv_goto (tgt := 5) hx hb dX1_find_65 (by decide) ?_
            exact ih (v + 1) _ _ (by omega) (by omega) (lv_sub hl [1, 0, 2, 3, 4] rfl) hL
  refine lv_iconst (v := (-1)) hx hb dX1_find_0 (by decide) ?_
  refine gx_ti (c_fd C pa ch 0) (rfl) ?_
  refine lv_istore_n (lv' := [(3, .int (c_fd C pa ch 0)), (0, .ref s0.heap.size), (1, .ref (aI s0.heap.size pa)), (2, .ref (aI s0.heap.size ch))]) hx hb dX1_find_1 rfl hl (by decide) rfl (fun ls hl => ?_)
  refine lv_iconst (v := 0) hx hb dX1_find_2 (by decide) ?_
  refine gx_ti (nI 0) (by decide) ?_
  refine lv_istore (lv' := [(4, .int (nI 0)), (3, .int (c_fd C pa ch 0)), (0, .ref s0.heap.size), (1, .ref (aI s0.heap.size pa)), (2, .ref (aI s0.heap.size ch))]) hx hb dX1_find_3 hl (by decide) rfl (fun ls hl => ?_)
  exact key (kN C 0 + 1) 0 _ _ (by omega) (by omega) (lv_sub hl [1, 0, 2, 3, 4] rfl) hL
set_option maxHeartbeats 4000000 in
set_option maxRecDepth 100000 in
/-- raise -/
theorem ct_X1_raise {l : Launch} {s0 : State} {D : va_G} {DA : Nat → ClassId} {z0 : Nat} {C : CS} {M : MS} {o : Int64} {H : Heap} (hE : G0 l s0 D DA z0) (hR : RR s0 D DA z0 C M o H) {pa ch : Nat} (hpa : pa < 12) (hch : ch < 12) : Met l yX1_raise (ws_ yX1_raise cX1_raise 4 (some .boolean)) ({ frames := 0, cells := 0, slots := 0, locals := 0 }) (cP s0 [.ref s0.heap.size, .ref (aI s0.heap.size pa), .ref (aI s0.heap.size ch)] H) (cQv (.int (bZ (decide (kV C ch ≤ kV C pa)))) (fun H1 => RR s0 D DA z0 (rV C (v_ra (kV C) pa ch)) M o H1)) 0 0 (cF s0) := by
  refine Met.ofW (cc := cX1_raise) (maxL := 4) (ret := (some .boolean)) (by decide) rfl ?_
  intro p e s m args below meth c s₁ Bd hml hv
  obtain ⟨rfl, rfl, hW0⟩ := hv
  have hx := Bd.exec
  have hb := Bd.bytes
  have hr := Bd.returns
  have hts := atoms_spec (ws := (ws_ yX1_raise cX1_raise 4 (some .boolean))) Bd.pre
  have hts : ∀ w ∈ lw_all, w.before _ s = true := fun w h => hts w (List.mem_cons_of_mem _ h)
  have hown : s.vm.findClass RX1 = some m.cls := findClass_of_methodNamed Bd.named
  have hlocks := Bd.notSynchronized
  have hK := va_K.moved hW0.alike hE.K
  have hL : gx_L s0.heap.size ([] : List Loc) := gx_L0
  obtain ⟨Y, hR⟩ := hR
  have hl := lv_entry ([.ref s0.heap.size, .ref (aI s0.heap.size pa), .ref (aI s0.heap.size ch)]) (n := 4) (Nat.le_of_ble_eq_true rfl)
  rw [lg_entry_eq]
  generalize (lg_sl ([.ref s0.heap.size, .ref (aI s0.heap.size pa), .ref (aI s0.heap.size ch)]) ++ List.replicate (4 - (lg_sl ([.ref s0.heap.size, .ref (aI s0.heap.size pa), .ref (aI s0.heap.size ch)])).length) Slot.unset).toArray = ls at hl ⊢
  have hl : lv_has ls 4 [(0, .ref s0.heap.size), (1, .ref (aI s0.heap.size pa)), (2, .ref (aI s0.heap.size ch))] := hl
  refine lv_aload_n hx hb dX1_raise_0 rfl (lv_at hl 0 rfl) ?_
  refine gx_get (D := D) (cl := gcl) (ci := 0) (v := .ref (s0.heap.size + 19)) (C := RX1) (T := TX1) (N := 10) hx hb hts in_X1 hown hK hR.np rfl 9 (by decide) (hts _ q281) (fun _ h9 => h9) rfl dX1_raise_1 ?_
  refine lv_aload_n hx hb dX1_raise_4 rfl (lv_at hl 2 rfl) ?_
  refine gx_getN (D := D) (cl := gcl) (ci := 8) (v := .int (nI ch)) (C := RX9) (T := TX9) (N := 19) hx hb hts in_X9 hown hK (hR.itm ch hch) rfl 0 (by decide) (hE.nF hW0 q187) (fun _ h9 => h9) rfl dX1_raise_5 ?_
  refine gx_iald (n := 12) hx hb hK 1 hR.lev rfl ch (rfl) (hch) (by decide) dX1_raise_8 ?_
  refine lv_aload_n hx hb dX1_raise_9 rfl (lv_at hl 0 rfl) ?_
  refine gx_get (D := D) (cl := gcl) (ci := 0) (v := .ref (s0.heap.size + 19)) (C := RX1) (T := TX1) (N := 10) hx hb hts in_X1 hown hK hR.np rfl 9 (by decide) (hts _ q281) (fun _ h9 => h9) rfl dX1_raise_10 ?_
  refine lv_aload_n hx hb dX1_raise_13 rfl (lv_at hl 1 rfl) ?_
  refine gx_getN (D := D) (cl := gcl) (ci := 8) (v := .int (nI pa)) (C := RX9) (T := TX9) (N := 19) hx hb hts in_X9 hown hK (hR.itm pa hpa) rfl 0 (by decide) (hE.nF hW0 q187) (fun _ h9 => h9) rfl dX1_raise_14 ?_
  refine gx_iald (n := 12) hx hb hK 1 hR.lev rfl pa (rfl) (hpa) (by decide) dX1_raise_17 ?_
  refine lv_icmp_gt (tgt := 25) hx hb dX1_raise_18 (by decide) (fun c18 => ?_) (fun c18 => ?_)
  · have hb1 : decide (kV C ch ≤ kV C pa) = false := decide_eq_false (Int32.not_le.mpr c18)
    refine lv_iconst (v := 0) hx hb dX1_raise_25 (by decide) ?_
    refine lv_istore_n (lv' := [(3, .int 0), (0, .ref s0.heap.size), (1, .ref (aI s0.heap.size pa)), (2, .ref (aI s0.heap.size ch))]) hx hb dX1_raise_26 rfl hl (by decide) rfl (fun ls hl => ?_)
    refine lv_iload_n hx hb dX1_raise_27 rfl (lv_at hl 0 rfl) ?_
    refine lv_if_eq (tgt := 51) hx hb dX1_raise_28 (by decide) (fun c28 => ?_) (fun c28 => ?_)
    · refine lv_iload_n hx hb dX1_raise_51 rfl (lv_at hl 0 rfl) ?_
      exact W.zret (v := 0) hx hb hr (rfl) (fun t ht hW => ⟨ovI (by rw [hb1]; rfl), by rw [ht]; exact (RR_C (by unfold v_ra; rw [if_neg (of_decide_eq_false hb1)]; rfl) ⟨_, hR⟩)⟩) hL dX1_raise_52
    · exact absurd c28 (by decide)
  · have hb1 : decide (kV C ch ≤ kV C pa) = true := decide_eq_true (Int32.not_lt.mp c18)
    refine lv_iconst (v := 1) hx hb dX1_raise_21 (by decide) ?_
    refine lv_goto (tgt := 26) hx hb dX1_raise_22 (by decide) ?_
    refine lv_istore_n (lv' := [(3, .int 1), (0, .ref s0.heap.size), (1, .ref (aI s0.heap.size pa)), (2, .ref (aI s0.heap.size ch))]) hx hb dX1_raise_26 rfl hl (by decide) rfl (fun ls hl => ?_)
    refine lv_iload_n hx hb dX1_raise_27 rfl (lv_at hl 0 rfl) ?_
    refine lv_if_eq (tgt := 51) hx hb dX1_raise_28 (by decide) (fun c28 => ?_) (fun c28 => ?_)
    · exact absurd c28 (by decide)
    · refine lv_aload_n hx hb dX1_raise_31 rfl (lv_at hl 1 rfl) ?_
      refine gx_get (D := D) (cl := gcl) (ci := 0) (v := .ref (s0.heap.size + 19)) (C := RX1) (T := TX1) (N := 10) hx hb hts in_X1 hown hK hR.np rfl 9 (by decide) (hts _ q281) (fun _ h9 => h9) rfl dX1_raise_32 ?_
      refine lv_aload_n hx hb dX1_raise_35 rfl (lv_at hl 3 rfl) ?_
      refine gx_getN (D := D) (cl := gcl) (ci := 8) (v := .int (nI ch)) (C := RX9) (T := TX9) (N := 19) hx hb hts in_X9 hown hK (hR.itm ch hch) rfl 0 (by decide) (hE.nF hW0 q187) (fun _ h9 => h9) rfl dX1_raise_36 ?_
      refine lv_aload_n hx hb dX1_raise_39 rfl (lv_at hl 1 rfl) ?_
      refine gx_get (D := D) (cl := gcl) (ci := 0) (v := .ref (s0.heap.size + 19)) (C := RX1) (T := TX1) (N := 10) hx hb hts in_X1 hown hK hR.np rfl 9 (by decide) (hts _ q281) (fun _ h9 => h9) rfl dX1_raise_40 ?_
      refine lv_aload_n hx hb dX1_raise_43 rfl (lv_at hl 2 rfl) ?_
      refine gx_getN (D := D) (cl := gcl) (ci := 8) (v := .int (nI pa)) (C := RX9) (T := TX9) (N := 19) hx hb hts in_X9 hown hK (hR.itm pa hpa) rfl 0 (by decide) (hE.nF hW0 q187) (fun _ h9 => h9) rfl dX1_raise_44 ?_
      refine gx_iald (n := 12) hx hb hK 1 hR.lev rfl pa (rfl) (hpa) (by decide) dX1_raise_47 ?_
      refine lv_iconst (v := 1) hx hb dX1_raise_48 (by decide) ?_
      refine lv_iadd hx hb dX1_raise_49 ?_
      refine gx_iast (n := 12) hx hb hK 1 hR.lev rfl ch (rfl) (hch) (by decide) hL (by (try simp only [aI, aA, aT, aB, aL, mad]); omega) dX1_raise_50 (fun H locs hU hA hL => ?_)
      have hR := GRb.pV hR hU hA
      refine lv_iload_n hx hb dX1_raise_51 rfl (lv_at hl 0 rfl) ?_
      exact W.zret (v := 1) hx hb hr (rfl) (fun t ht hW => ⟨ovI (by rw [hb1]; rfl), by rw [ht]; exact (RR_C (by unfold v_ra; rw [if_pos (of_decide_eq_true hb1)]) ⟨_, hR⟩)⟩) hL dX1_raise_52
set_option maxHeartbeats 4000000 in
set_option maxRecDepth 100000 in
/-- levelled -/
theorem ct_X1_levelled_0 {l : Launch} {s0 : State} {D : va_G} {DA : Nat → ClassId} {z0 : Nat} {C : CS} {M : MS} {o : Int64} {H : Heap} (hE : G0 l s0 D DA z0) (hR : RR s0 D DA z0 C M o H)  : Met l yX1_levelled (ws_ yX1_levelled cX1_levelled 8 (some .boolean)) ({ frames := 3, cells := 0, slots := 0, locals := 64 }) (cP s0 [.ref s0.heap.size, .null, .null] H) (cQv (.int (bZ (c_lev C none).2)) (fun H1 => RR s0 D DA z0 (rV C (c_lev C none).1) M o H1)) 0 0 (cF s0) := by
  refine Met.ofW (cc := cX1_levelled) (maxL := 8) (ret := (some .boolean)) (by decide) rfl ?_
  intro p e s m args below meth c s₁ Bd hml hv
  obtain ⟨rfl, rfl, hW0⟩ := hv
  have hx := Bd.exec
  have hb := Bd.bytes
  have hr := Bd.returns
  have hts := atoms_spec (ws := (ws_ yX1_levelled cX1_levelled 8 (some .boolean))) Bd.pre
  have hts : ∀ w ∈ lw_all, w.before _ s = true := fun w h => hts w (List.mem_cons_of_mem _ h)
  have hown : s.vm.findClass RX1 = some m.cls := findClass_of_methodNamed Bd.named
  have hlocks := Bd.notSynchronized
  have hK := va_K.moved hW0.alike hE.K
  have hL : gx_L s0.heap.size ([] : List Loc) := gx_L0
  obtain ⟨Y, hR⟩ := hR
  have hl := lv_entry ([.ref s0.heap.size, .null, .null]) (n := 8) (Nat.le_of_ble_eq_true rfl)
  rw [lg_entry_eq]
  generalize (lg_sl ([.ref s0.heap.size, .null, .null]) ++ List.replicate (8 - (lg_sl ([.ref s0.heap.size, .null, .null])).length) Slot.unset).toArray = ls at hl ⊢
  have hl : lv_has ls 8 [(0, .ref s0.heap.size), (1, .null), (2, .null)] := hl
  have h24 := hR.lay.2.2.2.2.2.2.1.1
  have hPK : ∀ i, i < kN C 0 → kP C i < 12 ∧ kC C i < 12 := fun i hi => (hR.lay.2.2.2.1 i hi).2.2
  have hPK1 : ∀ i, i < kN C 0 → kP C i < 12 := fun i hi => (hPK i hi).1
  have hex : ∀ p c, (none : Option (Nat × Nat)) = some (p, c) → p < 12 ∧ c < 12 := fun p c q => nomatch q
  have ko : ∀ (n : Nat) (Y : YS) (V : VF) (mo : Bool) (H : Heap) (locs : List Loc) (ls : Array Slot), vB V 4 → v_lev (kP C) (kC C) (kN C 0) none n mo V = v_lev (kP C) (kC C) (kN C 0) none 50 true (v_z (kV C) 12) → 49 + (bif mo then 1 else 0) ≤ vs V 12 + n → lv_has ls 8 [(3, .int (bZ mo)), (0, .ref s0.heap.size), (1, .null), (2, .null)] → gx_L s0.heap.size locs → GRb s0.heap.size s0.heap D DA z0 Y (rV C V) M o H → W p l e (headSpec (ws_ yX1_levelled cX1_levelled 8 (some .boolean)) ({ frames := 3, cells := 0, slots := 0, locals := 64 })).room s m ([.ref s0.heap.size, .null, .null] : List Value).toArray below meth c H locs 0 0 (MQ below (cQv (.int (bZ (c_lev C none).2)) (fun H1 => RR s0 D DA z0 (rV C (c_lev C none).1) M o H1)) ([.ref s0.heap.size, .null, .null] : List Value).toArray s 0 0 (cF s0)) (F0 m 23 ls []) := by
    intro n
    induction n with
    | zero =>
      intro Y V mo H locs ls hB hq hn hl hL hR
      have := vs_le hB (by omega) 12 (by omega); cases mo <;> simp at hn <;> omega
    | succ n ih =>
      intro Y V mo H locs ls hB hq hn hl hL hR
      refine lv_iload_n hx hb dX1_levelled_23 rfl (lv_at hl 0 rfl) ?_
      refine lv_if_eq (tgt := 149) hx hb dX1_levelled_24 (by decide) (fun c24 => ?_) (fun c24 => ?_)
      · have hmo := bZ_0.mp c24
        subst hmo
        refine lv_iconst (v := 1) hx hb dX1_levelled_149 (by decide) ?_
        exact W.zret (v := 1) hx hb hr (rfl) (fun t ht hW => ⟨ovI (by unfold c_lev; rw [← hq]; rfl), by rw [ht]; exact (RR_C (by unfold c_lev; rw [← hq]; rfl) ⟨_, hR⟩)⟩) hL dX1_levelled_150
      · have hmo := bZ_1.mp c24
        subst hmo
        have hB2 := v_rd_B (P := kP C) (K := kC C) (n := kN C 0) (ex := none) hB hex hPK1
        have hS2 := v_rd_s (P := kP C) (K := kC C) (n := kN C 0) (ex := none) hB (by omega) hex hPK
        have kl : ∀ (n : Nat) (Y : YS) (v : Nat) (H : Heap) (locs : List Loc) (ls : Array Slot), v ≤ kN C 0 → kN C 0 < v + n → lv_has ls 8 [(3, .int (bZ (v_ls (kP C) (kC C) (v_x0 none V) v).2)), (4, .int (nI v)), (0, .ref s0.heap.size), (1, .null), (2, .null)] → gx_L s0.heap.size locs → GRb s0.heap.size s0.heap D DA z0 Y (rV C (v_ls (kP C) (kC C) (v_x0 none V) v).1) M o H → W p l e (headSpec (ws_ yX1_levelled cX1_levelled 8 (some .boolean)) ({ frames := 3, cells := 0, slots := 0, locals := 64 })).room s m ([.ref s0.heap.size, .null, .null] : List Value).toArray below meth c H locs 0 0 (MQ below (cQv (.int (bZ (c_lev C none).2)) (fun H1 => RR s0 D DA z0 (rV C (c_lev C none).1) M o H1)) ([.ref s0.heap.size, .null, .null] : List Value).toArray s 0 0 (cF s0)) (F0 m 49 ls []) := by
          intro n
          induction n with
          | zero =>
            intro Y v H locs ls hv hn3 hl hL hR
            omega
          | succ n ih3 =>
            intro Y v H locs ls hv hn3 hl hL hR
            refine lv_iload hx hb dX1_levelled_49 (lv_at hl 1 rfl) ?_
            refine lv_aload_n hx hb dX1_levelled_51 rfl (lv_at hl 2 rfl) ?_
            refine gx_get (D := D) (cl := gcl) (ci := 0) (v := .ref (aL s0.heap.size 0)) (C := RX1) (T := TX1) (N := 10) hx hb hts in_X1 hown hK hR.np rfl 1 (by decide) (hts _ q273) (fun _ h9 => h9) rfl dX1_levelled_52 ?_
            refine cc_v (va_runV (b := aL s0.heap.size 0) (As := []) (rest := [.int (nI v)]) ⟨hx, hb, hml, hown, hts⟩ (ct_J2_size hE (hR.lob 0 (by omega))) (cwV 0 hts (lw_V q459 q379 q380 q50 q381) rfl rfl rfl (by decide +kernel) ⟨Nat.le_of_ble_eq_true rfl, Nat.le_of_ble_eq_true rfl⟩) (cc_pV hW0 (cc_re hK (hR.lob 0 (by omega)) (show gcl[1]? = _ from rfl))) rfl rfl hl.1 rfl (lv_room (Nat.le_of_ble_eq_true rfl)) dX1_levelled_55 ⟨Nat.le_of_ble_eq_true rfl, Nat.le_of_ble_eq_true rfl⟩) hL (fun H locs hP1 hL => ?_)
            subst hP1
            refine lv_icmp_ge (tgt := 104) hx hb dX1_levelled_58 (by decide) (fun c58 => ?_) (fun c58 => ?_)
            · have hvc : v = kN C 0 := by have := n_ge (b := kN C 0) c58 (by omega) (by omega); omega
              subst hvc
              have hR : GRb s0.heap.size s0.heap D DA z0 Y (rV C (v_rd (kP C) (kC C) (kN C 0) none V).1) M o H := hR
              have hl : lv_has ls 8 [(3, .int (bZ (v_rd (kP C) (kC C) (kN C 0) none V).2)), (4, .int (nI (kN C 0))), (0, .ref s0.heap.size), (1, .null), (2, .null)] := hl
              have kd : ∀ (n : Nat) (v : Nat) (locs : List Loc) (ls : Array Slot), v ≤ 12 → 12 < v + n → v_deep (v_rd (kP C) (kC C) (kN C 0) none V).1 v = false → lv_has ls 8 [(3, .int (bZ (v_rd (kP C) (kC C) (kN C 0) none V).2)), (4, .ref (s0.heap.size + 19)), (5, .int (nI 12)), (6, .int (nI v)), (0, .ref s0.heap.size), (1, .null), (2, .null)] → gx_L s0.heap.size locs → W p l e (headSpec (ws_ yX1_levelled cX1_levelled 8 (some .boolean)) ({ frames := 3, cells := 0, slots := 0, locals := 64 })).room s m ([.ref s0.heap.size, .null, .null] : List Value).toArray below meth c H locs 0 0 (MQ below (cQv (.int (bZ (c_lev C none).2)) (fun H1 => RR s0 D DA z0 (rV C (c_lev C none).1) M o H1)) ([.ref s0.heap.size, .null, .null] : List Value).toArray s 0 0 (cF s0)) (F0 m 118 ls []) := by
                intro n
                induction n with
                | zero =>
                  intro v locs ls hv hn2 hd hl hL
                  omega
                | succ n ih2 =>
                  intro v locs ls hv hn2 hd hl hL
                  refine lv_iload hx hb dX1_levelled_118 (lv_at hl 3 rfl) ?_
                  refine lv_iload hx hb dX1_levelled_120 (lv_at hl 2 rfl) ?_
                  refine lv_icmp_ge (tgt := 146) hx hb dX1_levelled_122 (by decide) (fun c122 => ?_) (fun c122 => ?_)
                  · have hkc : v = 12 := by have := n_ge (b := 12) c122 (by omega) (by omega); omega
                    subst hkc
                    refine lv_goto (tgt := 23) hx hb dX1_levelled_146 (by decide) ?_
                    exact ih Y (v_rd (kP C) (kC C) (kN C 0) none V).1 (v_rd (kP C) (kC C) (kN C 0) none V).2 _ _ _ (v_deep_B hB2 (by omega) hd) (by rw [← hq, v_lev, hd]; rfl) (by simp only [Bool.cond_true] at hn; revert hS2; cases (v_rd (kP C) (kC C) (kN C 0) none V).2 <;> simp <;> omega) (lv_sub hl [0, 4, 5, 6] rfl) hL hR
                  · have hkc : v < 12 := n_lt (b := 12) c122 (by omega) (by omega)
                    refine lv_aload hx hb dX1_levelled_125 (lv_at hl 1 rfl) ?_
                    refine lv_iload hx hb dX1_levelled_127 (lv_at hl 3 rfl) ?_
                    refine gx_iald (n := 12) hx hb hK 1 hR.lev rfl v (rfl) (hkc) (by decide) dX1_levelled_129 ?_
                    refine gx_ti ((v_rd (kP C) (kC C) (kN C 0) none V).1 v) (rfl) ?_
                    refine lv_istore (lv' := [(7, .int ((v_rd (kP C) (kC C) (kN C 0) none V).1 v)), (3, .int (bZ (v_rd (kP C) (kC C) (kN C 0) none V).2)), (4, .ref (s0.heap.size + 19)), (5, .int (nI 12)), (6, .int (nI v)), (0, .ref s0.heap.size), (1, .null), (2, .null)]) hx hb dX1_levelled_130 hl (by decide) rfl (fun ls hl => ?_)
                    refine lv_iload hx hb dX1_levelled_132 (lv_at hl 0 rfl) ?_
                    refine lv_iconst (v := 4) hx hb dX1_levelled_134 (by decide) ?_
                    refine lv_icmp_le (tgt := 140) hx hb dX1_levelled_135 (by decide) (fun c135 => ?_) (fun c135 => ?_)
                    · have hd2 : v_deep (v_rd (kP C) (kC C) (kN C 0) none V).1 (v + 1) = false := by rw [v_deep, hd, decide_eq_false (Int32.not_lt.mpr c135)]; rfl
                      refine lv_iinc (v := nI (v + 1)) (lv' := [(6, .int (nI (v + 1))), (7, .int ((v_rd (kP C) (kC C) (kN C 0) none V).1 v)), (3, .int (bZ (v_rd (kP C) (kC C) (kN C 0) none V).2)), (4, .ref (s0.heap.size + 19)), (5, .int (nI 12)), (0, .ref s0.heap.size), (1, .null), (2, .null)]) hx hb dX1_levelled_140 hl (k := 4) rfl (nI_1 v) (by decide) rfl (fun ls hl => ?_)
                      refine lv_goto (tgt := 118) hx hb dX1_levelled_143 (by decide) ?_
                      exact ih2 (v + 1) _ _ (by omega) (by omega) (hd2) (lv_sub hl [2, 3, 4, 0, 5, 6, 7] rfl) hL
                    · have hd2 : v_deep (v_rd (kP C) (kC C) (kN C 0) none V).1 12 = true := v_deep_t hkc (i_nle c135)
                      refine lv_iconst (v := 0) hx hb dX1_levelled_138 (by decide) ?_
                      exact W.zret (v := 0) hx hb hr (rfl) (fun t ht hW => ⟨ovI (by unfold c_lev; rw [← hq, v_lev, if_pos hd2]; rfl), by rw [ht]; exact (RR_C (by unfold c_lev; rw [← hq, v_lev, if_pos hd2]) ⟨_, hR⟩)⟩) hL dX1_levelled_139
              refine lv_aload_n hx hb dX1_levelled_104 rfl (lv_at hl 2 rfl) ?_
              refine gx_get (D := D) (cl := gcl) (ci := 0) (v := .ref (s0.heap.size + 19)) (C := RX1) (T := TX1) (N := 10) hx hb hts in_X1 hown hK hR.np rfl 9 (by decide) (hts _ q281) (fun _ h9 => h9) rfl dX1_levelled_105 ?_
              refine lv_astore (lv' := [(4, .ref (s0.heap.size + 19)), (3, .int (bZ (v_rd (kP C) (kC C) (kN C 0) none V).2)), (0, .ref s0.heap.size), (1, .null), (2, .null)]) hx hb dX1_levelled_108 hl (by decide) rfl (fun ls hl => ?_)
              refine lv_aload hx hb dX1_levelled_110 (lv_at hl 0 rfl) ?_
              refine gx_alen hx hb hK 1 hR.lev rfl dX1_levelled_112 ?_
              refine gx_ti (nI 12) rfl ?_
              refine lv_istore (lv' := [(5, .int (nI 12)), (4, .ref (s0.heap.size + 19)), (3, .int (bZ (v_rd (kP C) (kC C) (kN C 0) none V).2)), (0, .ref s0.heap.size), (1, .null), (2, .null)]) hx hb dX1_levelled_113 hl (by decide) rfl (fun ls hl => ?_)
              refine lv_iconst (v := 0) hx hb dX1_levelled_115 (by decide) ?_
              refine gx_ti (nI 0) (by decide) ?_
              refine lv_istore (lv' := [(6, .int (nI 0)), (5, .int (nI 12)), (4, .ref (s0.heap.size + 19)), (3, .int (bZ (v_rd (kP C) (kC C) (kN C 0) none V).2)), (0, .ref s0.heap.size), (1, .null), (2, .null)]) hx hb dX1_levelled_116 hl (by decide) rfl (fun ls hl => ?_)
              exact kd 13 0 _ _ (by omega) (by omega) rfl (lv_sub hl [3, 2, 1, 0, 4, 5, 6] rfl) hL
            · have hv2 : v < kN C 0 := n_lt (b := kN C 0) c58 (by omega) (by omega)
              have hpv := (hPK v hv2).1
              have hcv := (hPK v hv2).2
              refine lv_iload_n hx hb dX1_levelled_61 rfl (lv_at hl 0 rfl) ?_
              refine lv_aload_n hx hb dX1_levelled_62 rfl (lv_at hl 2 rfl) ?_
              refine lv_aload_n hx hb dX1_levelled_63 rfl (lv_at hl 2 rfl) ?_
              refine gx_get (D := D) (cl := gcl) (ci := 0) (v := .ref (aL s0.heap.size 0)) (C := RX1) (T := TX1) (N := 10) hx hb hts in_X1 hown hK hR.np rfl 1 (by decide) (hts _ q273) (fun _ h9 => h9) rfl dX1_levelled_64 ?_
              refine lv_iload hx hb dX1_levelled_67 (lv_at hl 1 rfl) ?_
              refine cc_v (va_runV (b := aL s0.heap.size 0) (As := [.int (nI v)]) (rest := [.ref s0.heap.size, .int (bZ (v_ls (kP C) (kC C) (v_x0 none V) v).2)]) ⟨hx, hb, hml, hown, hts⟩ (ct_J2_get (i := v) hE (hR.lob 0 (by omega)) (hR.lda 0 (by omega) (Nat.lt_of_lt_of_le (Nat.lt_of_le_of_lt (Nat.zero_le _) hv2) (hR.lay.1 0 (by omega)).1)) (by have := (hR.lay.1 0 (by omega)).2; omega) hv2 (hR.lay.1 0 (by omega)).1 (hR.lay.2.1 0 (by omega) v hv2)) (cwV 1 hts (lw_V q460 q383 q384 q50 q385) rfl rfl rfl (by decide +kernel) ⟨Nat.le_of_ble_eq_true rfl, Nat.le_of_ble_eq_true rfl⟩) (cc_pV hW0 (cc_re hK (hR.lob 0 (by omega)) (show gcl[1]? = _ from rfl))) rfl rfl hl.1 rfl (lv_room (Nat.le_of_ble_eq_true rfl)) dX1_levelled_69 ⟨Nat.le_of_ble_eq_true rfl, Nat.le_of_ble_eq_true rfl⟩) hL (fun H locs hP1 hL => ?_)
              subst hP1
              refine gx_castS (ci := 11) hx hb hown (hts _ q461) hK (hR.lin v hv2) (show gcl[11]? = _ from rfl) dX1_levelled_72 ?_
              refine cc_v (va_runV (b := yE Y 0 v) (As := []) (rest := [.ref s0.heap.size, .int (bZ (v_ls (kP C) (kC C) (v_x0 none V) v).2)]) ⟨hx, hb, hml, hown, hts⟩ (ct_X12_parent hE hR hv2) (cwV 0 hts (lw_V q462 q463 q464 q71 q465) rfl rfl rfl (by decide +kernel) ⟨Nat.le_of_ble_eq_true rfl, Nat.le_of_ble_eq_true rfl⟩) (cc_pV hW0 (cc_re hK (hR.lin v hv2) (show gcl[11]? = _ from rfl))) rfl rfl hl.1 rfl (lv_room (Nat.le_of_ble_eq_true rfl)) dX1_levelled_75 ⟨Nat.le_of_ble_eq_true rfl, Nat.le_of_ble_eq_true rfl⟩) hL (fun H locs hP1 hL => ?_)
              subst hP1
              refine lv_aload_n hx hb dX1_levelled_78 rfl (lv_at hl 2 rfl) ?_
              refine gx_get (D := D) (cl := gcl) (ci := 0) (v := .ref (aL s0.heap.size 0)) (C := RX1) (T := TX1) (N := 10) hx hb hts in_X1 hown hK hR.np rfl 1 (by decide) (hts _ q273) (fun _ h9 => h9) rfl dX1_levelled_79 ?_
              refine lv_iload hx hb dX1_levelled_82 (lv_at hl 1 rfl) ?_
              refine cc_v (va_runV (b := aL s0.heap.size 0) (As := [.int (nI v)]) (rest := [.ref (aI s0.heap.size (kP (rV C (v_ls (kP C) (kC C) (v_x0 none V) v).1) v)), .ref s0.heap.size, .int (bZ (v_ls (kP C) (kC C) (v_x0 none V) v).2)]) ⟨hx, hb, hml, hown, hts⟩ (ct_J2_get (i := v) hE (hR.lob 0 (by omega)) (hR.lda 0 (by omega) (Nat.lt_of_lt_of_le (Nat.lt_of_le_of_lt (Nat.zero_le _) hv2) (hR.lay.1 0 (by omega)).1)) (by have := (hR.lay.1 0 (by omega)).2; omega) hv2 (hR.lay.1 0 (by omega)).1 (hR.lay.2.1 0 (by omega) v hv2)) (cwV 1 hts (lw_V q460 q383 q384 q50 q385) rfl rfl rfl (by decide +kernel) ⟨Nat.le_of_ble_eq_true rfl, Nat.le_of_ble_eq_true rfl⟩) (cc_pV hW0 (cc_re hK (hR.lob 0 (by omega)) (show gcl[1]? = _ from rfl))) rfl rfl hl.1 rfl (lv_room (Nat.le_of_ble_eq_true rfl)) dX1_levelled_84 ⟨Nat.le_of_ble_eq_true rfl, Nat.le_of_ble_eq_true rfl⟩) hL (fun H locs hP1 hL => ?_)
              subst hP1
              refine gx_castS (ci := 11) hx hb hown (hts _ q461) hK (hR.lin v hv2) (show gcl[11]? = _ from rfl) dX1_levelled_87 ?_
              refine cc_v (va_runV (b := yE Y 0 v) (As := []) (rest := [.ref (aI s0.heap.size (kP (rV C (v_ls (kP C) (kC C) (v_x0 none V) v).1) v)), .ref s0.heap.size, .int (bZ (v_ls (kP C) (kC C) (v_x0 none V) v).2)]) ⟨hx, hb, hml, hown, hts⟩ (ct_X12_child hE hR hv2) (cwV 0 hts (lw_V q466 q467 q468 q71 q469) rfl rfl rfl (by decide +kernel) ⟨Nat.le_of_ble_eq_true rfl, Nat.le_of_ble_eq_true rfl⟩) (cc_pV hW0 (cc_re hK (hR.lin v hv2) (show gcl[11]? = _ from rfl))) rfl rfl hl.1 rfl (lv_room (Nat.le_of_ble_eq_true rfl)) dX1_levelled_90 ⟨Nat.le_of_ble_eq_true rfl, Nat.le_of_ble_eq_true rfl⟩) hL (fun H locs hP1 hL => ?_)
              subst hP1
              refine cc_v (va_runV (b := s0.heap.size) (As := [.ref (aI s0.heap.size (kP (rV C (v_ls (kP C) (kC C) (v_x0 none V) v).1) v)), .ref (aI s0.heap.size (kC (rV C (v_ls (kP C) (kC C) (v_x0 none V) v).1) v))]) (rest := [.int (bZ (v_ls (kP C) (kC C) (v_x0 none V) v).2)]) ⟨hx, hb, hml, hown, hts⟩ (ct_X1_raise hE ⟨_, hR⟩ hpv hcv) (cwV 2 hts (lw_V q662 q664 qs16 q47 q665) rfl rfl rfl (by decide +kernel) ⟨Nat.le_of_ble_eq_true rfl, Nat.le_of_ble_eq_true rfl⟩) (cc_pV hW0 (cc_re hK hR.np (show gcl[0]? = _ from rfl))) rfl rfl hl.1 rfl (lv_room (Nat.le_of_ble_eq_true rfl)) dX1_levelled_93 ⟨Nat.le_of_ble_eq_true rfl, Nat.le_of_ble_eq_true rfl⟩) hL (fun H locs hP1 hL => ?_)
              obtain ⟨Y, hR⟩ := hP1
              have hR := GR_C (C := rV (rV C (v_ls (kP C) (kC C) (v_x0 none V) v).1) (v_ra (kV (rV C (v_ls (kP C) (kC C) (v_x0 none V) v).1)) (kP C v) (kC C v))) (C' := rV C (v_ls (kP C) (kC C) (v_x0 none V) (v + 1)).1) (rfl) hR
              refine lv_ior hx hb dX1_levelled_96 ?_
              refine gx_ti (bZ (v_ls (kP C) (kC C) (v_x0 none V) (v + 1)).2) (bZ_or _ _) ?_
              refine lv_istore_n (lv' := [(3, .int (bZ (v_ls (kP C) (kC C) (v_x0 none V) (v + 1)).2)), (4, .int (nI v)), (0, .ref s0.heap.size), (1, .null), (2, .null)]) hx hb dX1_levelled_97 rfl hl (by decide) rfl (fun ls hl => ?_)
              refine lv_iinc (v := nI (v + 1)) (lv' := [(4, .int (nI (v + 1))), (3, .int (bZ (v_ls (kP C) (kC C) (v_x0 none V) (v + 1)).2)), (0, .ref s0.heap.size), (1, .null), (2, .null)]) hx hb dX1_levelled_98 hl (k := 1) rfl (nI_1 v) (by decide) rfl (fun ls hl => ?_)
              refine lv_goto (tgt := 49) hx hb dX1_levelled_101 (by decide) ?_
              exact ih3 Y (v + 1) _ _ _ (by omega) (by omega) (lv_sub hl [1, 0, 2, 3, 4] rfl) hL hR
        refine lv_aload_nN hx hb dX1_levelled_27 rfl (lv_at hl 2 rfl) ?_
        refine lv_ifnullN (tgt := 44) hx hb dX1_levelled_28 (by decide) ?_
        refine lv_iconst (v := 0) hx hb dX1_levelled_44 (by decide) ?_
        refine gx_ti (bZ (v_ls (kP C) (kC C) (v_x0 none V) 0).2) (rfl) ?_
        refine lv_istore_n (lv' := [(3, .int (bZ (v_ls (kP C) (kC C) (v_x0 none V) 0).2)), (0, .ref s0.heap.size), (1, .null), (2, .null)]) hx hb dX1_levelled_45 rfl hl (by decide) rfl (fun ls hl => ?_)
        refine lv_iconst (v := 0) hx hb dX1_levelled_46 (by decide) ?_
        refine gx_ti (nI 0) (by decide) ?_
        refine lv_istore (lv' := [(4, .int (nI 0)), (3, .int (bZ (v_ls (kP C) (kC C) (v_x0 none V) 0).2)), (0, .ref s0.heap.size), (1, .null), (2, .null)]) hx hb dX1_levelled_47 hl (by decide) rfl (fun ls hl => ?_)
        have hR := GR_C (C := rV C V) (C' := rV C (v_ls (kP C) (kC C) (v_x0 none V) 0).1) (rfl) hR
        exact kl (kN C 0 + 1) Y 0 _ _ _ (by omega) (by omega) (lv_sub hl [1, 0, 2, 3, 4] rfl) hL hR
  have kz : ∀ (n : Nat) (v : Nat) (H : Heap) (locs : List Loc) (ls : Array Slot), v ≤ 12 → 12 < v + n → lv_has ls 8 [(3, .int (nI v)), (0, .ref s0.heap.size), (1, .null), (2, .null)] → gx_L s0.heap.size locs → GRb s0.heap.size s0.heap D DA z0 Y (rV C (v_z (kV C) v)) M o H → W p l e (headSpec (ws_ yX1_levelled cX1_levelled 8 (some .boolean)) ({ frames := 3, cells := 0, slots := 0, locals := 64 })).room s m ([.ref s0.heap.size, .null, .null] : List Value).toArray below meth c H locs 0 0 (MQ below (cQv (.int (bZ (c_lev C none).2)) (fun H1 => RR s0 D DA z0 (rV C (c_lev C none).1) M o H1)) ([.ref s0.heap.size, .null, .null] : List Value).toArray s 0 0 (cF s0)) (F0 m 2 ls []) := by
    intro n
    induction n with
    | zero =>
      intro v H locs ls hv hn hl hL hR
      omega
    | succ n ih =>
      intro v H locs ls hv hn hl hL hR
      refine lv_iload_n hx hb dX1_levelled_2 rfl (lv_at hl 0 rfl) ?_
      refine lv_bipush (v := 12) hx hb dX1_levelled_3 (by decide) ?_
      refine lv_icmp_ge (tgt := 21) hx hb dX1_levelled_5 (by decide) (fun c5 => ?_) (fun c5 => ?_)
      · have hkc : v = 12 := by have := n_ge (b := 12) c5 (by omega) (by omega); omega
        subst hkc
        refine lv_iconst (v := 1) hx hb dX1_levelled_21 (by decide) ?_
        refine gx_ti (bZ true) (rfl) ?_
        refine lv_istore_n (lv' := [(3, .int (bZ true)), (0, .ref s0.heap.size), (1, .null), (2, .null)]) hx hb dX1_levelled_22 rfl hl (by decide) rfl (fun ls hl => ?_)
        exact ko 50 Y (v_z (kV C) 12) true _ _ _ (v_z_B _) rfl (by simp) (lv_sub hl [0, 1, 2, 3] rfl) hL hR
      · have hkc : v < 12 := n_lt (b := 12) c5 (by omega) (by omega)
        refine lv_aload_n hx hb dX1_levelled_8 rfl (lv_at hl 1 rfl) ?_
        refine gx_get (D := D) (cl := gcl) (ci := 0) (v := .ref (s0.heap.size + 19)) (C := RX1) (T := TX1) (N := 10) hx hb hts in_X1 hown hK hR.np rfl 9 (by decide) (hts _ q281) (fun _ h9 => h9) rfl dX1_levelled_9 ?_
        refine lv_iload_n hx hb dX1_levelled_12 rfl (lv_at hl 0 rfl) ?_
        refine lv_iconst (v := 0) hx hb dX1_levelled_13 (by decide) ?_
        refine gx_iast (n := 12) hx hb hK 1 hR.lev rfl v (rfl) (hkc) (by decide) hL (by (try simp only [aI, aA, aT, aB, aL, mad]); omega) dX1_levelled_14 (fun H locs hU hA hL => ?_)
        have hR := GRb.pV hR hU hA
        have hR := GR_C (C := (rV (rV C (v_z (kV C) v)) (va_up (kV (rV C (v_z (kV C) v))) v 0))) (C' := rV C (v_z (kV C) (v + 1))) (congrArg (rV C) (v_z_s _ _)) hR
        refine lv_iinc (v := nI (v + 1)) (lv' := [(3, .int (nI (v + 1))), (0, .ref s0.heap.size), (1, .null), (2, .null)]) hx hb dX1_levelled_15 hl (k := 0) rfl (nI_1 v) (by decide) rfl (fun ls hl => ?_)
        refine lv_goto (tgt := 2) hx hb dX1_levelled_18 (by decide) ?_
        exact ih (v + 1) _ _ _ (by omega) (by omega) (lv_sub hl [0, 1, 2, 3] rfl) hL hR
  have hR := GR_C (C := C) (C' := rV C (v_z (kV C) 0)) (by rw [v_z_0]; rfl) hR
  refine lv_iconst (v := 0) hx hb dX1_levelled_0 (by decide) ?_
  refine gx_ti (nI 0) (by decide) ?_
  refine lv_istore_n (lv' := [(3, .int (nI 0)), (0, .ref s0.heap.size), (1, .null), (2, .null)]) hx hb dX1_levelled_1 rfl hl (by decide) rfl (fun ls hl => ?_)
  exact kz 13 0 _ _ _ (by omega) (by omega) (lv_sub hl [0, 1, 2, 3] rfl) hL hR
set_option maxHeartbeats 4000000 in
set_option maxRecDepth 100000 in
/-- levelled, with a line more -/
theorem ct_X1_levelled_1 {l : Launch} {s0 : State} {D : va_G} {DA : Nat → ClassId} {z0 : Nat} {C : CS} {M : MS} {o : Int64} {H : Heap} (hE : G0 l s0 D DA z0) (hR : RR s0 D DA z0 C M o H) {pa ch : Nat} (hpa : pa < 12) (hch : ch < 12) : Met l yX1_levelled (ws_ yX1_levelled cX1_levelled 8 (some .boolean)) ({ frames := 3, cells := 0, slots := 0, locals := 64 }) (cP s0 [.ref s0.heap.size, .ref (aI s0.heap.size pa), .ref (aI s0.heap.size ch)] H) (cQv (.int (bZ (c_lev C (some (pa, ch))).2)) (fun H1 => RR s0 D DA z0 (rV C (c_lev C (some (pa, ch))).1) M o H1)) 0 0 (cF s0) := by
  refine Met.ofW (cc := cX1_levelled) (maxL := 8) (ret := (some .boolean)) (by decide) rfl ?_
  intro p e s m args below meth c s₁ Bd hml hv
  obtain ⟨rfl, rfl, hW0⟩ := hv
  have hx := Bd.exec
  have hb := Bd.bytes
  have hr := Bd.returns
  have hts := atoms_spec (ws := (ws_ yX1_levelled cX1_levelled 8 (some .boolean))) Bd.pre
  have hts : ∀ w ∈ lw_all, w.before _ s = true := fun w h => hts w (List.mem_cons_of_mem _ h)
  have hown : s.vm.findClass RX1 = some m.cls := findClass_of_methodNamed Bd.named
  have hlocks := Bd.notSynchronized
  have hK := va_K.moved hW0.alike hE.K
  have hL : gx_L s0.heap.size ([] : List Loc) := gx_L0
  obtain ⟨Y, hR⟩ := hR
  have hl := lv_entry ([.ref s0.heap.size, .ref (aI s0.heap.size pa), .ref (aI s0.heap.size ch)]) (n := 8) (Nat.le_of_ble_eq_true rfl)
  rw [lg_entry_eq]
  generalize (lg_sl ([.ref s0.heap.size, .ref (aI s0.heap.size pa), .ref (aI s0.heap.size ch)]) ++ List.replicate (8 - (lg_sl ([.ref s0.heap.size, .ref (aI s0.heap.size pa), .ref (aI s0.heap.size ch)])).length) Slot.unset).toArray = ls at hl ⊢
  have hl : lv_has ls 8 [(0, .ref s0.heap.size), (1, .ref (aI s0.heap.size pa)), (2, .ref (aI s0.heap.size ch))] := hl
  have h24 := hR.lay.2.2.2.2.2.2.1.1
  have hPK : ∀ i, i < kN C 0 → kP C i < 12 ∧ kC C i < 12 := fun i hi => (hR.lay.2.2.2.1 i hi).2.2
  have hPK1 : ∀ i, i < kN C 0 → kP C i < 12 := fun i hi => (hPK i hi).1
  have hex : ∀ p c, ((some (pa, ch)) : Option (Nat × Nat)) = some (p, c) → p < 12 ∧ c < 12 := fun p c q => by cases q; exact ⟨hpa, hch⟩
  have ko : ∀ (n : Nat) (Y : YS) (V : VF) (mo : Bool) (H : Heap) (locs : List Loc) (ls : Array Slot), vB V 4 → v_lev (kP C) (kC C) (kN C 0) (some (pa, ch)) n mo V = v_lev (kP C) (kC C) (kN C 0) (some (pa, ch)) 50 true (v_z (kV C) 12) → 49 + (bif mo then 1 else 0) ≤ vs V 12 + n → lv_has ls 8 [(3, .int (bZ mo)), (0, .ref s0.heap.size), (1, .ref (aI s0.heap.size pa)), (2, .ref (aI s0.heap.size ch))] → gx_L s0.heap.size locs → GRb s0.heap.size s0.heap D DA z0 Y (rV C V) M o H → W p l e (headSpec (ws_ yX1_levelled cX1_levelled 8 (some .boolean)) ({ frames := 3, cells := 0, slots := 0, locals := 64 })).room s m ([.ref s0.heap.size, .ref (aI s0.heap.size pa), .ref (aI s0.heap.size ch)] : List Value).toArray below meth c H locs 0 0 (MQ below (cQv (.int (bZ (c_lev C (some (pa, ch))).2)) (fun H1 => RR s0 D DA z0 (rV C (c_lev C (some (pa, ch))).1) M o H1)) ([.ref s0.heap.size, .ref (aI s0.heap.size pa), .ref (aI s0.heap.size ch)] : List Value).toArray s 0 0 (cF s0)) (F0 m 23 ls []) := by
    intro n
    induction n with
    | zero =>
      intro Y V mo H locs ls hB hq hn hl hL hR
      have := vs_le hB (by omega) 12 (by omega); cases mo <;> simp at hn <;> omega
    | succ n ih =>
      intro Y V mo H locs ls hB hq hn hl hL hR
      refine lv_iload_n hx hb dX1_levelled_23 rfl (lv_at hl 0 rfl) ?_
      refine lv_if_eq (tgt := 149) hx hb dX1_levelled_24 (by decide) (fun c24 => ?_) (fun c24 => ?_)
      · have hmo := bZ_0.mp c24
        subst hmo
        refine lv_iconst (v := 1) hx hb dX1_levelled_149 (by decide) ?_
        exact W.zret (v := 1) hx hb hr (rfl) (fun t ht hW => ⟨ovI (by unfold c_lev; rw [← hq]; rfl), by rw [ht]; exact (RR_C (by unfold c_lev; rw [← hq]; rfl) ⟨_, hR⟩)⟩) hL dX1_levelled_150
      · have hmo := bZ_1.mp c24
        subst hmo
        have hB2 := v_rd_B (P := kP C) (K := kC C) (n := kN C 0) (ex := (some (pa, ch))) hB hex hPK1
        have hS2 := v_rd_s (P := kP C) (K := kC C) (n := kN C 0) (ex := (some (pa, ch))) hB (by omega) hex hPK
        have kl : ∀ (n : Nat) (Y : YS) (v : Nat) (H : Heap) (locs : List Loc) (ls : Array Slot), v ≤ kN C 0 → kN C 0 < v + n → lv_has ls 8 [(3, .int (bZ (v_ls (kP C) (kC C) (v_x0 (some (pa, ch)) V) v).2)), (4, .int (nI v)), (0, .ref s0.heap.size), (1, .ref (aI s0.heap.size pa)), (2, .ref (aI s0.heap.size ch))] → gx_L s0.heap.size locs → GRb s0.heap.size s0.heap D DA z0 Y (rV C (v_ls (kP C) (kC C) (v_x0 (some (pa, ch)) V) v).1) M o H → W p l e (headSpec (ws_ yX1_levelled cX1_levelled 8 (some .boolean)) ({ frames := 3, cells := 0, slots := 0, locals := 64 })).room s m ([.ref s0.heap.size, .ref (aI s0.heap.size pa), .ref (aI s0.heap.size ch)] : List Value).toArray below meth c H locs 0 0 (MQ below (cQv (.int (bZ (c_lev C (some (pa, ch))).2)) (fun H1 => RR s0 D DA z0 (rV C (c_lev C (some (pa, ch))).1) M o H1)) ([.ref s0.heap.size, .ref (aI s0.heap.size pa), .ref (aI s0.heap.size ch)] : List Value).toArray s 0 0 (cF s0)) (F0 m 49 ls []) := by
          intro n
          induction n with
          | zero =>
            intro Y v H locs ls hv hn3 hl hL hR
            omega
          | succ n ih3 =>
            intro Y v H locs ls hv hn3 hl hL hR
            refine lv_iload hx hb dX1_levelled_49 (lv_at hl 1 rfl) ?_
            refine lv_aload_n hx hb dX1_levelled_51 rfl (lv_at hl 2 rfl) ?_
            refine gx_get (D := D) (cl := gcl) (ci := 0) (v := .ref (aL s0.heap.size 0)) (C := RX1) (T := TX1) (N := 10) hx hb hts in_X1 hown hK hR.np rfl 1 (by decide) (hts _ q273) (fun _ h9 => h9) rfl dX1_levelled_52 ?_
            refine cc_v (va_runV (b := aL s0.heap.size 0) (As := []) (rest := [.int (nI v)]) ⟨hx, hb, hml, hown, hts⟩ (ct_J2_size hE (hR.lob 0 (by omega))) (cwV 0 hts (lw_V q459 q379 q380 q50 q381) rfl rfl rfl (by decide +kernel) ⟨Nat.le_of_ble_eq_true rfl, Nat.le_of_ble_eq_true rfl⟩) (cc_pV hW0 (cc_re hK (hR.lob 0 (by omega)) (show gcl[1]? = _ from rfl))) rfl rfl hl.1 rfl (lv_room (Nat.le_of_ble_eq_true rfl)) dX1_levelled_55 ⟨Nat.le_of_ble_eq_true rfl, Nat.le_of_ble_eq_true rfl⟩) hL (fun H locs hP1 hL => ?_)
            subst hP1
            refine lv_icmp_ge (tgt := 104) hx hb dX1_levelled_58 (by decide) (fun c58 => ?_) (fun c58 => ?_)
            · have hvc : v = kN C 0 := by have := n_ge (b := kN C 0) c58 (by omega) (by omega); omega
              subst hvc
              have hR : GRb s0.heap.size s0.heap D DA z0 Y (rV C (v_rd (kP C) (kC C) (kN C 0) (some (pa, ch)) V).1) M o H := hR
              have hl : lv_has ls 8 [(3, .int (bZ (v_rd (kP C) (kC C) (kN C 0) (some (pa, ch)) V).2)), (4, .int (nI (kN C 0))), (0, .ref s0.heap.size), (1, .ref (aI s0.heap.size pa)), (2, .ref (aI s0.heap.size ch))] := hl
              have kd : ∀ (n : Nat) (v : Nat) (locs : List Loc) (ls : Array Slot), v ≤ 12 → 12 < v + n → v_deep (v_rd (kP C) (kC C) (kN C 0) (some (pa, ch)) V).1 v = false → lv_has ls 8 [(3, .int (bZ (v_rd (kP C) (kC C) (kN C 0) (some (pa, ch)) V).2)), (4, .ref (s0.heap.size + 19)), (5, .int (nI 12)), (6, .int (nI v)), (0, .ref s0.heap.size), (1, .ref (aI s0.heap.size pa)), (2, .ref (aI s0.heap.size ch))] → gx_L s0.heap.size locs → W p l e (headSpec (ws_ yX1_levelled cX1_levelled 8 (some .boolean)) ({ frames := 3, cells := 0, slots := 0, locals := 64 })).room s m ([.ref s0.heap.size, .ref (aI s0.heap.size pa), .ref (aI s0.heap.size ch)] : List Value).toArray below meth c H locs 0 0 (MQ below (cQv (.int (bZ (c_lev C (some (pa, ch))).2)) (fun H1 => RR s0 D DA z0 (rV C (c_lev C (some (pa, ch))).1) M o H1)) ([.ref s0.heap.size, .ref (aI s0.heap.size pa), .ref (aI s0.heap.size ch)] : List Value).toArray s 0 0 (cF s0)) (F0 m 118 ls []) := by
                intro n
                induction n with
                | zero =>
                  intro v locs ls hv hn2 hd hl hL
                  omega
                | succ n ih2 =>
                  intro v locs ls hv hn2 hd hl hL
                  refine lv_iload hx hb dX1_levelled_118 (lv_at hl 3 rfl) ?_
                  refine lv_iload hx hb dX1_levelled_120 (lv_at hl 2 rfl) ?_
                  refine lv_icmp_ge (tgt := 146) hx hb dX1_levelled_122 (by decide) (fun c122 => ?_) (fun c122 => ?_)
                  · have hkc : v = 12 := by have := n_ge (b := 12) c122 (by omega) (by omega); omega
                    subst hkc
                    refine lv_goto (tgt := 23) hx hb dX1_levelled_146 (by decide) ?_
                    exact ih Y (v_rd (kP C) (kC C) (kN C 0) (some (pa, ch)) V).1 (v_rd (kP C) (kC C) (kN C 0) (some (pa, ch)) V).2 _ _ _ (v_deep_B hB2 (by omega) hd) (by rw [← hq, v_lev, hd]; rfl) (by simp only [Bool.cond_true] at hn; revert hS2; cases (v_rd (kP C) (kC C) (kN C 0) (some (pa, ch)) V).2 <;> simp <;> omega) (lv_sub hl [0, 4, 5, 6] rfl) hL hR
                  · have hkc : v < 12 := n_lt (b := 12) c122 (by omega) (by omega)
                    refine lv_aload hx hb dX1_levelled_125 (lv_at hl 1 rfl) ?_
                    refine lv_iload hx hb dX1_levelled_127 (lv_at hl 3 rfl) ?_
                    refine gx_iald (n := 12) hx hb hK 1 hR.lev rfl v (rfl) (hkc) (by decide) dX1_levelled_129 ?_
                    refine gx_ti ((v_rd (kP C) (kC C) (kN C 0) (some (pa, ch)) V).1 v) (rfl) ?_
                    refine lv_istore (lv' := [(7, .int ((v_rd (kP C) (kC C) (kN C 0) (some (pa, ch)) V).1 v)), (3, .int (bZ (v_rd (kP C) (kC C) (kN C 0) (some (pa, ch)) V).2)), (4, .ref (s0.heap.size + 19)), (5, .int (nI 12)), (6, .int (nI v)), (0, .ref s0.heap.size), (1, .ref (aI s0.heap.size pa)), (2, .ref (aI s0.heap.size ch))]) hx hb dX1_levelled_130 hl (by decide) rfl (fun ls hl => ?_)
                    refine lv_iload hx hb dX1_levelled_132 (lv_at hl 0 rfl) ?_
                    refine lv_iconst (v := 4) hx hb dX1_levelled_134 (by decide) ?_
                    refine lv_icmp_le (tgt := 140) hx hb dX1_levelled_135 (by decide) (fun c135 => ?_) (fun c135 => ?_)
                    · have hd2 : v_deep (v_rd (kP C) (kC C) (kN C 0) (some (pa, ch)) V).1 (v + 1) = false := by rw [v_deep, hd, decide_eq_false (Int32.not_lt.mpr c135)]; rfl
                      refine lv_iinc (v := nI (v + 1)) (lv' := [(6, .int (nI (v + 1))), (7, .int ((v_rd (kP C) (kC C) (kN C 0) (some (pa, ch)) V).1 v)), (3, .int (bZ (v_rd (kP C) (kC C) (kN C 0) (some (pa, ch)) V).2)), (4, .ref (s0.heap.size + 19)), (5, .int (nI 12)), (0, .ref s0.heap.size), (1, .ref (aI s0.heap.size pa)), (2, .ref (aI s0.heap.size ch))]) hx hb dX1_levelled_140 hl (k := 4) rfl (nI_1 v) (by decide) rfl (fun ls hl => ?_)
                      refine lv_goto (tgt := 118) hx hb dX1_levelled_143 (by decide) ?_
                      exact ih2 (v + 1) _ _ (by omega) (by omega) (hd2) (lv_sub hl [2, 3, 4, 0, 5, 6, 7] rfl) hL
                    · have hd2 : v_deep (v_rd (kP C) (kC C) (kN C 0) (some (pa, ch)) V).1 12 = true := v_deep_t hkc (i_nle c135)
                      refine lv_iconst (v := 0) hx hb dX1_levelled_138 (by decide) ?_
                      exact W.zret (v := 0) hx hb hr (rfl) (fun t ht hW => ⟨ovI (by unfold c_lev; rw [← hq, v_lev, if_pos hd2]; rfl), by rw [ht]; exact (RR_C (by unfold c_lev; rw [← hq, v_lev, if_pos hd2]) ⟨_, hR⟩)⟩) hL dX1_levelled_139
              refine lv_aload_n hx hb dX1_levelled_104 rfl (lv_at hl 2 rfl) ?_
              refine gx_get (D := D) (cl := gcl) (ci := 0) (v := .ref (s0.heap.size + 19)) (C := RX1) (T := TX1) (N := 10) hx hb hts in_X1 hown hK hR.np rfl 9 (by decide) (hts _ q281) (fun _ h9 => h9) rfl dX1_levelled_105 ?_
              refine lv_astore (lv' := [(4, .ref (s0.heap.size + 19)), (3, .int (bZ (v_rd (kP C) (kC C) (kN C 0) (some (pa, ch)) V).2)), (0, .ref s0.heap.size), (1, .ref (aI s0.heap.size pa)), (2, .ref (aI s0.heap.size ch))]) hx hb dX1_levelled_108 hl (by decide) rfl (fun ls hl => ?_)
              refine lv_aload hx hb dX1_levelled_110 (lv_at hl 0 rfl) ?_
              refine gx_alen hx hb hK 1 hR.lev rfl dX1_levelled_112 ?_
              refine gx_ti (nI 12) rfl ?_
              refine lv_istore (lv' := [(5, .int (nI 12)), (4, .ref (s0.heap.size + 19)), (3, .int (bZ (v_rd (kP C) (kC C) (kN C 0) (some (pa, ch)) V).2)), (0, .ref s0.heap.size), (1, .ref (aI s0.heap.size pa)), (2, .ref (aI s0.heap.size ch))]) hx hb dX1_levelled_113 hl (by decide) rfl (fun ls hl => ?_)
              refine lv_iconst (v := 0) hx hb dX1_levelled_115 (by decide) ?_
              refine gx_ti (nI 0) (by decide) ?_
              refine lv_istore (lv' := [(6, .int (nI 0)), (5, .int (nI 12)), (4, .ref (s0.heap.size + 19)), (3, .int (bZ (v_rd (kP C) (kC C) (kN C 0) (some (pa, ch)) V).2)), (0, .ref s0.heap.size), (1, .ref (aI s0.heap.size pa)), (2, .ref (aI s0.heap.size ch))]) hx hb dX1_levelled_116 hl (by decide) rfl (fun ls hl => ?_)
              exact kd 13 0 _ _ (by omega) (by omega) rfl (lv_sub hl [3, 2, 1, 0, 4, 5, 6] rfl) hL
            · have hv2 : v < kN C 0 := n_lt (b := kN C 0) c58 (by omega) (by omega)
              have hpv := (hPK v hv2).1
              have hcv := (hPK v hv2).2
              refine lv_iload_n hx hb dX1_levelled_61 rfl (lv_at hl 0 rfl) ?_
              refine lv_aload_n hx hb dX1_levelled_62 rfl (lv_at hl 2 rfl) ?_
              refine lv_aload_n hx hb dX1_levelled_63 rfl (lv_at hl 2 rfl) ?_
              refine gx_get (D := D) (cl := gcl) (ci := 0) (v := .ref (aL s0.heap.size 0)) (C := RX1) (T := TX1) (N := 10) hx hb hts in_X1 hown hK hR.np rfl 1 (by decide) (hts _ q273) (fun _ h9 => h9) rfl dX1_levelled_64 ?_
              refine lv_iload hx hb dX1_levelled_67 (lv_at hl 1 rfl) ?_
              refine cc_v (va_runV (b := aL s0.heap.size 0) (As := [.int (nI v)]) (rest := [.ref s0.heap.size, .int (bZ (v_ls (kP C) (kC C) (v_x0 (some (pa, ch)) V) v).2)]) ⟨hx, hb, hml, hown, hts⟩ (ct_J2_get (i := v) hE (hR.lob 0 (by omega)) (hR.lda 0 (by omega) (Nat.lt_of_lt_of_le (Nat.lt_of_le_of_lt (Nat.zero_le _) hv2) (hR.lay.1 0 (by omega)).1)) (by have := (hR.lay.1 0 (by omega)).2; omega) hv2 (hR.lay.1 0 (by omega)).1 (hR.lay.2.1 0 (by omega) v hv2)) (cwV 1 hts (lw_V q460 q383 q384 q50 q385) rfl rfl rfl (by decide +kernel) ⟨Nat.le_of_ble_eq_true rfl, Nat.le_of_ble_eq_true rfl⟩) (cc_pV hW0 (cc_re hK (hR.lob 0 (by omega)) (show gcl[1]? = _ from rfl))) rfl rfl hl.1 rfl (lv_room (Nat.le_of_ble_eq_true rfl)) dX1_levelled_69 ⟨Nat.le_of_ble_eq_true rfl, Nat.le_of_ble_eq_true rfl⟩) hL (fun H locs hP1 hL => ?_)
              subst hP1
              refine gx_castS (ci := 11) hx hb hown (hts _ q461) hK (hR.lin v hv2) (show gcl[11]? = _ from rfl) dX1_levelled_72 ?_
              refine cc_v (va_runV (b := yE Y 0 v) (As := []) (rest := [.ref s0.heap.size, .int (bZ (v_ls (kP C) (kC C) (v_x0 (some (pa, ch)) V) v).2)]) ⟨hx, hb, hml, hown, hts⟩ (ct_X12_parent hE hR hv2) (cwV 0 hts (lw_V q462 q463 q464 q71 q465) rfl rfl rfl (by decide +kernel) ⟨Nat.le_of_ble_eq_true rfl, Nat.le_of_ble_eq_true rfl⟩) (cc_pV hW0 (cc_re hK (hR.lin v hv2) (show gcl[11]? = _ from rfl))) rfl rfl hl.1 rfl (lv_room (Nat.le_of_ble_eq_true rfl)) dX1_levelled_75 ⟨Nat.le_of_ble_eq_true rfl, Nat.le_of_ble_eq_true rfl⟩) hL (fun H locs hP1 hL => ?_)
              subst hP1
              refine lv_aload_n hx hb dX1_levelled_78 rfl (lv_at hl 2 rfl) ?_
              refine gx_get (D := D) (cl := gcl) (ci := 0) (v := .ref (aL s0.heap.size 0)) (C := RX1) (T := TX1) (N := 10) hx hb hts in_X1 hown hK hR.np rfl 1 (by decide) (hts _ q273) (fun _ h9 => h9) rfl dX1_levelled_79 ?_
              refine lv_iload hx hb dX1_levelled_82 (lv_at hl 1 rfl) ?_
              refine cc_v (va_runV (b := aL s0.heap.size 0) (As := [.int (nI v)]) (rest := [.ref (aI s0.heap.size (kP (rV C (v_ls (kP C) (kC C) (v_x0 (some (pa, ch)) V) v).1) v)), .ref s0.heap.size, .int (bZ (v_ls (kP C) (kC C) (v_x0 (some (pa, ch)) V) v).2)]) ⟨hx, hb, hml, hown, hts⟩ (ct_J2_get (i := v) hE (hR.lob 0 (by omega)) (hR.lda 0 (by omega) (Nat.lt_of_lt_of_le (Nat.lt_of_le_of_lt (Nat.zero_le _) hv2) (hR.lay.1 0 (by omega)).1)) (by have := (hR.lay.1 0 (by omega)).2; omega) hv2 (hR.lay.1 0 (by omega)).1 (hR.lay.2.1 0 (by omega) v hv2)) (cwV 1 hts (lw_V q460 q383 q384 q50 q385) rfl rfl rfl (by decide +kernel) ⟨Nat.le_of_ble_eq_true rfl, Nat.le_of_ble_eq_true rfl⟩) (cc_pV hW0 (cc_re hK (hR.lob 0 (by omega)) (show gcl[1]? = _ from rfl))) rfl rfl hl.1 rfl (lv_room (Nat.le_of_ble_eq_true rfl)) dX1_levelled_84 ⟨Nat.le_of_ble_eq_true rfl, Nat.le_of_ble_eq_true rfl⟩) hL (fun H locs hP1 hL => ?_)
              subst hP1
              refine gx_castS (ci := 11) hx hb hown (hts _ q461) hK (hR.lin v hv2) (show gcl[11]? = _ from rfl) dX1_levelled_87 ?_
              refine cc_v (va_runV (b := yE Y 0 v) (As := []) (rest := [.ref (aI s0.heap.size (kP (rV C (v_ls (kP C) (kC C) (v_x0 (some (pa, ch)) V) v).1) v)), .ref s0.heap.size, .int (bZ (v_ls (kP C) (kC C) (v_x0 (some (pa, ch)) V) v).2)]) ⟨hx, hb, hml, hown, hts⟩ (ct_X12_child hE hR hv2) (cwV 0 hts (lw_V q466 q467 q468 q71 q469) rfl rfl rfl (by decide +kernel) ⟨Nat.le_of_ble_eq_true rfl, Nat.le_of_ble_eq_true rfl⟩) (cc_pV hW0 (cc_re hK (hR.lin v hv2) (show gcl[11]? = _ from rfl))) rfl rfl hl.1 rfl (lv_room (Nat.le_of_ble_eq_true rfl)) dX1_levelled_90 ⟨Nat.le_of_ble_eq_true rfl, Nat.le_of_ble_eq_true rfl⟩) hL (fun H locs hP1 hL => ?_)
              subst hP1
              refine cc_v (va_runV (b := s0.heap.size) (As := [.ref (aI s0.heap.size (kP (rV C (v_ls (kP C) (kC C) (v_x0 (some (pa, ch)) V) v).1) v)), .ref (aI s0.heap.size (kC (rV C (v_ls (kP C) (kC C) (v_x0 (some (pa, ch)) V) v).1) v))]) (rest := [.int (bZ (v_ls (kP C) (kC C) (v_x0 (some (pa, ch)) V) v).2)]) ⟨hx, hb, hml, hown, hts⟩ (ct_X1_raise hE ⟨_, hR⟩ hpv hcv) (cwV 2 hts (lw_V q662 q664 qs16 q47 q665) rfl rfl rfl (by decide +kernel) ⟨Nat.le_of_ble_eq_true rfl, Nat.le_of_ble_eq_true rfl⟩) (cc_pV hW0 (cc_re hK hR.np (show gcl[0]? = _ from rfl))) rfl rfl hl.1 rfl (lv_room (Nat.le_of_ble_eq_true rfl)) dX1_levelled_93 ⟨Nat.le_of_ble_eq_true rfl, Nat.le_of_ble_eq_true rfl⟩) hL (fun H locs hP1 hL => ?_)
              obtain ⟨Y, hR⟩ := hP1
              have hR := GR_C (C := rV (rV C (v_ls (kP C) (kC C) (v_x0 (some (pa, ch)) V) v).1) (v_ra (kV (rV C (v_ls (kP C) (kC C) (v_x0 (some (pa, ch)) V) v).1)) (kP C v) (kC C v))) (C' := rV C (v_ls (kP C) (kC C) (v_x0 (some (pa, ch)) V) (v + 1)).1) (rfl) hR
              refine lv_ior hx hb dX1_levelled_96 ?_
              refine gx_ti (bZ (v_ls (kP C) (kC C) (v_x0 (some (pa, ch)) V) (v + 1)).2) (bZ_or _ _) ?_
              refine lv_istore_n (lv' := [(3, .int (bZ (v_ls (kP C) (kC C) (v_x0 (some (pa, ch)) V) (v + 1)).2)), (4, .int (nI v)), (0, .ref s0.heap.size), (1, .ref (aI s0.heap.size pa)), (2, .ref (aI s0.heap.size ch))]) hx hb dX1_levelled_97 rfl hl (by decide) rfl (fun ls hl => ?_)
              refine lv_iinc (v := nI (v + 1)) (lv' := [(4, .int (nI (v + 1))), (3, .int (bZ (v_ls (kP C) (kC C) (v_x0 (some (pa, ch)) V) (v + 1)).2)), (0, .ref s0.heap.size), (1, .ref (aI s0.heap.size pa)), (2, .ref (aI s0.heap.size ch))]) hx hb dX1_levelled_98 hl (k := 1) rfl (nI_1 v) (by decide) rfl (fun ls hl => ?_)
              refine lv_goto (tgt := 49) hx hb dX1_levelled_101 (by decide) ?_
              exact ih3 Y (v + 1) _ _ _ (by omega) (by omega) (lv_sub hl [1, 0, 2, 3, 4] rfl) hL hR
        refine lv_aload_n hx hb dX1_levelled_27 rfl (lv_at hl 2 rfl) ?_
        refine lv_ifnull hx hb dX1_levelled_28 ?_
        refine lv_aload_n hx hb dX1_levelled_31 rfl (lv_at hl 1 rfl) ?_
        refine lv_aload_n hx hb dX1_levelled_32 rfl (lv_at hl 2 rfl) ?_
        refine lv_aload_n hx hb dX1_levelled_33 rfl (lv_at hl 3 rfl) ?_
        refine cc_v (va_runV (b := s0.heap.size) (As := [.ref (aI s0.heap.size pa), .ref (aI s0.heap.size ch)]) (rest := []) ⟨hx, hb, hml, hown, hts⟩ (ct_X1_raise hE ⟨_, hR⟩ hpa hch) (cwV 2 hts (lw_V q662 q664 qs16 q47 q665) rfl rfl rfl (by decide +kernel) ⟨Nat.le_of_ble_eq_true rfl, Nat.le_of_ble_eq_true rfl⟩) (cc_pV hW0 (cc_re hK hR.np (show gcl[0]? = _ from rfl))) rfl rfl hl.1 rfl (lv_room (Nat.le_of_ble_eq_true rfl)) dX1_levelled_34 ⟨Nat.le_of_ble_eq_true rfl, Nat.le_of_ble_eq_true rfl⟩) hL (fun H locs hP1 hL => ?_)
        obtain ⟨Y, hR⟩ := hP1
        have hR := GR_C (C := rV (rV C V) (v_ra (kV (rV C V)) pa ch)) (C' := rV C (v_x0 (some (pa, ch)) V).1) (rfl) hR
        refine lv_if_eq (tgt := 44) hx hb dX1_levelled_37 (by decide) (fun c37 => ?_) (fun c37 => ?_)
        · refine lv_iconst (v := 0) hx hb dX1_levelled_44 (by decide) ?_
          refine gx_ti (bZ (v_ls (kP C) (kC C) (v_x0 (some (pa, ch)) V) 0).2) ((bZ_f (bZ_0.mp c37)).symm) ?_
          refine lv_istore_n (lv' := [(3, .int (bZ (v_ls (kP C) (kC C) (v_x0 (some (pa, ch)) V) 0).2)), (0, .ref s0.heap.size), (1, .ref (aI s0.heap.size pa)), (2, .ref (aI s0.heap.size ch))]) hx hb dX1_levelled_45 rfl hl (by decide) rfl (fun ls hl => ?_)
          refine lv_iconst (v := 0) hx hb dX1_levelled_46 (by decide) ?_
          refine gx_ti (nI 0) (by decide) ?_
          refine lv_istore (lv' := [(4, .int (nI 0)), (3, .int (bZ (v_ls (kP C) (kC C) (v_x0 (some (pa, ch)) V) 0).2)), (0, .ref s0.heap.size), (1, .ref (aI s0.heap.size pa)), (2, .ref (aI s0.heap.size ch))]) hx hb dX1_levelled_47 hl (by decide) rfl (fun ls hl => ?_)
          have hR := GR_C (C := rV C (v_x0 (some (pa, ch)) V).1) (C' := rV C (v_ls (kP C) (kC C) (v_x0 (some (pa, ch)) V) 0).1) (rfl) hR
          exact kl (kN C 0 + 1) Y 0 _ _ _ (by omega) (by omega) (lv_sub hl [1, 0, 2, 3, 4] rfl) hL hR
        · refine lv_iconst (v := 1) hx hb dX1_levelled_40 (by decide) ?_
          refine lv_goto (tgt := 45) hx hb dX1_levelled_41 (by decide) ?_
          refine gx_ti (bZ (v_ls (kP C) (kC C) (v_x0 (some (pa, ch)) V) 0).2) ((bZ_t (bZ_1.mp c37)).symm) ?_
          refine lv_istore_n (lv' := [(3, .int (bZ (v_ls (kP C) (kC C) (v_x0 (some (pa, ch)) V) 0).2)), (0, .ref s0.heap.size), (1, .ref (aI s0.heap.size pa)), (2, .ref (aI s0.heap.size ch))]) hx hb dX1_levelled_45 rfl hl (by decide) rfl (fun ls hl => ?_)
          refine lv_iconst (v := 0) hx hb dX1_levelled_46 (by decide) ?_
          refine gx_ti (nI 0) (by decide) ?_
          refine lv_istore (lv' := [(4, .int (nI 0)), (3, .int (bZ (v_ls (kP C) (kC C) (v_x0 (some (pa, ch)) V) 0).2)), (0, .ref s0.heap.size), (1, .ref (aI s0.heap.size pa)), (2, .ref (aI s0.heap.size ch))]) hx hb dX1_levelled_47 hl (by decide) rfl (fun ls hl => ?_)
          have hR := GR_C (C := rV C (v_x0 (some (pa, ch)) V).1) (C' := rV C (v_ls (kP C) (kC C) (v_x0 (some (pa, ch)) V) 0).1) (rfl) hR
          exact kl (kN C 0 + 1) Y 0 _ _ _ (by omega) (by omega) (lv_sub hl [1, 0, 2, 3, 4] rfl) hL hR
  have kz : ∀ (n : Nat) (v : Nat) (H : Heap) (locs : List Loc) (ls : Array Slot), v ≤ 12 → 12 < v + n → lv_has ls 8 [(3, .int (nI v)), (0, .ref s0.heap.size), (1, .ref (aI s0.heap.size pa)), (2, .ref (aI s0.heap.size ch))] → gx_L s0.heap.size locs → GRb s0.heap.size s0.heap D DA z0 Y (rV C (v_z (kV C) v)) M o H → W p l e (headSpec (ws_ yX1_levelled cX1_levelled 8 (some .boolean)) ({ frames := 3, cells := 0, slots := 0, locals := 64 })).room s m ([.ref s0.heap.size, .ref (aI s0.heap.size pa), .ref (aI s0.heap.size ch)] : List Value).toArray below meth c H locs 0 0 (MQ below (cQv (.int (bZ (c_lev C (some (pa, ch))).2)) (fun H1 => RR s0 D DA z0 (rV C (c_lev C (some (pa, ch))).1) M o H1)) ([.ref s0.heap.size, .ref (aI s0.heap.size pa), .ref (aI s0.heap.size ch)] : List Value).toArray s 0 0 (cF s0)) (F0 m 2 ls []) := by
    intro n
    induction n with
    | zero =>
      intro v H locs ls hv hn hl hL hR
      omega
    | succ n ih =>
      intro v H locs ls hv hn hl hL hR
      refine lv_iload_n hx hb dX1_levelled_2 rfl (lv_at hl 0 rfl) ?_
      refine lv_bipush (v := 12) hx hb dX1_levelled_3 (by decide) ?_
      refine lv_icmp_ge (tgt := 21) hx hb dX1_levelled_5 (by decide) (fun c5 => ?_) (fun c5 => ?_)
      · have hkc : v = 12 := by have := n_ge (b := 12) c5 (by omega) (by omega); omega
        subst hkc
        refine lv_iconst (v := 1) hx hb dX1_levelled_21 (by decide) ?_
        refine gx_ti (bZ true) (rfl) ?_
        refine lv_istore_n (lv' := [(3, .int (bZ true)), (0, .ref s0.heap.size), (1, .ref (aI s0.heap.size pa)), (2, .ref (aI s0.heap.size ch))]) hx hb dX1_levelled_22 rfl hl (by decide) rfl (fun ls hl => ?_)
        exact ko 50 Y (v_z (kV C) 12) true _ _ _ (v_z_B _) rfl (by simp) (lv_sub hl [0, 1, 2, 3] rfl) hL hR
      · have hkc : v < 12 := n_lt (b := 12) c5 (by omega) (by omega)
        refine lv_aload_n hx hb dX1_levelled_8 rfl (lv_at hl 1 rfl) ?_
        refine gx_get (D := D) (cl := gcl) (ci := 0) (v := .ref (s0.heap.size + 19)) (C := RX1) (T := TX1) (N := 10) hx hb hts in_X1 hown hK hR.np rfl 9 (by decide) (hts _ q281) (fun _ h9 => h9) rfl dX1_levelled_9 ?_
        refine lv_iload_n hx hb dX1_levelled_12 rfl (lv_at hl 0 rfl) ?_
        refine lv_iconst (v := 0) hx hb dX1_levelled_13 (by decide) ?_
        refine gx_iast (n := 12) hx hb hK 1 hR.lev rfl v (rfl) (hkc) (by decide) hL (by (try simp only [aI, aA, aT, aB, aL, mad]); omega) dX1_levelled_14 (fun H locs hU hA hL => ?_)
        have hR := GRb.pV hR hU hA
        have hR := GR_C (C := (rV (rV C (v_z (kV C) v)) (va_up (kV (rV C (v_z (kV C) v))) v 0))) (C' := rV C (v_z (kV C) (v + 1))) (congrArg (rV C) (v_z_s _ _)) hR
        refine lv_iinc (v := nI (v + 1)) (lv' := [(3, .int (nI (v + 1))), (0, .ref s0.heap.size), (1, .ref (aI s0.heap.size pa)), (2, .ref (aI s0.heap.size ch))]) hx hb dX1_levelled_15 hl (k := 0) rfl (nI_1 v) (by decide) rfl (fun ls hl => ?_)
        refine lv_goto (tgt := 2) hx hb dX1_levelled_18 (by decide) ?_
        exact ih (v + 1) _ _ _ (by omega) (by omega) (lv_sub hl [0, 1, 2, 3] rfl) hL hR
  have hR := GR_C (C := C) (C' := rV C (v_z (kV C) 0)) (by rw [v_z_0]; rfl) hR
  refine lv_iconst (v := 0) hx hb dX1_levelled_0 (by decide) ?_
  refine gx_ti (nI 0) (by decide) ?_
  refine lv_istore_n (lv' := [(3, .int (nI 0)), (0, .ref s0.heap.size), (1, .ref (aI s0.heap.size pa)), (2, .ref (aI s0.heap.size ch))]) hx hb dX1_levelled_1 rfl hl (by decide) rfl (fun ls hl => ?_)
  exact kz 13 0 _ _ _ (by omega) (by omega) (lv_sub hl [0, 1, 2, 3] rfl) hL hR
set_option maxHeartbeats 4000000 in
set_option maxRecDepth 100000 in
/-- keepLevels -/
theorem ct_X1_keepLevels {l : Launch} {s0 : State} {D : va_G} {DA : Nat → ClassId} {z0 : Nat} {C : CS} {M : MS} {o : Int64} {H : Heap} (hE : G0 l s0 D DA z0) (hR : RR s0 D DA z0 C M o H)  : Met l yX1_keepLevels (ws_ yX1_keepLevels cX1_keepLevels 5 none) ({ frames := 0, cells := 0, slots := 0, locals := 0 }) (cP s0 [.ref s0.heap.size] H) (cQ0 (fun H1 => RR s0 D DA z0 (c_kl C 12) M o H1)) 0 0 (cF s0) := by
  refine Met.ofW (cc := cX1_keepLevels) (maxL := 5) (ret := none) (by decide) rfl ?_
  intro p e s m args below meth c s₁ Bd hml hv
  obtain ⟨rfl, rfl, hW0⟩ := hv
  have hx := Bd.exec
  have hb := Bd.bytes
  have hr := Bd.returns
  have hts := atoms_spec (ws := (ws_ yX1_keepLevels cX1_keepLevels 5 none)) Bd.pre
  have hts : ∀ w ∈ lw_all, w.before _ s = true := fun w h => hts w (List.mem_cons_of_mem _ h)
  have hown : s.vm.findClass RX1 = some m.cls := findClass_of_methodNamed Bd.named
  have hlocks := Bd.notSynchronized
  have hK := va_K.moved hW0.alike hE.K
  have hL : gx_L s0.heap.size ([] : List Loc) := gx_L0
  obtain ⟨Y, hR⟩ := hR
  have hl := lv_entry ([.ref s0.heap.size]) (n := 5) (Nat.le_of_ble_eq_true rfl)
  rw [lg_entry_eq]
  generalize (lg_sl ([.ref s0.heap.size]) ++ List.replicate (5 - (lg_sl ([.ref s0.heap.size])).length) Slot.unset).toArray = ls at hl ⊢
  have hl : lv_has ls 5 [(0, .ref s0.heap.size)] := hl
  have key : ∀ (n : Nat) (v : Nat) (H : Heap) (locs : List Loc) (ls : Array Slot), v ≤ 12 → 12 < v + n → lv_has ls 5 [(3, .int (nI v)), (1, .ref (s0.heap.size + 1)), (2, .int (nI 12)), (0, .ref s0.heap.size)] → gx_L s0.heap.size locs → GRb s0.heap.size s0.heap D DA z0 Y (c_kl C v) M o H → W p l e (headSpec (ws_ yX1_keepLevels cX1_keepLevels 5 none) ({ frames := 0, cells := 0, slots := 0, locals := 0 })).room s m ([.ref s0.heap.size] : List Value).toArray below meth c H locs 0 0 (MQ below (cQ0 (fun H1 => RR s0 D DA z0 (c_kl C 12) M o H1)) ([.ref s0.heap.size] : List Value).toArray s 0 0 (cF s0)) (F0 m 10 ls []) := by
    intro n
    induction n with
    | zero =>
      intro v H locs ls hv hn hl hL hR
      omega
    | succ n ih =>
      intro v H locs ls hv hn hl hL hR
      refine lv_iload_n hx hb dX1_keepLevels_10 rfl (lv_at hl 0 rfl) ?_
      refine lv_iload_n hx hb dX1_keepLevels_11 rfl (lv_at hl 2 rfl) ?_
      refine lv_icmp_ge (tgt := 41) hx hb dX1_keepLevels_12 (by decide) (fun c12 => ?_) (fun c12 => ?_)
      · have hkc : v = 12 := by have := n_ge (b := 12) c12 (by omega) (by omega); omega
        subst hkc
        exact W.vret hx hb hr (fun t ht hW => ⟨rfl, by rw [ht]; exact ⟨_, hR⟩⟩) hL dX1_keepLevels_41
      · have hkc : v < 12 := n_lt (b := 12) c12 (by omega) (by omega)
        refine lv_aload_n hx hb dX1_keepLevels_15 rfl (lv_at hl 1 rfl) ?_
        refine lv_iload_n hx hb dX1_keepLevels_16 rfl (lv_at hl 0 rfl) ?_
        refine gx_aald (x := aI s0.heap.size v) hx hb hK 3 hR.its rfl v (rfl) (hkc) (by decide) rfl dX1_keepLevels_17 ?_
        refine lv_astore (lv' := [(4, .ref (aI s0.heap.size v)), (3, .int (nI v)), (1, .ref (s0.heap.size + 1)), (2, .int (nI 12)), (0, .ref s0.heap.size)]) hx hb dX1_keepLevels_18 hl (by decide) rfl (fun ls hl => ?_)
        refine lv_aload hx hb dX1_keepLevels_20 (lv_at hl 0 rfl) ?_
        refine lv_aload_n hx hb dX1_keepLevels_22 rfl (lv_at hl 4 rfl) ?_
        refine gx_get (D := D) (cl := gcl) (ci := 0) (v := .ref (s0.heap.size + 19)) (C := RX1) (T := TX1) (N := 10) hx hb hts in_X1 hown hK hR.np rfl 9 (by decide) (hts _ q281) (fun _ h9 => h9) rfl dX1_keepLevels_23 ?_
        refine lv_aload hx hb dX1_keepLevels_26 (lv_at hl 0 rfl) ?_
        refine gx_getN (D := D) (cl := gcl) (ci := 8) (v := .int (nI v)) (C := RX9) (T := TX9) (N := 19) hx hb hts in_X9 hown hK (hR.itm v hkc) rfl 0 (by decide) (hE.nF hW0 q187) (fun _ h9 => h9) rfl dX1_keepLevels_28 ?_
        refine gx_iald (n := 12) hx hb hK 1 hR.lev rfl v (rfl) (hkc) (by decide) dX1_keepLevels_31 ?_
        refine gx_putN (D := D) (cl := gcl) (ci := 8) (v := .int (kV (c_kl C v) v)) (ty := .int) (C := RX9) (T := TX9) (N := 19) hx hb hts in_X9 tyX9 tyX9_ok nmX9 hown hK (hR.itm v hkc) rfl 11 (by decide) (hE.nF hW0 q207) (fun _ h9 => h9) rfl (by decide +kernel) (rfl) rfl (Nat.le_of_ble_eq_true rfl) hL (by (try simp only [aI, aA, aT, aB, aL, mad]); omega) dX1_keepLevels_32 (fun H locs hU hA hL => ?_)
        have hR := GRb.pI (j := 11) (k := v) (by decide) (by decide) hkc hR hU hA
        have hR := GR_C (C := (rI (c_kl C v) (up2 (kI (c_kl C v)) 11 v (kV (c_kl C v) v)))) (C' := c_kl C (v + 1)) (c_kl_s C v) hR
        refine lv_iinc (v := nI (v + 1)) (lv' := [(3, .int (nI (v + 1))), (4, .ref (aI s0.heap.size v)), (1, .ref (s0.heap.size + 1)), (2, .int (nI 12)), (0, .ref s0.heap.size)]) hx hb dX1_keepLevels_35 hl (k := 1) rfl (nI_1 v) (by decide) rfl (fun ls hl => ?_)
        refine lv_goto (tgt := 10) hx hb dX1_keepLevels_38 (by decide) ?_
        exact ih (v + 1) _ _ _ (by omega) (by omega) (lv_sub hl [0, 2, 3, 4] rfl) hL hR
  have hR := GR_C (C := C) (C' := c_kl C 0) ((c_kl_0 C).symm) hR
  refine lv_aload_n hx hb dX1_keepLevels_0 rfl (lv_at hl 0 rfl) ?_
  refine gx_get (D := D) (cl := gcl) (ci := 0) (v := .ref (s0.heap.size + 1)) (C := RX1) (T := TX1) (N := 10) hx hb hts in_X1 hown hK hR.np rfl 0 (by decide) (hts _ q272) (fun _ h9 => h9) rfl dX1_keepLevels_1 ?_
  refine lv_astore_n (lv' := [(1, .ref (s0.heap.size + 1)), (0, .ref s0.heap.size)]) hx hb dX1_keepLevels_4 rfl hl (by decide) rfl (fun ls hl => ?_)
  refine lv_aload_n hx hb dX1_keepLevels_5 rfl (lv_at hl 0 rfl) ?_
  refine gx_alen hx hb hK 3 hR.its rfl dX1_keepLevels_6 ?_
  refine gx_ti (nI 12) rfl ?_
  refine lv_istore_n (lv' := [(2, .int (nI 12)), (1, .ref (s0.heap.size + 1)), (0, .ref s0.heap.size)]) hx hb dX1_keepLevels_7 rfl hl (by decide) rfl (fun ls hl => ?_)
  refine lv_iconst (v := 0) hx hb dX1_keepLevels_8 (by decide) ?_
  refine gx_ti (nI 0) (by decide) ?_
  refine lv_istore_n (lv' := [(3, .int (nI 0)), (2, .int (nI 12)), (1, .ref (s0.heap.size + 1)), (0, .ref s0.heap.size)]) hx hb dX1_keepLevels_9 rfl hl (by decide) rfl (fun ls hl => ?_)
  exact key 13 0 _ _ _ (by omega) (by omega) (lv_sub hl [0, 2, 1, 3] rfl) hL hR
