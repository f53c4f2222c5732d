theorem rul4 {B : Nat} : va_up (va_up (va_up (va_up (fun _ => none) 0 (some (B + 10))) 1 (some (B + 11))) 2 (some (B + 12))) 3 (some (B + 13)) = fun k => if k < 4 then some (B + 10 + k) else none := by
  funext k
  rcases (show k = 0 ∨ k = 1 ∨ k = 2 ∨ k = 3 ∨ 4 ≤ k by omega) with e | e | e | e | e
  · subst e; rfl
  · subst e; rfl
  · subst e; rfl
  · subst e; rfl
  · rw [va_up_ne _ _ (by omega), va_up_ne _ _ (by omega), va_up_ne _ _ (by omega), va_up_ne _ _ (by omega), if_neg (by omega)]
set_option maxHeartbeats 4000000 in
set_option maxRecDepth 100000 in
/-- NettedPlans constructor -/
theorem ct_X1_init {l : Launch} {s0 : State} {D : va_G} {DA : Nat → ClassId} {z0 : Nat} {H : Heap} (hE : G0 l s0 D DA z0) (hsz : H.size = s0.heap.size + 1) (hold : ∀ q, q < s0.heap.size → H[q]? = s0.heap[q]?) (f : va_at D gcl (s0.heap.size, .inr (0, [.null, .null, .null, .null, .null, .null, .null, .null, .int 0, .null])) H) : Met l yX1_init (ws_ yX1_init cX1_init 2 none) ({ frames := 5, cells := 103, slots := 1058, locals := 92 }) (cP s0 [.ref s0.heap.size] H) (cQ0 (fun H1 => NPd s0.heap.size s0.heap D DA z0 H1)) 103 1058 (cF s0) := by
  refine Met.ofW (cc := cX1_init) (maxL := 2) (ret := none) (by decide) rfl ?_
  intro p e s m args below meth c s₁ Bd hml hv
  obtain ⟨rfl, rfl, hW0⟩ := hv
  have hx := Bd.exec
  have hb := Bd.bytes
  have hr := Bd.returns
  have hts := atoms_spec (ws := (ws_ yX1_init cX1_init 2 none)) Bd.pre
  have hts : ∀ w ∈ lw_all, w.before _ s = true := fun w h => hts w (List.mem_cons_of_mem _ h)
  have hown : s.vm.findClass RX1 = some m.cls := findClass_of_methodNamed Bd.named
  have hlocks := Bd.notSynchronized
  have hin : meth.name = "<init>" := (name_of_methodNamed Bd.named Bd.method).1
  have hK := va_K.moved hW0.alike hE.K
  have hL : gx_L s0.heap.size ([] : List Loc) := gx_L0
  have hl := lv_entry ([.ref s0.heap.size]) (n := 2) (Nat.le_of_ble_eq_true rfl)
  rw [lg_entry_eq]
  generalize (lg_sl ([.ref s0.heap.size]) ++ List.replicate (2 - (lg_sl ([.ref s0.heap.size])).length) Slot.unset).toArray = ls at hl ⊢
  have hl : lv_has ls 2 [(0, .ref s0.heap.size)] := hl
  have hle : s0.heap.size ≤ s.heap.size := by omega
  refine lv_aload_n hx hb dX1_init_0 rfl (lv_at hl 0 rfl) ?_
  refine W.objInit hx hb hown (hts _ q81) (hts _ q82) (hts _ q83) rfl (by rw [hml]; exact hl.1) rfl dX1_init_1 (Nat.le_of_ble_eq_true rfl) (Nat.le_of_ble_eq_true rfl) ?_
  refine W.eq (g2 := F0 m 4 ls []) rfl ?_
  refine lv_aload_n hx hb dX1_init_4 rfl (lv_at hl 0 rfl) ?_
  refine lv_bipush (v := 12) hx hb dX1_init_5 (by decide) ?_
  refine gx_newqV hx hb hown (hts _ q84) (hE.nA hW0 q85) hK 3 rfl (N' := 12) (by decide) (by decide) (by decide) (Nat.le_of_ble_eq_true rfl) (Nat.le_of_ble_eq_true rfl) dX1_init_7 (v := s0.heap.size + 1) hsz (fun H hN f0 => ?_)
  replace f : va_at D gcl (s0.heap.size, .inr (0, [.null, .null, .null, .null, .null, .null, .null, .null, .int 0, .null])) H := hN.at f
  replace hsz : H.size = s0.heap.size + 2 := by rw [hN.1, hsz]
  replace hold := hold_N hN hold hle
  replace hle := hle_N hN hle
  clear hN
  replace f0 : va_at D gcl (s0.heap.size + 1, .inl (DA 3, 12, .inr (.inr (.inr (.inr (fun _ => none)))))) H := f0
  refine gx_putF (D := D) (cl := gcl) (ci := 0) (v := .ref (s0.heap.size + 1)) (ty := (.array (.object "NettedPlans$Item"))) (C := RX1) (T := TX1) (N := 10) hx hb hts in_X1 tyX1 tyX1_ok nmX1 hown hK f rfl 0 (by decide) (hts _ q272) (fun _ h9 => h9) rfl hin rfl (by decide +kernel) (rfl) rfl (Nat.le_of_ble_eq_true rfl) hL (by (try simp only [aI, aA, aT, aB, aL, mad]); omega) dX1_init_10 (fun H locs hU hA hL => ?_)
  have f : va_at D gcl (s0.heap.size, .inr (0, [.ref (s0.heap.size + 1), .null, .null, .null, .null, .null, .null, .null, .int 0, .null])) H := hA
  replace f0 : va_at D gcl (s0.heap.size + 1, .inl (DA 3, 12, .inr (.inr (.inr (.inr (fun _ => none)))))) H := hU.at (by omega) f0
  replace hsz : H.size = s0.heap.size + 2 := by rw [hU.1, hsz]
  replace hold := hold_U hU hold (by omega)
  replace hle := hle_U hU hle
  clear hU
  refine lv_aload_n hx hb dX1_init_13 rfl (lv_at hl 0 rfl) ?_
  refine gx_newW (ci := 1) (C := RJ2) (T := TJ2) (N := 3) (fs := [.int 0, .null, .int 0]) hx hb hts in_J2 tyJ2 tyJ2_ok hown (hts _ q86) (hts _ q87) (hts _ q50) hK rfl (by decide) (Nat.le_of_ble_eq_true rfl) (Nat.le_of_ble_eq_true rfl) dX1_init_14 (v := s0.heap.size + 2) hsz (fun H hN f1 => ?_)
  replace f : va_at D gcl (s0.heap.size, .inr (0, [.ref (s0.heap.size + 1), .null, .null, .null, .null, .null, .null, .null, .int 0, .null])) H := hN.at f
  replace f0 : va_at D gcl (s0.heap.size + 1, .inl (DA 3, 12, .inr (.inr (.inr (.inr (fun _ => none)))))) H := hN.at f0
  replace hsz : H.size = s0.heap.size + 3 := by rw [hN.1, hsz]
  replace hold := hold_N hN hold hle
  replace hle := hle_N hN hle
  clear hN
  replace f1 : va_at D gcl (s0.heap.size + 2, .inr (1, [.int 0, .null, .int 0])) H := f1
  refine lv_dup hx hb dX1_init_17 rfl ?_
  refine cc_0 (va_runI (b := s0.heap.size + 2) (As := []) (rest := [.ref (s0.heap.size + 2), .ref s0.heap.size]) ⟨hx, hb, hml, hown, hts⟩ (ct_J2_init hE f1 (by omega) hold) (cwI 0 hts (lw_meth q90) rfl rfl rfl (hts _ q50) (hts _ q88) (hts _ q89) rfl (by decide +kernel) ⟨Nat.le_of_ble_eq_true rfl, Nat.le_of_ble_eq_true rfl⟩) (cc_pS hW0) rfl rfl hl.1 rfl (lv_room (Nat.le_of_ble_eq_true rfl)) dX1_init_18 ⟨Nat.le_of_ble_eq_true rfl, Nat.le_of_ble_eq_true rfl⟩) hL (fun H locs hP1 hL => ?_)
  obtain ⟨hU, f1⟩ := hP1
  replace f : va_at D gcl (s0.heap.size, .inr (0, [.ref (s0.heap.size + 1), .null, .null, .null, .null, .null, .null, .null, .int 0, .null])) H := hU.at (by omega) f
  replace f0 : va_at D gcl (s0.heap.size + 1, .inl (DA 3, 12, .inr (.inr (.inr (.inr (fun _ => none)))))) H := hU.at (by omega) f0
  replace hsz : H.size = s0.heap.size + 3 := by rw [hU.1, hsz]
  replace hold := hold_U hU hold (by omega)
  replace hle := hle_U hU hle
  clear hU
  refine gx_putF (D := D) (cl := gcl) (ci := 0) (v := .ref (s0.heap.size + 2)) (ty := (.object "java/util/ArrayList")) (C := RX1) (T := TX1) (N := 10) hx hb hts in_X1 tyX1 tyX1_ok nmX1 hown hK f rfl 1 (by decide) (hts _ q273) (fun _ h9 => h9) rfl hin rfl (by decide +kernel) (rfl) rfl (Nat.le_of_ble_eq_true rfl) hL (by (try simp only [aI, aA, aT, aB, aL, mad]); omega) dX1_init_21 (fun H locs hU hA hL => ?_)
  have f : va_at D gcl (s0.heap.size, .inr (0, [.ref (s0.heap.size + 1), .ref (s0.heap.size + 2), .null, .null, .null, .null, .null, .null, .int 0, .null])) H := hA
  replace f0 : va_at D gcl (s0.heap.size + 1, .inl (DA 3, 12, .inr (.inr (.inr (.inr (fun _ => none)))))) H := hU.at (by omega) f0
  replace f1 : va_at D gcl (s0.heap.size + 2, .inr (1, [.int 0, .ref z0, .int (nI 0)])) H := hU.at (by omega) f1
  replace hsz : H.size = s0.heap.size + 3 := by rw [hU.1, hsz]
  replace hold := hold_U hU hold (by omega)
  replace hle := hle_U hU hle
  clear hU
  refine lv_aload_n hx hb dX1_init_24 rfl (lv_at hl 0 rfl) ?_
  refine gx_newW (ci := 2) (C := RX2) (T := TX2) (N := 1) (fs := [.null]) hx hb hts in_X2 tyX2 tyX2_ok hown (hts _ q112) (hts _ q113) (hts _ q51) hK rfl (by decide) (Nat.le_of_ble_eq_true rfl) (Nat.le_of_ble_eq_true rfl) dX1_init_25 (v := s0.heap.size + 3) hsz (fun H hN f2 => ?_)
  replace f : va_at D gcl (s0.heap.size, .inr (0, [.ref (s0.heap.size + 1), .ref (s0.heap.size + 2), .null, .null, .null, .null, .null, .null, .int 0, .null])) H := hN.at f
  replace f0 : va_at D gcl (s0.heap.size + 1, .inl (DA 3, 12, .inr (.inr (.inr (.inr (fun _ => none)))))) H := hN.at f0
  replace f1 : va_at D gcl (s0.heap.size + 2, .inr (1, [.int 0, .ref z0, .int (nI 0)])) H := hN.at f1
  replace hsz : H.size = s0.heap.size + 4 := by rw [hN.1, hsz]
  replace hold := hold_N hN hold hle
  replace hle := hle_N hN hle
  clear hN
  replace f2 : va_at D gcl (s0.heap.size + 3, .inr (2, [.null])) H := f2
  refine lv_dup hx hb dX1_init_28 rfl ?_
  refine cc_0 (va_runIN (b := s0.heap.size + 3) (As := []) (rest := [.ref (s0.heap.size + 3), .ref s0.heap.size]) ⟨hx, hb, hml, hown, hts⟩ (ct_X2_init hE (a := s0.heap.size + 3) (b := s0.heap.size + 4) (by omega) (by omega) hsz hold f2) (⟨va_cnB 0 hts (lw_meth q116) rfl rfl rfl (hE.nM hW0 q114) (hts _ q51) (by decide +kernel) ⟨Nat.le_of_ble_eq_true rfl, Nat.le_of_ble_eq_true rfl⟩, rfl, hts _ q115⟩) (cc_pS hW0) rfl rfl hl.1 rfl (lv_room (Nat.le_of_ble_eq_true rfl)) dX1_init_29 ⟨Nat.le_of_ble_eq_true rfl, Nat.le_of_ble_eq_true rfl⟩) hL (fun H locs hP1 hL => ?_)
  obtain ⟨hG, f2, f3⟩ := hP1
  replace f : va_at D gcl (s0.heap.size, .inr (0, [.ref (s0.heap.size + 1), .ref (s0.heap.size + 2), .null, .null, .null, .null, .null, .null, .int 0, .null])) H := hG.at f (by omega)
  replace f0 : va_at D gcl (s0.heap.size + 1, .inl (DA 3, 12, .inr (.inr (.inr (.inr (fun _ => none)))))) H := hG.at f0 (by omega)
  replace f1 : va_at D gcl (s0.heap.size + 2, .inr (1, [.int 0, .ref z0, .int (nI 0)])) H := hG.at f1 (by omega)
  replace hsz : H.size = s0.heap.size + 5 := by rw [hG.1, hsz]
  replace hold := hold_G hG hold hle (by omega)
  replace hle := hle_G hG hle
  clear hG
  replace f2 : va_at D gcl (s0.heap.size + 3, .inr (2, [.ref (s0.heap.size + 4)])) H := f2
  replace f3 : va_at D gcl (s0.heap.size + 4, .inr (1, [.int 0, .ref z0, .int (nI 0)])) H := f3
  refine gx_putF (D := D) (cl := gcl) (ci := 0) (v := .ref (s0.heap.size + 3)) (ty := (.object "NettedPlans$Book")) (C := RX1) (T := TX1) (N := 10) hx hb hts in_X1 tyX1 tyX1_ok nmX1 hown hK f rfl 2 (by decide) (hts _ q274) (fun _ h9 => h9) rfl hin rfl (by decide +kernel) (rfl) rfl (Nat.le_of_ble_eq_true rfl) hL (by (try simp only [aI, aA, aT, aB, aL, mad]); omega) dX1_init_32 (fun H locs hU hA hL => ?_)
  have f : va_at D gcl (s0.heap.size, .inr (0, [.ref (s0.heap.size + 1), .ref (s0.heap.size + 2), .ref (s0.heap.size + 3), .null, .null, .null, .null, .null, .int 0, .null])) H := hA
  replace f0 : va_at D gcl (s0.heap.size + 1, .inl (DA 3, 12, .inr (.inr (.inr (.inr (fun _ => none)))))) H := hU.at (by omega) f0
  replace f1 : va_at D gcl (s0.heap.size + 2, .inr (1, [.int 0, .ref z0, .int (nI 0)])) H := hU.at (by omega) f1
  replace f2 : va_at D gcl (s0.heap.size + 3, .inr (2, [.ref (s0.heap.size + 4)])) H := hU.at (by omega) f2
  replace f3 : va_at D gcl (s0.heap.size + 4, .inr (1, [.int 0, .ref z0, .int (nI 0)])) H := hU.at (by omega) f3
  replace hsz : H.size = s0.heap.size + 5 := by rw [hU.1, hsz]
  replace hold := hold_U hU hold (by omega)
  replace hle := hle_U hU hle
  clear hU
  refine lv_aload_n hx hb dX1_init_35 rfl (lv_at hl 0 rfl) ?_
  refine gx_newW (ci := 2) (C := RX2) (T := TX2) (N := 1) (fs := [.null]) hx hb hts in_X2 tyX2 tyX2_ok hown (hts _ q112) (hts _ q113) (hts _ q51) hK rfl (by decide) (Nat.le_of_ble_eq_true rfl) (Nat.le_of_ble_eq_true rfl) dX1_init_36 (v := s0.heap.size + 5) hsz (fun H hN f4 => ?_)
  replace f : va_at D gcl (s0.heap.size, .inr (0, [.ref (s0.heap.size + 1), .ref (s0.heap.size + 2), .ref (s0.heap.size + 3), .null, .null, .null, .null, .null, .int 0, .null])) H := hN.at f
  replace f0 : va_at D gcl (s0.heap.size + 1, .inl (DA 3, 12, .inr (.inr (.inr (.inr (fun _ => none)))))) H := hN.at f0
  replace f1 : va_at D gcl (s0.heap.size + 2, .inr (1, [.int 0, .ref z0, .int (nI 0)])) H := hN.at f1
  replace f2 : va_at D gcl (s0.heap.size + 3, .inr (2, [.ref (s0.heap.size + 4)])) H := hN.at f2
  replace f3 : va_at D gcl (s0.heap.size + 4, .inr (1, [.int 0, .ref z0, .int (nI 0)])) H := hN.at f3
  replace hsz : H.size = s0.heap.size + 6 := by rw [hN.1, hsz]
  replace hold := hold_N hN hold hle
  replace hle := hle_N hN hle
  clear hN
  replace f4 : va_at D gcl (s0.heap.size + 5, .inr (2, [.null])) H := f4
  refine lv_dup hx hb dX1_init_39 rfl ?_
  refine cc_0 (va_runIN (b := s0.heap.size + 5) (As := []) (rest := [.ref (s0.heap.size + 5), .ref s0.heap.size]) ⟨hx, hb, hml, hown, hts⟩ (ct_X2_init hE (a := s0.heap.size + 5) (b := s0.heap.size + 6) (by omega) (by omega) hsz hold f4) (⟨va_cnB 0 hts (lw_meth q116) rfl rfl rfl (hE.nM hW0 q114) (hts _ q51) (by decide +kernel) ⟨Nat.le_of_ble_eq_true rfl, Nat.le_of_ble_eq_true rfl⟩, rfl, hts _ q115⟩) (cc_pS hW0) rfl rfl hl.1 rfl (lv_room (Nat.le_of_ble_eq_true rfl)) dX1_init_40 ⟨Nat.le_of_ble_eq_true rfl, Nat.le_of_ble_eq_true rfl⟩) hL (fun H locs hP1 hL => ?_)
  obtain ⟨hG, f4, f5⟩ := hP1
  replace f : va_at D gcl (s0.heap.size, .inr (0, [.ref (s0.heap.size + 1), .ref (s0.heap.size + 2), .ref (s0.heap.size + 3), .null, .null, .null, .null, .null, .int 0, .null])) H := hG.at f (by omega)
  replace f0 : va_at D gcl (s0.heap.size + 1, .inl (DA 3, 12, .inr (.inr (.inr (.inr (fun _ => none)))))) H := hG.at f0 (by omega)
  replace f1 : va_at D gcl (s0.heap.size + 2, .inr (1, [.int 0, .ref z0, .int (nI 0)])) H := hG.at f1 (by omega)
  replace f2 : va_at D gcl (s0.heap.size + 3, .inr (2, [.ref (s0.heap.size + 4)])) H := hG.at f2 (by omega)
  replace f3 : va_at D gcl (s0.heap.size + 4, .inr (1, [.int 0, .ref z0, .int (nI 0)])) H := hG.at f3 (by omega)
  replace hsz : H.size = s0.heap.size + 7 := by rw [hG.1, hsz]
  replace hold := hold_G hG hold hle (by omega)
  replace hle := hle_G hG hle
  clear hG
  replace f4 : va_at D gcl (s0.heap.size + 5, .inr (2, [.ref (s0.heap.size + 6)])) H := f4
  replace f5 : va_at D gcl (s0.heap.size + 6, .inr (1, [.int 0, .ref z0, .int (nI 0)])) H := f5
  refine gx_putF (D := D) (cl := gcl) (ci := 0) (v := .ref (s0.heap.size + 5)) (ty := (.object "NettedPlans$Book")) (C := RX1) (T := TX1) (N := 10) hx hb hts in_X1 tyX1 tyX1_ok nmX1 hown hK f rfl 3 (by decide) (hts _ q275) (fun _ h9 => h9) rfl hin rfl (by decide +kernel) (rfl) rfl (Nat.le_of_ble_eq_true rfl) hL (by (try simp only [aI, aA, aT, aB, aL, mad]); omega) dX1_init_43 (fun H locs hU hA hL => ?_)
  have f : va_at D gcl (s0.heap.size, .inr (0, [.ref (s0.heap.size + 1), .ref (s0.heap.size + 2), .ref (s0.heap.size + 3), .ref (s0.heap.size + 5), .null, .null, .null, .null, .int 0, .null])) H := hA
  replace f0 : va_at D gcl (s0.heap.size + 1, .inl (DA 3, 12, .inr (.inr (.inr (.inr (fun _ => none)))))) H := hU.at (by omega) f0
  replace f1 : va_at D gcl (s0.heap.size + 2, .inr (1, [.int 0, .ref z0, .int (nI 0)])) H := hU.at (by omega) f1
  replace f2 : va_at D gcl (s0.heap.size + 3, .inr (2, [.ref (s0.heap.size + 4)])) H := hU.at (by omega) f2
  replace f3 : va_at D gcl (s0.heap.size + 4, .inr (1, [.int 0, .ref z0, .int (nI 0)])) H := hU.at (by omega) f3
  replace f4 : va_at D gcl (s0.heap.size + 5, .inr (2, [.ref (s0.heap.size + 6)])) H := hU.at (by omega) f4
  replace f5 : va_at D gcl (s0.heap.size + 6, .inr (1, [.int 0, .ref z0, .int (nI 0)])) H := hU.at (by omega) f5
  replace hsz : H.size = s0.heap.size + 7 := by rw [hU.1, hsz]
  replace hold := hold_U hU hold (by omega)
  replace hle := hle_U hU hle
  clear hU
  refine lv_aload_n hx hb dX1_init_46 rfl (lv_at hl 0 rfl) ?_
  refine gx_newW (ci := 2) (C := RX2) (T := TX2) (N := 1) (fs := [.null]) hx hb hts in_X2 tyX2 tyX2_ok hown (hts _ q112) (hts _ q113) (hts _ q51) hK rfl (by decide) (Nat.le_of_ble_eq_true rfl) (Nat.le_of_ble_eq_true rfl) dX1_init_47 (v := s0.heap.size + 7) hsz (fun H hN f6 => ?_)
  replace f : va_at D gcl (s0.heap.size, .inr (0, [.ref (s0.heap.size + 1), .ref (s0.heap.size + 2), .ref (s0.heap.size + 3), .ref (s0.heap.size + 5), .null, .null, .null, .null, .int 0, .null])) H := hN.at f
  replace f0 : va_at D gcl (s0.heap.size + 1, .inl (DA 3, 12, .inr (.inr (.inr (.inr (fun _ => none)))))) H := hN.at f0
  replace f1 : va_at D gcl (s0.heap.size + 2, .inr (1, [.int 0, .ref z0, .int (nI 0)])) H := hN.at f1
  replace f2 : va_at D gcl (s0.heap.size + 3, .inr (2, [.ref (s0.heap.size + 4)])) H := hN.at f2
  replace f3 : va_at D gcl (s0.heap.size + 4, .inr (1, [.int 0, .ref z0, .int (nI 0)])) H := hN.at f3
  replace f4 : va_at D gcl (s0.heap.size + 5, .inr (2, [.ref (s0.heap.size + 6)])) H := hN.at f4
  replace f5 : va_at D gcl (s0.heap.size + 6, .inr (1, [.int 0, .ref z0, .int (nI 0)])) H := hN.at f5
  replace hsz : H.size = s0.heap.size + 8 := by rw [hN.1, hsz]
  replace hold := hold_N hN hold hle
  replace hle := hle_N hN hle
  clear hN
  replace f6 : va_at D gcl (s0.heap.size + 7, .inr (2, [.null])) H := f6
  refine lv_dup hx hb dX1_init_50 rfl ?_
  refine cc_0 (va_runIN (b := s0.heap.size + 7) (As := []) (rest := [.ref (s0.heap.size + 7), .ref s0.heap.size]) ⟨hx, hb, hml, hown, hts⟩ (ct_X2_init hE (a := s0.heap.size + 7) (b := s0.heap.size + 8) (by omega) (by omega) hsz hold f6) (⟨va_cnB 0 hts (lw_meth q116) rfl rfl rfl (hE.nM hW0 q114) (hts _ q51) (by decide +kernel) ⟨Nat.le_of_ble_eq_true rfl, Nat.le_of_ble_eq_true rfl⟩, rfl, hts _ q115⟩) (cc_pS hW0) rfl rfl hl.1 rfl (lv_room (Nat.le_of_ble_eq_true rfl)) dX1_init_51 ⟨Nat.le_of_ble_eq_true rfl, Nat.le_of_ble_eq_true rfl⟩) hL (fun H locs hP1 hL => ?_)
  obtain ⟨hG, f6, f7⟩ := hP1
  replace f : va_at D gcl (s0.heap.size, .inr (0, [.ref (s0.heap.size + 1), .ref (s0.heap.size + 2), .ref (s0.heap.size + 3), .ref (s0.heap.size + 5), .null, .null, .null, .null, .int 0, .null])) H := hG.at f (by omega)
  replace f0 : va_at D gcl (s0.heap.size + 1, .inl (DA 3, 12, .inr (.inr (.inr (.inr (fun _ => none)))))) H := hG.at f0 (by omega)
  replace f1 : va_at D gcl (s0.heap.size + 2, .inr (1, [.int 0, .ref z0, .int (nI 0)])) H := hG.at f1 (by omega)
  replace f2 : va_at D gcl (s0.heap.size + 3, .inr (2, [.ref (s0.heap.size + 4)])) H := hG.at f2 (by omega)
  replace f3 : va_at D gcl (s0.heap.size + 4, .inr (1, [.int 0, .ref z0, .int (nI 0)])) H := hG.at f3 (by omega)
  replace f4 : va_at D gcl (s0.heap.size + 5, .inr (2, [.ref (s0.heap.size + 6)])) H := hG.at f4 (by omega)
  replace f5 : va_at D gcl (s0.heap.size + 6, .inr (1, [.int 0, .ref z0, .int (nI 0)])) H := hG.at f5 (by omega)
  replace hsz : H.size = s0.heap.size + 9 := by rw [hG.1, hsz]
  replace hold := hold_G hG hold hle (by omega)
  replace hle := hle_G hG hle
  clear hG
  replace f6 : va_at D gcl (s0.heap.size + 7, .inr (2, [.ref (s0.heap.size + 8)])) H := f6
  replace f7 : va_at D gcl (s0.heap.size + 8, .inr (1, [.int 0, .ref z0, .int (nI 0)])) H := f7
  refine gx_putF (D := D) (cl := gcl) (ci := 0) (v := .ref (s0.heap.size + 7)) (ty := (.object "NettedPlans$Book")) (C := RX1) (T := TX1) (N := 10) hx hb hts in_X1 tyX1 tyX1_ok nmX1 hown hK f rfl 4 (by decide) (hts _ q276) (fun _ h9 => h9) rfl hin rfl (by decide +kernel) (rfl) rfl (Nat.le_of_ble_eq_true rfl) hL (by (try simp only [aI, aA, aT, aB, aL, mad]); omega) dX1_init_54 (fun H locs hU hA hL => ?_)
  have f : va_at D gcl (s0.heap.size, .inr (0, [.ref (s0.heap.size + 1), .ref (s0.heap.size + 2), .ref (s0.heap.size + 3), .ref (s0.heap.size + 5), .ref (s0.heap.size + 7), .null, .null, .null, .int 0, .null])) H := hA
  replace f0 : va_at D gcl (s0.heap.size + 1, .inl (DA 3, 12, .inr (.inr (.inr (.inr (fun _ => none)))))) H := hU.at (by omega) f0
  replace f1 : va_at D gcl (s0.heap.size + 2, .inr (1, [.int 0, .ref z0, .int (nI 0)])) H := hU.at (by omega) f1
  replace f2 : va_at D gcl (s0.heap.size + 3, .inr (2, [.ref (s0.heap.size + 4)])) H := hU.at (by omega) f2
  replace f3 : va_at D gcl (s0.heap.size + 4, .inr (1, [.int 0, .ref z0, .int (nI 0)])) H := hU.at (by omega) f3
  replace f4 : va_at D gcl (s0.heap.size + 5, .inr (2, [.ref (s0.heap.size + 6)])) H := hU.at (by omega) f4
  replace f5 : va_at D gcl (s0.heap.size + 6, .inr (1, [.int 0, .ref z0, .int (nI 0)])) H := hU.at (by omega) f5
  replace f6 : va_at D gcl (s0.heap.size + 7, .inr (2, [.ref (s0.heap.size + 8)])) H := hU.at (by omega) f6
  replace f7 : va_at D gcl (s0.heap.size + 8, .inr (1, [.int 0, .ref z0, .int (nI 0)])) H := hU.at (by omega) f7
  replace hsz : H.size = s0.heap.size + 9 := by rw [hU.1, hsz]
  replace hold := hold_U hU hold (by omega)
  replace hle := hle_U hU hle
  clear hU
  refine lv_aload_n hx hb dX1_init_57 rfl (lv_at hl 0 rfl) ?_
  refine lv_iconst (v := 4) hx hb dX1_init_58 (by decide) ?_
  refine gx_newqV hx hb hown (hts _ q125) (hE.nA hW0 q126) hK 5 rfl (N' := 4) (by decide) (by decide) (by decide) (Nat.le_of_ble_eq_true rfl) (Nat.le_of_ble_eq_true rfl) dX1_init_59 (v := s0.heap.size + 9) hsz (fun H hN f8 => ?_)
  replace f : va_at D gcl (s0.heap.size, .inr (0, [.ref (s0.heap.size + 1), .ref (s0.heap.size + 2), .ref (s0.heap.size + 3), .ref (s0.heap.size + 5), .ref (s0.heap.size + 7), .null, .null, .null, .int 0, .null])) H := hN.at f
  replace f0 : va_at D gcl (s0.heap.size + 1, .inl (DA 3, 12, .inr (.inr (.inr (.inr (fun _ => none)))))) H := hN.at f0
  replace f1 : va_at D gcl (s0.heap.size + 2, .inr (1, [.int 0, .ref z0, .int (nI 0)])) H := hN.at f1
  replace f2 : va_at D gcl (s0.heap.size + 3, .inr (2, [.ref (s0.heap.size + 4)])) H := hN.at f2
  replace f3 : va_at D gcl (s0.heap.size + 4, .inr (1, [.int 0, .ref z0, .int (nI 0)])) H := hN.at f3
  replace f4 : va_at D gcl (s0.heap.size + 5, .inr (2, [.ref (s0.heap.size + 6)])) H := hN.at f4
  replace f5 : va_at D gcl (s0.heap.size + 6, .inr (1, [.int 0, .ref z0, .int (nI 0)])) H := hN.at f5
  replace f6 : va_at D gcl (s0.heap.size + 7, .inr (2, [.ref (s0.heap.size + 8)])) H := hN.at f6
  replace f7 : va_at D gcl (s0.heap.size + 8, .inr (1, [.int 0, .ref z0, .int (nI 0)])) H := hN.at f7
  replace hsz : H.size = s0.heap.size + 10 := by rw [hN.1, hsz]
  replace hold := hold_N hN hold hle
  replace hle := hle_N hN hle
  clear hN
  replace f8 : va_at D gcl (s0.heap.size + 9, .inl (DA 5, 4, .inr (.inr (.inr (.inr (fun _ => none)))))) H := f8
  refine lv_dup hx hb dX1_init_62 rfl ?_
  refine lv_iconst (v := 0) hx hb dX1_init_63 (by decide) ?_
  refine gx_newW (ci := 3) (C := RX4) (T := tn0) (N := 0) (fs := []) hx hb hts (fun w h => by cases h) (fun _ => .int) (fun k h => absurd h (Nat.not_lt_zero k)) hown (hts _ q127) (hts _ q128) (hts _ q53) hK rfl (by decide) (Nat.le_of_ble_eq_true rfl) (Nat.le_of_ble_eq_true rfl) dX1_init_64 (v := s0.heap.size + 10) hsz (fun H hN f9 => ?_)
  replace f : va_at D gcl (s0.heap.size, .inr (0, [.ref (s0.heap.size + 1), .ref (s0.heap.size + 2), .ref (s0.heap.size + 3), .ref (s0.heap.size + 5), .ref (s0.heap.size + 7), .null, .null, .null, .int 0, .null])) H := hN.at f
  replace f0 : va_at D gcl (s0.heap.size + 1, .inl (DA 3, 12, .inr (.inr (.inr (.inr (fun _ => none)))))) H := hN.at f0
  replace f1 : va_at D gcl (s0.heap.size + 2, .inr (1, [.int 0, .ref z0, .int (nI 0)])) H := hN.at f1
  replace f2 : va_at D gcl (s0.heap.size + 3, .inr (2, [.ref (s0.heap.size + 4)])) H := hN.at f2
  replace f3 : va_at D gcl (s0.heap.size + 4, .inr (1, [.int 0, .ref z0, .int (nI 0)])) H := hN.at f3
  replace f4 : va_at D gcl (s0.heap.size + 5, .inr (2, [.ref (s0.heap.size + 6)])) H := hN.at f4
  replace f5 : va_at D gcl (s0.heap.size + 6, .inr (1, [.int 0, .ref z0, .int (nI 0)])) H := hN.at f5
  replace f6 : va_at D gcl (s0.heap.size + 7, .inr (2, [.ref (s0.heap.size + 8)])) H := hN.at f6
  replace f7 : va_at D gcl (s0.heap.size + 8, .inr (1, [.int 0, .ref z0, .int (nI 0)])) H := hN.at f7
  replace f8 : va_at D gcl (s0.heap.size + 9, .inl (DA 5, 4, .inr (.inr (.inr (.inr (fun _ => none)))))) H := hN.at f8
  replace hsz : H.size = s0.heap.size + 11 := by rw [hN.1, hsz]
  replace hold := hold_N hN hold hle
  replace hle := hle_N hN hle
  clear hN
  replace f9 : va_at D gcl (s0.heap.size + 10, .inr (3, [])) H := f9
  refine lv_dup hx hb dX1_init_67 rfl ?_
  refine cc_0 (va_runIN (b := s0.heap.size + 10) (As := []) (rest := [.ref (s0.heap.size + 10), .int 0, .ref (s0.heap.size + 9), .ref (s0.heap.size + 9), .ref s0.heap.size]) ⟨hx, hb, hml, hown, hts⟩ (ct_X4_init (a := s0.heap.size + 10) hE) (⟨va_cnB 0 hts (lw_meth q131) rfl rfl rfl (hE.nM hW0 q129) (hts _ q53) (by decide +kernel) ⟨Nat.le_of_ble_eq_true rfl, Nat.le_of_ble_eq_true rfl⟩, rfl, hts _ q130⟩) (cc_pS hW0) rfl rfl hl.1 rfl (lv_room (Nat.le_of_ble_eq_true rfl)) dX1_init_68 ⟨Nat.le_of_ble_eq_true rfl, Nat.le_of_ble_eq_true rfl⟩) hL (fun H locs hP1 hL => ?_)
  subst hP1
  refine gx_aast hx hb hK 5 f8 rfl (gx_any hK f9 rfl (va_Nw.warmC hW0 (hE.nw rfl q1157))) 0 (by decide) (by decide) (by decide) hL (by omega) dX1_init_71 (fun H locs hU hA hL => ?_)
  have f8 : va_at D gcl (s0.heap.size + 9, .inl (DA 5, 4, .inr (.inr (.inr (.inr (va_up (fun _ => none) 0 (some (s0.heap.size + 10)))))))) H := hA
  replace f : va_at D gcl (s0.heap.size, .inr (0, [.ref (s0.heap.size + 1), .ref (s0.heap.size + 2), .ref (s0.heap.size + 3), .ref (s0.heap.size + 5), .ref (s0.heap.size + 7), .null, .null, .null, .int 0, .null])) H := hU.at (by omega) f
  replace f0 : va_at D gcl (s0.heap.size + 1, .inl (DA 3, 12, .inr (.inr (.inr (.inr (fun _ => none)))))) H := hU.at (by omega) f0
  replace f1 : va_at D gcl (s0.heap.size + 2, .inr (1, [.int 0, .ref z0, .int (nI 0)])) H := hU.at (by omega) f1
  replace f2 : va_at D gcl (s0.heap.size + 3, .inr (2, [.ref (s0.heap.size + 4)])) H := hU.at (by omega) f2
  replace f3 : va_at D gcl (s0.heap.size + 4, .inr (1, [.int 0, .ref z0, .int (nI 0)])) H := hU.at (by omega) f3
  replace f4 : va_at D gcl (s0.heap.size + 5, .inr (2, [.ref (s0.heap.size + 6)])) H := hU.at (by omega) f4
  replace f5 : va_at D gcl (s0.heap.size + 6, .inr (1, [.int 0, .ref z0, .int (nI 0)])) H := hU.at (by omega) f5
  replace f6 : va_at D gcl (s0.heap.size + 7, .inr (2, [.ref (s0.heap.size + 8)])) H := hU.at (by omega) f6
  replace f7 : va_at D gcl (s0.heap.size + 8, .inr (1, [.int 0, .ref z0, .int (nI 0)])) H := hU.at (by omega) f7
  replace f9 : va_at D gcl (s0.heap.size + 10, .inr (3, [])) H := hU.at (by omega) f9
  replace hsz : H.size = s0.heap.size + 11 := by rw [hU.1, hsz]
  replace hold := hold_U hU hold (by omega)
  replace hle := hle_U hU hle
  clear hU
  refine lv_dup hx hb dX1_init_72 rfl ?_
  refine lv_iconst (v := 1) hx hb dX1_init_73 (by decide) ?_
  refine gx_newW (ci := 4) (C := RX5) (T := tn0) (N := 0) (fs := []) hx hb hts (fun w h => by cases h) (fun _ => .int) (fun k h => absurd h (Nat.not_lt_zero k)) hown (hts _ q137) (hts _ q138) (hts _ q54) hK rfl (by decide) (Nat.le_of_ble_eq_true rfl) (Nat.le_of_ble_eq_true rfl) dX1_init_74 (v := s0.heap.size + 11) hsz (fun H hN f10 => ?_)
  replace f : va_at D gcl (s0.heap.size, .inr (0, [.ref (s0.heap.size + 1), .ref (s0.heap.size + 2), .ref (s0.heap.size + 3), .ref (s0.heap.size + 5), .ref (s0.heap.size + 7), .null, .null, .null, .int 0, .null])) H := hN.at f
  replace f0 : va_at D gcl (s0.heap.size + 1, .inl (DA 3, 12, .inr (.inr (.inr (.inr (fun _ => none)))))) H := hN.at f0
  replace f1 : va_at D gcl (s0.heap.size + 2, .inr (1, [.int 0, .ref z0, .int (nI 0)])) H := hN.at f1
  replace f2 : va_at D gcl (s0.heap.size + 3, .inr (2, [.ref (s0.heap.size + 4)])) H := hN.at f2
  replace f3 : va_at D gcl (s0.heap.size + 4, .inr (1, [.int 0, .ref z0, .int (nI 0)])) H := hN.at f3
  replace f4 : va_at D gcl (s0.heap.size + 5, .inr (2, [.ref (s0.heap.size + 6)])) H := hN.at f4
  replace f5 : va_at D gcl (s0.heap.size + 6, .inr (1, [.int 0, .ref z0, .int (nI 0)])) H := hN.at f5
  replace f6 : va_at D gcl (s0.heap.size + 7, .inr (2, [.ref (s0.heap.size + 8)])) H := hN.at f6
  replace f7 : va_at D gcl (s0.heap.size + 8, .inr (1, [.int 0, .ref z0, .int (nI 0)])) H := hN.at f7
  replace f8 : va_at D gcl (s0.heap.size + 9, .inl (DA 5, 4, .inr (.inr (.inr (.inr (va_up (fun _ => none) 0 (some (s0.heap.size + 10)))))))) H := hN.at f8
  replace f9 : va_at D gcl (s0.heap.size + 10, .inr (3, [])) H := hN.at f9
  replace hsz : H.size = s0.heap.size + 12 := by rw [hN.1, hsz]
  replace hold := hold_N hN hold hle
  replace hle := hle_N hN hle
  clear hN
  replace f10 : va_at D gcl (s0.heap.size + 11, .inr (4, [])) H := f10
  refine lv_dup hx hb dX1_init_77 rfl ?_
  refine cc_0 (va_runIN (b := s0.heap.size + 11) (As := []) (rest := [.ref (s0.heap.size + 11), .int 1, .ref (s0.heap.size + 9), .ref (s0.heap.size + 9), .ref s0.heap.size]) ⟨hx, hb, hml, hown, hts⟩ (ct_X5_init (a := s0.heap.size + 11) hE) (⟨va_cnB 0 hts (lw_meth q141) rfl rfl rfl (hE.nM hW0 q139) (hts _ q54) (by decide +kernel) ⟨Nat.le_of_ble_eq_true rfl, Nat.le_of_ble_eq_true rfl⟩, rfl, hts _ q140⟩) (cc_pS hW0) rfl rfl hl.1 rfl (lv_room (Nat.le_of_ble_eq_true rfl)) dX1_init_78 ⟨Nat.le_of_ble_eq_true rfl, Nat.le_of_ble_eq_true rfl⟩) hL (fun H locs hP1 hL => ?_)
  subst hP1
  refine gx_aast hx hb hK 5 f8 rfl (gx_any hK f10 rfl (va_Nw.warmC hW0 (hE.nw rfl q1158))) 1 (by decide) (by decide) (by decide) hL (by omega) dX1_init_81 (fun H locs hU hA hL => ?_)
  have f8 : va_at D gcl (s0.heap.size + 9, .inl (DA 5, 4, .inr (.inr (.inr (.inr (va_up (va_up (fun _ => none) 0 (some (s0.heap.size + 10))) 1 (some (s0.heap.size + 11)))))))) H := hA
  replace f : va_at D gcl (s0.heap.size, .inr (0, [.ref (s0.heap.size + 1), .ref (s0.heap.size + 2), .ref (s0.heap.size + 3), .ref (s0.heap.size + 5), .ref (s0.heap.size + 7), .null, .null, .null, .int 0, .null])) H := hU.at (by omega) f
  replace f0 : va_at D gcl (s0.heap.size + 1, .inl (DA 3, 12, .inr (.inr (.inr (.inr (fun _ => none)))))) H := hU.at (by omega) f0
  replace f1 : va_at D gcl (s0.heap.size + 2, .inr (1, [.int 0, .ref z0, .int (nI 0)])) H := hU.at (by omega) f1
  replace f2 : va_at D gcl (s0.heap.size + 3, .inr (2, [.ref (s0.heap.size + 4)])) H := hU.at (by omega) f2
  replace f3 : va_at D gcl (s0.heap.size + 4, .inr (1, [.int 0, .ref z0, .int (nI 0)])) H := hU.at (by omega) f3
  replace f4 : va_at D gcl (s0.heap.size + 5, .inr (2, [.ref (s0.heap.size + 6)])) H := hU.at (by omega) f4
  replace f5 : va_at D gcl (s0.heap.size + 6, .inr (1, [.int 0, .ref z0, .int (nI 0)])) H := hU.at (by omega) f5
  replace f6 : va_at D gcl (s0.heap.size + 7, .inr (2, [.ref (s0.heap.size + 8)])) H := hU.at (by omega) f6
  replace f7 : va_at D gcl (s0.heap.size + 8, .inr (1, [.int 0, .ref z0, .int (nI 0)])) H := hU.at (by omega) f7
  replace f9 : va_at D gcl (s0.heap.size + 10, .inr (3, [])) H := hU.at (by omega) f9
  replace f10 : va_at D gcl (s0.heap.size + 11, .inr (4, [])) H := hU.at (by omega) f10
  replace hsz : H.size = s0.heap.size + 12 := by rw [hU.1, hsz]
  replace hold := hold_U hU hold (by omega)
  replace hle := hle_U hU hle
  clear hU
  refine lv_dup hx hb dX1_init_82 rfl ?_
  refine lv_iconst (v := 2) hx hb dX1_init_83 (by decide) ?_
  refine gx_newW (ci := 5) (C := RX6) (T := tn0) (N := 0) (fs := []) hx hb hts (fun w h => by cases h) (fun _ => .int) (fun k h => absurd h (Nat.not_lt_zero k)) hown (hts _ q144) (hts _ q145) (hts _ q55) hK rfl (by decide) (Nat.le_of_ble_eq_true rfl) (Nat.le_of_ble_eq_true rfl) dX1_init_84 (v := s0.heap.size + 12) hsz (fun H hN f11 => ?_)
  replace f : va_at D gcl (s0.heap.size, .inr (0, [.ref (s0.heap.size + 1), .ref (s0.heap.size + 2), .ref (s0.heap.size + 3), .ref (s0.heap.size + 5), .ref (s0.heap.size + 7), .null, .null, .null, .int 0, .null])) H := hN.at f
  replace f0 : va_at D gcl (s0.heap.size + 1, .inl (DA 3, 12, .inr (.inr (.inr (.inr (fun _ => none)))))) H := hN.at f0
  replace f1 : va_at D gcl (s0.heap.size + 2, .inr (1, [.int 0, .ref z0, .int (nI 0)])) H := hN.at f1
  replace f2 : va_at D gcl (s0.heap.size + 3, .inr (2, [.ref (s0.heap.size + 4)])) H := hN.at f2
  replace f3 : va_at D gcl (s0.heap.size + 4, .inr (1, [.int 0, .ref z0, .int (nI 0)])) H := hN.at f3
  replace f4 : va_at D gcl (s0.heap.size + 5, .inr (2, [.ref (s0.heap.size + 6)])) H := hN.at f4
  replace f5 : va_at D gcl (s0.heap.size + 6, .inr (1, [.int 0, .ref z0, .int (nI 0)])) H := hN.at f5
  replace f6 : va_at D gcl (s0.heap.size + 7, .inr (2, [.ref (s0.heap.size + 8)])) H := hN.at f6
  replace f7 : va_at D gcl (s0.heap.size + 8, .inr (1, [.int 0, .ref z0, .int (nI 0)])) H := hN.at f7
  replace f8 : va_at D gcl (s0.heap.size + 9, .inl (DA 5, 4, .inr (.inr (.inr (.inr (va_up (va_up (fun _ => none) 0 (some (s0.heap.size + 10))) 1 (some (s0.heap.size + 11)))))))) H := hN.at f8
  replace f9 : va_at D gcl (s0.heap.size + 10, .inr (3, [])) H := hN.at f9
  replace f10 : va_at D gcl (s0.heap.size + 11, .inr (4, [])) H := hN.at f10
  replace hsz : H.size = s0.heap.size + 13 := by rw [hN.1, hsz]
  replace hold := hold_N hN hold hle
  replace hle := hle_N hN hle
  clear hN
  replace f11 : va_at D gcl (s0.heap.size + 12, .inr (5, [])) H := f11
  refine lv_dup hx hb dX1_init_87 rfl ?_
  refine cc_0 (va_runIN (b := s0.heap.size + 12) (As := []) (rest := [.ref (s0.heap.size + 12), .int 2, .ref (s0.heap.size + 9), .ref (s0.heap.size + 9), .ref s0.heap.size]) ⟨hx, hb, hml, hown, hts⟩ (ct_X6_init (a := s0.heap.size + 12) hE) (⟨va_cnB 0 hts (lw_meth q148) rfl rfl rfl (hE.nM hW0 q146) (hts _ q55) (by decide +kernel) ⟨Nat.le_of_ble_eq_true rfl, Nat.le_of_ble_eq_true rfl⟩, rfl, hts _ q147⟩) (cc_pS hW0) rfl rfl hl.1 rfl (lv_room (Nat.le_of_ble_eq_true rfl)) dX1_init_88 ⟨Nat.le_of_ble_eq_true rfl, Nat.le_of_ble_eq_true rfl⟩) hL (fun H locs hP1 hL => ?_)
  subst hP1
  refine gx_aast hx hb hK 5 f8 rfl (gx_any hK f11 rfl (va_Nw.warmC hW0 (hE.nw rfl q1159))) 2 (by decide) (by decide) (by decide) hL (by omega) dX1_init_91 (fun H locs hU hA hL => ?_)
  have f8 : va_at D gcl (s0.heap.size + 9, .inl (DA 5, 4, .inr (.inr (.inr (.inr (va_up (va_up (va_up (fun _ => none) 0 (some (s0.heap.size + 10))) 1 (some (s0.heap.size + 11))) 2 (some (s0.heap.size + 12)))))))) H := hA
  replace f : va_at D gcl (s0.heap.size, .inr (0, [.ref (s0.heap.size + 1), .ref (s0.heap.size + 2), .ref (s0.heap.size + 3), .ref (s0.heap.size + 5), .ref (s0.heap.size + 7), .null, .null, .null, .int 0, .null])) H := hU.at (by omega) f
  replace f0 : va_at D gcl (s0.heap.size + 1, .inl (DA 3, 12, .inr (.inr (.inr (.inr (fun _ => none)))))) H := hU.at (by omega) f0
  replace f1 : va_at D gcl (s0.heap.size + 2, .inr (1, [.int 0, .ref z0, .int (nI 0)])) H := hU.at (by omega) f1
  replace f2 : va_at D gcl (s0.heap.size + 3, .inr (2, [.ref (s0.heap.size + 4)])) H := hU.at (by omega) f2
  replace f3 : va_at D gcl (s0.heap.size + 4, .inr (1, [.int 0, .ref z0, .int (nI 0)])) H := hU.at (by omega) f3
  replace f4 : va_at D gcl (s0.heap.size + 5, .inr (2, [.ref (s0.heap.size + 6)])) H := hU.at (by omega) f4
  replace f5 : va_at D gcl (s0.heap.size + 6, .inr (1, [.int 0, .ref z0, .int (nI 0)])) H := hU.at (by omega) f5
  replace f6 : va_at D gcl (s0.heap.size + 7, .inr (2, [.ref (s0.heap.size + 8)])) H := hU.at (by omega) f6
  replace f7 : va_at D gcl (s0.heap.size + 8, .inr (1, [.int 0, .ref z0, .int (nI 0)])) H := hU.at (by omega) f7
  replace f9 : va_at D gcl (s0.heap.size + 10, .inr (3, [])) H := hU.at (by omega) f9
  replace f10 : va_at D gcl (s0.heap.size + 11, .inr (4, [])) H := hU.at (by omega) f10
  replace f11 : va_at D gcl (s0.heap.size + 12, .inr (5, [])) H := hU.at (by omega) f11
  replace hsz : H.size = s0.heap.size + 13 := by rw [hU.1, hsz]
  replace hold := hold_U hU hold (by omega)
  replace hle := hle_U hU hle
  clear hU
  refine lv_dup hx hb dX1_init_92 rfl ?_
  refine lv_iconst (v := 3) hx hb dX1_init_93 (by decide) ?_
  refine gx_newW (ci := 6) (C := RX7) (T := TX7) (N := 2) (fs := [.null, .null]) hx hb hts in_X7 tyX7 tyX7_ok hown (hts _ q151) (hts _ q152) (hts _ q56) hK rfl (by decide) (Nat.le_of_ble_eq_true rfl) (Nat.le_of_ble_eq_true rfl) dX1_init_94 (v := s0.heap.size + 13) hsz (fun H hN f12 => ?_)
  replace f : va_at D gcl (s0.heap.size, .inr (0, [.ref (s0.heap.size + 1), .ref (s0.heap.size + 2), .ref (s0.heap.size + 3), .ref (s0.heap.size + 5), .ref (s0.heap.size + 7), .null, .null, .null, .int 0, .null])) H := hN.at f
  replace f0 : va_at D gcl (s0.heap.size + 1, .inl (DA 3, 12, .inr (.inr (.inr (.inr (fun _ => none)))))) H := hN.at f0
  replace f1 : va_at D gcl (s0.heap.size + 2, .inr (1, [.int 0, .ref z0, .int (nI 0)])) H := hN.at f1
  replace f2 : va_at D gcl (s0.heap.size + 3, .inr (2, [.ref (s0.heap.size + 4)])) H := hN.at f2
  replace f3 : va_at D gcl (s0.heap.size + 4, .inr (1, [.int 0, .ref z0, .int (nI 0)])) H := hN.at f3
  replace f4 : va_at D gcl (s0.heap.size + 5, .inr (2, [.ref (s0.heap.size + 6)])) H := hN.at f4
  replace f5 : va_at D gcl (s0.heap.size + 6, .inr (1, [.int 0, .ref z0, .int (nI 0)])) H := hN.at f5
  replace f6 : va_at D gcl (s0.heap.size + 7, .inr (2, [.ref (s0.heap.size + 8)])) H := hN.at f6
  replace f7 : va_at D gcl (s0.heap.size + 8, .inr (1, [.int 0, .ref z0, .int (nI 0)])) H := hN.at f7
  replace f8 : va_at D gcl (s0.heap.size + 9, .inl (DA 5, 4, .inr (.inr (.inr (.inr (va_up (va_up (va_up (fun _ => none) 0 (some (s0.heap.size + 10))) 1 (some (s0.heap.size + 11))) 2 (some (s0.heap.size + 12)))))))) H := hN.at f8
  replace f9 : va_at D gcl (s0.heap.size + 10, .inr (3, [])) H := hN.at f9
  replace f10 : va_at D gcl (s0.heap.size + 11, .inr (4, [])) H := hN.at f10
  replace f11 : va_at D gcl (s0.heap.size + 12, .inr (5, [])) H := hN.at f11
  replace hsz : H.size = s0.heap.size + 14 := by rw [hN.1, hsz]
  replace hold := hold_N hN hold hle
  replace hle := hle_N hN hle
  clear hN
  replace f12 : va_at D gcl (s0.heap.size + 13, .inr (6, [.null, .null])) H := f12
  refine lv_dup hx hb dX1_init_97 rfl ?_
  refine cc_0 (va_runIN (b := s0.heap.size + 13) (As := []) (rest := [.ref (s0.heap.size + 13), .int 3, .ref (s0.heap.size + 9), .ref (s0.heap.size + 9), .ref s0.heap.size]) ⟨hx, hb, hml, hown, hts⟩ (ct_X7_init hE (a := s0.heap.size + 13) (b := s0.heap.size + 14) (by omega) (by omega) hsz hold f12) (⟨va_cnB 0 hts (lw_meth q155) rfl rfl rfl (hE.nM hW0 q153) (hts _ q56) (by decide +kernel) ⟨Nat.le_of_ble_eq_true rfl, Nat.le_of_ble_eq_true rfl⟩, rfl, hts _ q154⟩) (cc_pS hW0) rfl rfl hl.1 rfl (lv_room (Nat.le_of_ble_eq_true rfl)) dX1_init_98 ⟨Nat.le_of_ble_eq_true rfl, Nat.le_of_ble_eq_true rfl⟩) hL (fun H locs hP1 hL => ?_)
  obtain ⟨hG, f12, f13, f14⟩ := hP1
  replace f : va_at D gcl (s0.heap.size, .inr (0, [.ref (s0.heap.size + 1), .ref (s0.heap.size + 2), .ref (s0.heap.size + 3), .ref (s0.heap.size + 5), .ref (s0.heap.size + 7), .null, .null, .null, .int 0, .null])) H := hG.at f (by omega)
  replace f0 : va_at D gcl (s0.heap.size + 1, .inl (DA 3, 12, .inr (.inr (.inr (.inr (fun _ => none)))))) H := hG.at f0 (by omega)
  replace f1 : va_at D gcl (s0.heap.size + 2, .inr (1, [.int 0, .ref z0, .int (nI 0)])) H := hG.at f1 (by omega)
  replace f2 : va_at D gcl (s0.heap.size + 3, .inr (2, [.ref (s0.heap.size + 4)])) H := hG.at f2 (by omega)
  replace f3 : va_at D gcl (s0.heap.size + 4, .inr (1, [.int 0, .ref z0, .int (nI 0)])) H := hG.at f3 (by omega)
  replace f4 : va_at D gcl (s0.heap.size + 5, .inr (2, [.ref (s0.heap.size + 6)])) H := hG.at f4 (by omega)
  replace f5 : va_at D gcl (s0.heap.size + 6, .inr (1, [.int 0, .ref z0, .int (nI 0)])) H := hG.at f5 (by omega)
  replace f6 : va_at D gcl (s0.heap.size + 7, .inr (2, [.ref (s0.heap.size + 8)])) H := hG.at f6 (by omega)
  replace f7 : va_at D gcl (s0.heap.size + 8, .inr (1, [.int 0, .ref z0, .int (nI 0)])) H := hG.at f7 (by omega)
  replace f8 : va_at D gcl (s0.heap.size + 9, .inl (DA 5, 4, .inr (.inr (.inr (.inr (va_up (va_up (va_up (fun _ => none) 0 (some (s0.heap.size + 10))) 1 (some (s0.heap.size + 11))) 2 (some (s0.heap.size + 12)))))))) H := hG.at f8 (by omega)
  replace f9 : va_at D gcl (s0.heap.size + 10, .inr (3, [])) H := hG.at f9 (by omega)
  replace f10 : va_at D gcl (s0.heap.size + 11, .inr (4, [])) H := hG.at f10 (by omega)
  replace f11 : va_at D gcl (s0.heap.size + 12, .inr (5, [])) H := hG.at f11 (by omega)
  replace hsz : H.size = s0.heap.size + 16 := by rw [hG.1, hsz]
  replace hold := hold_G hG hold hle (by omega)
  replace hle := hle_G hG hle
  clear hG
  replace f12 : va_at D gcl (s0.heap.size + 13, .inr (6, [.ref (s0.heap.size + 14), .ref (s0.heap.size + 15)])) H := f12
  replace f13 : va_at D gcl (s0.heap.size + 14, .inl (DA 0, 13, .inr (.inl (fun _ => 0)))) H := f13
  replace f14 : va_at D gcl (s0.heap.size + 15, .inl (DA 1, 12, .inl (fun _ => 0))) H := f14
  refine gx_aast hx hb hK 5 f8 rfl (gx_any hK f12 rfl (va_Nw.warmC hW0 (hE.nw rfl q1160))) 3 (by decide) (by decide) (by decide) hL (by omega) dX1_init_101 (fun H locs hU hA hL => ?_)
  have f8 : va_at D gcl (s0.heap.size + 9, .inl (DA 5, 4, .inr (.inr (.inr (.inr (va_up (va_up (va_up (va_up (fun _ => none) 0 (some (s0.heap.size + 10))) 1 (some (s0.heap.size + 11))) 2 (some (s0.heap.size + 12))) 3 (some (s0.heap.size + 13)))))))) H := hA
  replace f : va_at D gcl (s0.heap.size, .inr (0, [.ref (s0.heap.size + 1), .ref (s0.heap.size + 2), .ref (s0.heap.size + 3), .ref (s0.heap.size + 5), .ref (s0.heap.size + 7), .null, .null, .null, .int 0, .null])) H := hU.at (by omega) f
  replace f0 : va_at D gcl (s0.heap.size + 1, .inl (DA 3, 12, .inr (.inr (.inr (.inr (fun _ => none)))))) H := hU.at (by omega) f0
  replace f1 : va_at D gcl (s0.heap.size + 2, .inr (1, [.int 0, .ref z0, .int (nI 0)])) H := hU.at (by omega) f1
  replace f2 : va_at D gcl (s0.heap.size + 3, .inr (2, [.ref (s0.heap.size + 4)])) H := hU.at (by omega) f2
  replace f3 : va_at D gcl (s0.heap.size + 4, .inr (1, [.int 0, .ref z0, .int (nI 0)])) H := hU.at (by omega) f3
  replace f4 : va_at D gcl (s0.heap.size + 5, .inr (2, [.ref (s0.heap.size + 6)])) H := hU.at (by omega) f4
  replace f5 : va_at D gcl (s0.heap.size + 6, .inr (1, [.int 0, .ref z0, .int (nI 0)])) H := hU.at (by omega) f5
  replace f6 : va_at D gcl (s0.heap.size + 7, .inr (2, [.ref (s0.heap.size + 8)])) H := hU.at (by omega) f6
  replace f7 : va_at D gcl (s0.heap.size + 8, .inr (1, [.int 0, .ref z0, .int (nI 0)])) H := hU.at (by omega) f7
  replace f9 : va_at D gcl (s0.heap.size + 10, .inr (3, [])) H := hU.at (by omega) f9
  replace f10 : va_at D gcl (s0.heap.size + 11, .inr (4, [])) H := hU.at (by omega) f10
  replace f11 : va_at D gcl (s0.heap.size + 12, .inr (5, [])) H := hU.at (by omega) f11
  replace f12 : va_at D gcl (s0.heap.size + 13, .inr (6, [.ref (s0.heap.size + 14), .ref (s0.heap.size + 15)])) H := hU.at (by omega) f12
  replace f13 : va_at D gcl (s0.heap.size + 14, .inl (DA 0, 13, .inr (.inl (fun _ => 0)))) H := hU.at (by omega) f13
  replace f14 : va_at D gcl (s0.heap.size + 15, .inl (DA 1, 12, .inl (fun _ => 0))) H := hU.at (by omega) f14
  replace hsz : H.size = s0.heap.size + 16 := by rw [hU.1, hsz]
  replace hold := hold_U hU hold (by omega)
  replace hle := hle_U hU hle
  clear hU
  refine gx_putF (D := D) (cl := gcl) (ci := 0) (v := .ref (s0.heap.size + 9)) (ty := (.array (.object "NettedPlans$LotRule"))) (C := RX1) (T := TX1) (N := 10) hx hb hts in_X1 tyX1 tyX1_ok nmX1 hown hK f rfl 5 (by decide) (hts _ q277) (fun _ h9 => h9) rfl hin rfl (by decide +kernel) (rfl) rfl (Nat.le_of_ble_eq_true rfl) hL (by (try simp only [aI, aA, aT, aB, aL, mad]); omega) dX1_init_102 (fun H locs hU hA hL => ?_)
  have f : va_at D gcl (s0.heap.size, .inr (0, [.ref (s0.heap.size + 1), .ref (s0.heap.size + 2), .ref (s0.heap.size + 3), .ref (s0.heap.size + 5), .ref (s0.heap.size + 7), .ref (s0.heap.size + 9), .null, .null, .int 0, .null])) H := hA
  replace f0 : va_at D gcl (s0.heap.size + 1, .inl (DA 3, 12, .inr (.inr (.inr (.inr (fun _ => none)))))) H := hU.at (by omega) f0
  replace f1 : va_at D gcl (s0.heap.size + 2, .inr (1, [.int 0, .ref z0, .int (nI 0)])) H := hU.at (by omega) f1
  replace f2 : va_at D gcl (s0.heap.size + 3, .inr (2, [.ref (s0.heap.size + 4)])) H := hU.at (by omega) f2
  replace f3 : va_at D gcl (s0.heap.size + 4, .inr (1, [.int 0, .ref z0, .int (nI 0)])) H := hU.at (by omega) f3
  replace f4 : va_at D gcl (s0.heap.size + 5, .inr (2, [.ref (s0.heap.size + 6)])) H := hU.at (by omega) f4
  replace f5 : va_at D gcl (s0.heap.size + 6, .inr (1, [.int 0, .ref z0, .int (nI 0)])) H := hU.at (by omega) f5
  replace f6 : va_at D gcl (s0.heap.size + 7, .inr (2, [.ref (s0.heap.size + 8)])) H := hU.at (by omega) f6
  replace f7 : va_at D gcl (s0.heap.size + 8, .inr (1, [.int 0, .ref z0, .int (nI 0)])) H := hU.at (by omega) f7
  replace f8 : va_at D gcl (s0.heap.size + 9, .inl (DA 5, 4, .inr (.inr (.inr (.inr (va_up (va_up (va_up (va_up (fun _ => none) 0 (some (s0.heap.size + 10))) 1 (some (s0.heap.size + 11))) 2 (some (s0.heap.size + 12))) 3 (some (s0.heap.size + 13)))))))) H := hU.at (by omega) f8
  replace f9 : va_at D gcl (s0.heap.size + 10, .inr (3, [])) H := hU.at (by omega) f9
  replace f10 : va_at D gcl (s0.heap.size + 11, .inr (4, [])) H := hU.at (by omega) f10
  replace f11 : va_at D gcl (s0.heap.size + 12, .inr (5, [])) H := hU.at (by omega) f11
  replace f12 : va_at D gcl (s0.heap.size + 13, .inr (6, [.ref (s0.heap.size + 14), .ref (s0.heap.size + 15)])) H := hU.at (by omega) f12
  replace f13 : va_at D gcl (s0.heap.size + 14, .inl (DA 0, 13, .inr (.inl (fun _ => 0)))) H := hU.at (by omega) f13
  replace f14 : va_at D gcl (s0.heap.size + 15, .inl (DA 1, 12, .inl (fun _ => 0))) H := hU.at (by omega) f14
  replace hsz : H.size = s0.heap.size + 16 := by rw [hU.1, hsz]
  replace hold := hold_U hU hold (by omega)
  replace hle := hle_U hU hle
  clear hU
  refine lv_aload_n hx hb dX1_init_105 rfl (lv_at hl 0 rfl) ?_
  refine gx_newW (ci := 7) (C := RX8) (T := TX8) (N := 1) (fs := [.null]) hx hb hts in_X8 tyX8 tyX8_ok hown (hts _ q166) (hts _ q167) (hts _ q57) hK rfl (by decide) (Nat.le_of_ble_eq_true rfl) (Nat.le_of_ble_eq_true rfl) dX1_init_106 (v := s0.heap.size + 16) hsz (fun H hN f15 => ?_)
  replace f : va_at D gcl (s0.heap.size, .inr (0, [.ref (s0.heap.size + 1), .ref (s0.heap.size + 2), .ref (s0.heap.size + 3), .ref (s0.heap.size + 5), .ref (s0.heap.size + 7), .ref (s0.heap.size + 9), .null, .null, .int 0, .null])) H := hN.at f
  replace f0 : va_at D gcl (s0.heap.size + 1, .inl (DA 3, 12, .inr (.inr (.inr (.inr (fun _ => none)))))) H := hN.at f0
  replace f1 : va_at D gcl (s0.heap.size + 2, .inr (1, [.int 0, .ref z0, .int (nI 0)])) H := hN.at f1
  replace f2 : va_at D gcl (s0.heap.size + 3, .inr (2, [.ref (s0.heap.size + 4)])) H := hN.at f2
  replace f3 : va_at D gcl (s0.heap.size + 4, .inr (1, [.int 0, .ref z0, .int (nI 0)])) H := hN.at f3
  replace f4 : va_at D gcl (s0.heap.size + 5, .inr (2, [.ref (s0.heap.size + 6)])) H := hN.at f4
  replace f5 : va_at D gcl (s0.heap.size + 6, .inr (1, [.int 0, .ref z0, .int (nI 0)])) H := hN.at f5
  replace f6 : va_at D gcl (s0.heap.size + 7, .inr (2, [.ref (s0.heap.size + 8)])) H := hN.at f6
  replace f7 : va_at D gcl (s0.heap.size + 8, .inr (1, [.int 0, .ref z0, .int (nI 0)])) H := hN.at f7
  replace f8 : va_at D gcl (s0.heap.size + 9, .inl (DA 5, 4, .inr (.inr (.inr (.inr (va_up (va_up (va_up (va_up (fun _ => none) 0 (some (s0.heap.size + 10))) 1 (some (s0.heap.size + 11))) 2 (some (s0.heap.size + 12))) 3 (some (s0.heap.size + 13)))))))) H := hN.at f8
  replace f9 : va_at D gcl (s0.heap.size + 10, .inr (3, [])) H := hN.at f9
  replace f10 : va_at D gcl (s0.heap.size + 11, .inr (4, [])) H := hN.at f10
  replace f11 : va_at D gcl (s0.heap.size + 12, .inr (5, [])) H := hN.at f11
  replace f12 : va_at D gcl (s0.heap.size + 13, .inr (6, [.ref (s0.heap.size + 14), .ref (s0.heap.size + 15)])) H := hN.at f12
  replace f13 : va_at D gcl (s0.heap.size + 14, .inl (DA 0, 13, .inr (.inl (fun _ => 0)))) H := hN.at f13
  replace f14 : va_at D gcl (s0.heap.size + 15, .inl (DA 1, 12, .inl (fun _ => 0))) H := hN.at f14
  replace hsz : H.size = s0.heap.size + 17 := by rw [hN.1, hsz]
  replace hold := hold_N hN hold hle
  replace hle := hle_N hN hle
  clear hN
  replace f15 : va_at D gcl (s0.heap.size + 16, .inr (7, [.null])) H := f15
  refine lv_dup hx hb dX1_init_109 rfl ?_
  refine cc_0 (va_runIN (b := s0.heap.size + 16) (As := []) (rest := [.ref (s0.heap.size + 16), .ref s0.heap.size]) ⟨hx, hb, hml, hown, hts⟩ (ct_X8_init hE (a := s0.heap.size + 16) (b := s0.heap.size + 17) (by omega) (by omega) hsz hold f15) (⟨va_cnB 0 hts (lw_meth q170) rfl rfl rfl (hE.nM hW0 q168) (hts _ q57) (by decide +kernel) ⟨Nat.le_of_ble_eq_true rfl, Nat.le_of_ble_eq_true rfl⟩, rfl, hts _ q169⟩) (cc_pS hW0) rfl rfl hl.1 rfl (lv_room (Nat.le_of_ble_eq_true rfl)) dX1_init_110 ⟨Nat.le_of_ble_eq_true rfl, Nat.le_of_ble_eq_true rfl⟩) hL (fun H locs hP1 hL => ?_)
  obtain ⟨hG, f15, f16⟩ := hP1
  replace f : va_at D gcl (s0.heap.size, .inr (0, [.ref (s0.heap.size + 1), .ref (s0.heap.size + 2), .ref (s0.heap.size + 3), .ref (s0.heap.size + 5), .ref (s0.heap.size + 7), .ref (s0.heap.size + 9), .null, .null, .int 0, .null])) H := hG.at f (by omega)
  replace f0 : va_at D gcl (s0.heap.size + 1, .inl (DA 3, 12, .inr (.inr (.inr (.inr (fun _ => none)))))) H := hG.at f0 (by omega)
  replace f1 : va_at D gcl (s0.heap.size + 2, .inr (1, [.int 0, .ref z0, .int (nI 0)])) H := hG.at f1 (by omega)
  replace f2 : va_at D gcl (s0.heap.size + 3, .inr (2, [.ref (s0.heap.size + 4)])) H := hG.at f2 (by omega)
  replace f3 : va_at D gcl (s0.heap.size + 4, .inr (1, [.int 0, .ref z0, .int (nI 0)])) H := hG.at f3 (by omega)
  replace f4 : va_at D gcl (s0.heap.size + 5, .inr (2, [.ref (s0.heap.size + 6)])) H := hG.at f4 (by omega)
  replace f5 : va_at D gcl (s0.heap.size + 6, .inr (1, [.int 0, .ref z0, .int (nI 0)])) H := hG.at f5 (by omega)
  replace f6 : va_at D gcl (s0.heap.size + 7, .inr (2, [.ref (s0.heap.size + 8)])) H := hG.at f6 (by omega)
  replace f7 : va_at D gcl (s0.heap.size + 8, .inr (1, [.int 0, .ref z0, .int (nI 0)])) H := hG.at f7 (by omega)
  replace f8 : va_at D gcl (s0.heap.size + 9, .inl (DA 5, 4, .inr (.inr (.inr (.inr (va_up (va_up (va_up (va_up (fun _ => none) 0 (some (s0.heap.size + 10))) 1 (some (s0.heap.size + 11))) 2 (some (s0.heap.size + 12))) 3 (some (s0.heap.size + 13)))))))) H := hG.at f8 (by omega)
  replace f9 : va_at D gcl (s0.heap.size + 10, .inr (3, [])) H := hG.at f9 (by omega)
  replace f10 : va_at D gcl (s0.heap.size + 11, .inr (4, [])) H := hG.at f10 (by omega)
  replace f11 : va_at D gcl (s0.heap.size + 12, .inr (5, [])) H := hG.at f11 (by omega)
  replace f12 : va_at D gcl (s0.heap.size + 13, .inr (6, [.ref (s0.heap.size + 14), .ref (s0.heap.size + 15)])) H := hG.at f12 (by omega)
  replace f13 : va_at D gcl (s0.heap.size + 14, .inl (DA 0, 13, .inr (.inl (fun _ => 0)))) H := hG.at f13 (by omega)
  replace f14 : va_at D gcl (s0.heap.size + 15, .inl (DA 1, 12, .inl (fun _ => 0))) H := hG.at f14 (by omega)
  replace hsz : H.size = s0.heap.size + 18 := by rw [hG.1, hsz]
  replace hold := hold_G hG hold hle (by omega)
  replace hle := hle_G hG hle
  clear hG
  replace f15 : va_at D gcl (s0.heap.size + 16, .inr (7, [.ref (s0.heap.size + 17)])) H := f15
  replace f16 : va_at D gcl (s0.heap.size + 17, .inr (1, [.int 0, .ref z0, .int (nI 0)])) H := f16
  refine gx_putF (D := D) (cl := gcl) (ci := 0) (v := .ref (s0.heap.size + 16)) (ty := (.object "NettedPlans$Waits")) (C := RX1) (T := TX1) (N := 10) hx hb hts in_X1 tyX1 tyX1_ok nmX1 hown hK f rfl 6 (by decide) (hts _ q278) (fun _ h9 => h9) rfl hin rfl (by decide +kernel) (rfl) rfl (Nat.le_of_ble_eq_true rfl) hL (by (try simp only [aI, aA, aT, aB, aL, mad]); omega) dX1_init_113 (fun H locs hU hA hL => ?_)
  have f : va_at D gcl (s0.heap.size, .inr (0, [.ref (s0.heap.size + 1), .ref (s0.heap.size + 2), .ref (s0.heap.size + 3), .ref (s0.heap.size + 5), .ref (s0.heap.size + 7), .ref (s0.heap.size + 9), .ref (s0.heap.size + 16), .null, .int 0, .null])) H := hA
  replace f0 : va_at D gcl (s0.heap.size + 1, .inl (DA 3, 12, .inr (.inr (.inr (.inr (fun _ => none)))))) H := hU.at (by omega) f0
  replace f1 : va_at D gcl (s0.heap.size + 2, .inr (1, [.int 0, .ref z0, .int (nI 0)])) H := hU.at (by omega) f1
  replace f2 : va_at D gcl (s0.heap.size + 3, .inr (2, [.ref (s0.heap.size + 4)])) H := hU.at (by omega) f2
  replace f3 : va_at D gcl (s0.heap.size + 4, .inr (1, [.int 0, .ref z0, .int (nI 0)])) H := hU.at (by omega) f3
  replace f4 : va_at D gcl (s0.heap.size + 5, .inr (2, [.ref (s0.heap.size + 6)])) H := hU.at (by omega) f4
  replace f5 : va_at D gcl (s0.heap.size + 6, .inr (1, [.int 0, .ref z0, .int (nI 0)])) H := hU.at (by omega) f5
  replace f6 : va_at D gcl (s0.heap.size + 7, .inr (2, [.ref (s0.heap.size + 8)])) H := hU.at (by omega) f6
  replace f7 : va_at D gcl (s0.heap.size + 8, .inr (1, [.int 0, .ref z0, .int (nI 0)])) H := hU.at (by omega) f7
  replace f8 : va_at D gcl (s0.heap.size + 9, .inl (DA 5, 4, .inr (.inr (.inr (.inr (va_up (va_up (va_up (va_up (fun _ => none) 0 (some (s0.heap.size + 10))) 1 (some (s0.heap.size + 11))) 2 (some (s0.heap.size + 12))) 3 (some (s0.heap.size + 13)))))))) H := hU.at (by omega) f8
  replace f9 : va_at D gcl (s0.heap.size + 10, .inr (3, [])) H := hU.at (by omega) f9
  replace f10 : va_at D gcl (s0.heap.size + 11, .inr (4, [])) H := hU.at (by omega) f10
  replace f11 : va_at D gcl (s0.heap.size + 12, .inr (5, [])) H := hU.at (by omega) f11
  replace f12 : va_at D gcl (s0.heap.size + 13, .inr (6, [.ref (s0.heap.size + 14), .ref (s0.heap.size + 15)])) H := hU.at (by omega) f12
  replace f13 : va_at D gcl (s0.heap.size + 14, .inl (DA 0, 13, .inr (.inl (fun _ => 0)))) H := hU.at (by omega) f13
  replace f14 : va_at D gcl (s0.heap.size + 15, .inl (DA 1, 12, .inl (fun _ => 0))) H := hU.at (by omega) f14
  replace f15 : va_at D gcl (s0.heap.size + 16, .inr (7, [.ref (s0.heap.size + 17)])) H := hU.at (by omega) f15
  replace f16 : va_at D gcl (s0.heap.size + 17, .inr (1, [.int 0, .ref z0, .int (nI 0)])) H := hU.at (by omega) f16
  replace hsz : H.size = s0.heap.size + 18 := by rw [hU.1, hsz]
  replace hold := hold_U hU hold (by omega)
  replace hle := hle_U hU hle
  clear hU
  refine lv_aload_n hx hb dX1_init_116 rfl (lv_at hl 0 rfl) ?_
  refine lv_bipush (v := 12) hx hb dX1_init_117 (by decide) ?_
  refine gx_newqV hx hb hown (hts _ q178) (hE.nA hW0 q179) hK 4 rfl (N' := 12) (by decide) (by decide) (by decide) (Nat.le_of_ble_eq_true rfl) (Nat.le_of_ble_eq_true rfl) dX1_init_119 (v := s0.heap.size + 18) hsz (fun H hN f17 => ?_)
  replace f : va_at D gcl (s0.heap.size, .inr (0, [.ref (s0.heap.size + 1), .ref (s0.heap.size + 2), .ref (s0.heap.size + 3), .ref (s0.heap.size + 5), .ref (s0.heap.size + 7), .ref (s0.heap.size + 9), .ref (s0.heap.size + 16), .null, .int 0, .null])) H := hN.at f
  replace f0 : va_at D gcl (s0.heap.size + 1, .inl (DA 3, 12, .inr (.inr (.inr (.inr (fun _ => none)))))) H := hN.at f0
  replace f1 : va_at D gcl (s0.heap.size + 2, .inr (1, [.int 0, .ref z0, .int (nI 0)])) H := hN.at f1
  replace f2 : va_at D gcl (s0.heap.size + 3, .inr (2, [.ref (s0.heap.size + 4)])) H := hN.at f2
  replace f3 : va_at D gcl (s0.heap.size + 4, .inr (1, [.int 0, .ref z0, .int (nI 0)])) H := hN.at f3
  replace f4 : va_at D gcl (s0.heap.size + 5, .inr (2, [.ref (s0.heap.size + 6)])) H := hN.at f4
  replace f5 : va_at D gcl (s0.heap.size + 6, .inr (1, [.int 0, .ref z0, .int (nI 0)])) H := hN.at f5
  replace f6 : va_at D gcl (s0.heap.size + 7, .inr (2, [.ref (s0.heap.size + 8)])) H := hN.at f6
  replace f7 : va_at D gcl (s0.heap.size + 8, .inr (1, [.int 0, .ref z0, .int (nI 0)])) H := hN.at f7
  replace f8 : va_at D gcl (s0.heap.size + 9, .inl (DA 5, 4, .inr (.inr (.inr (.inr (va_up (va_up (va_up (va_up (fun _ => none) 0 (some (s0.heap.size + 10))) 1 (some (s0.heap.size + 11))) 2 (some (s0.heap.size + 12))) 3 (some (s0.heap.size + 13)))))))) H := hN.at f8
  replace f9 : va_at D gcl (s0.heap.size + 10, .inr (3, [])) H := hN.at f9
  replace f10 : va_at D gcl (s0.heap.size + 11, .inr (4, [])) H := hN.at f10
  replace f11 : va_at D gcl (s0.heap.size + 12, .inr (5, [])) H := hN.at f11
  replace f12 : va_at D gcl (s0.heap.size + 13, .inr (6, [.ref (s0.heap.size + 14), .ref (s0.heap.size + 15)])) H := hN.at f12
  replace f13 : va_at D gcl (s0.heap.size + 14, .inl (DA 0, 13, .inr (.inl (fun _ => 0)))) H := hN.at f13
  replace f14 : va_at D gcl (s0.heap.size + 15, .inl (DA 1, 12, .inl (fun _ => 0))) H := hN.at f14
  replace f15 : va_at D gcl (s0.heap.size + 16, .inr (7, [.ref (s0.heap.size + 17)])) H := hN.at f15
  replace f16 : va_at D gcl (s0.heap.size + 17, .inr (1, [.int 0, .ref z0, .int (nI 0)])) H := hN.at f16
  replace hsz : H.size = s0.heap.size + 19 := by rw [hN.1, hsz]
  replace hold := hold_N hN hold hle
  replace hle := hle_N hN hle
  clear hN
  replace f17 : va_at D gcl (s0.heap.size + 18, .inl (DA 4, 12, .inr (.inr (.inr (.inr (fun _ => none)))))) H := f17
  refine gx_putF (D := D) (cl := gcl) (ci := 0) (v := .ref (s0.heap.size + 18)) (ty := (.array (.object "NettedPlans$Turn"))) (C := RX1) (T := TX1) (N := 10) hx hb hts in_X1 tyX1 tyX1_ok nmX1 hown hK f rfl 7 (by decide) (hts _ q279) (fun _ h9 => h9) rfl hin rfl (by decide +kernel) (rfl) rfl (Nat.le_of_ble_eq_true rfl) hL (by (try simp only [aI, aA, aT, aB, aL, mad]); omega) dX1_init_122 (fun H locs hU hA hL => ?_)
  have f : va_at D gcl (s0.heap.size, .inr (0, [.ref (s0.heap.size + 1), .ref (s0.heap.size + 2), .ref (s0.heap.size + 3), .ref (s0.heap.size + 5), .ref (s0.heap.size + 7), .ref (s0.heap.size + 9), .ref (s0.heap.size + 16), .ref (s0.heap.size + 18), .int 0, .null])) H := hA
  replace f0 : va_at D gcl (s0.heap.size + 1, .inl (DA 3, 12, .inr (.inr (.inr (.inr (fun _ => none)))))) H := hU.at (by omega) f0
  replace f1 : va_at D gcl (s0.heap.size + 2, .inr (1, [.int 0, .ref z0, .int (nI 0)])) H := hU.at (by omega) f1
  replace f2 : va_at D gcl (s0.heap.size + 3, .inr (2, [.ref (s0.heap.size + 4)])) H := hU.at (by omega) f2
  replace f3 : va_at D gcl (s0.heap.size + 4, .inr (1, [.int 0, .ref z0, .int (nI 0)])) H := hU.at (by omega) f3
  replace f4 : va_at D gcl (s0.heap.size + 5, .inr (2, [.ref (s0.heap.size + 6)])) H := hU.at (by omega) f4
  replace f5 : va_at D gcl (s0.heap.size + 6, .inr (1, [.int 0, .ref z0, .int (nI 0)])) H := hU.at (by omega) f5
  replace f6 : va_at D gcl (s0.heap.size + 7, .inr (2, [.ref (s0.heap.size + 8)])) H := hU.at (by omega) f6
  replace f7 : va_at D gcl (s0.heap.size + 8, .inr (1, [.int 0, .ref z0, .int (nI 0)])) H := hU.at (by omega) f7
  replace f8 : va_at D gcl (s0.heap.size + 9, .inl (DA 5, 4, .inr (.inr (.inr (.inr (va_up (va_up (va_up (va_up (fun _ => none) 0 (some (s0.heap.size + 10))) 1 (some (s0.heap.size + 11))) 2 (some (s0.heap.size + 12))) 3 (some (s0.heap.size + 13)))))))) H := hU.at (by omega) f8
  replace f9 : va_at D gcl (s0.heap.size + 10, .inr (3, [])) H := hU.at (by omega) f9
  replace f10 : va_at D gcl (s0.heap.size + 11, .inr (4, [])) H := hU.at (by omega) f10
  replace f11 : va_at D gcl (s0.heap.size + 12, .inr (5, [])) H := hU.at (by omega) f11
  replace f12 : va_at D gcl (s0.heap.size + 13, .inr (6, [.ref (s0.heap.size + 14), .ref (s0.heap.size + 15)])) H := hU.at (by omega) f12
  replace f13 : va_at D gcl (s0.heap.size + 14, .inl (DA 0, 13, .inr (.inl (fun _ => 0)))) H := hU.at (by omega) f13
  replace f14 : va_at D gcl (s0.heap.size + 15, .inl (DA 1, 12, .inl (fun _ => 0))) H := hU.at (by omega) f14
  replace f15 : va_at D gcl (s0.heap.size + 16, .inr (7, [.ref (s0.heap.size + 17)])) H := hU.at (by omega) f15
  replace f16 : va_at D gcl (s0.heap.size + 17, .inr (1, [.int 0, .ref z0, .int (nI 0)])) H := hU.at (by omega) f16
  replace f17 : va_at D gcl (s0.heap.size + 18, .inl (DA 4, 12, .inr (.inr (.inr (.inr (fun _ => none)))))) H := hU.at (by omega) f17
  replace hsz : H.size = s0.heap.size + 19 := by rw [hU.1, hsz]
  replace hold := hold_U hU hold (by omega)
  replace hle := hle_U hU hle
  clear hU
  refine lv_aload_n hx hb dX1_init_125 rfl (lv_at hl 0 rfl) ?_
  refine lv_iconst (v := 1) hx hb dX1_init_126 (by decide) ?_
  refine gx_put (D := D) (cl := gcl) (ci := 0) (v := .int 1) (ty := .boolean) (C := RX1) (T := TX1) (N := 10) hx hb hts in_X1 tyX1 tyX1_ok nmX1 hown hK f rfl 8 (by decide) (hts _ q280) (fun _ h9 => h9) rfl (by decide +kernel) (rfl) rfl (Nat.le_of_ble_eq_true rfl) hL (by (try simp only [aI, aA, aT, aB, aL, mad]); omega) dX1_init_127 (fun H locs hU hA hL => ?_)
  have f : va_at D gcl (s0.heap.size, .inr (0, [.ref (s0.heap.size + 1), .ref (s0.heap.size + 2), .ref (s0.heap.size + 3), .ref (s0.heap.size + 5), .ref (s0.heap.size + 7), .ref (s0.heap.size + 9), .ref (s0.heap.size + 16), .ref (s0.heap.size + 18), .int 1, .null])) H := hA
  replace f0 : va_at D gcl (s0.heap.size + 1, .inl (DA 3, 12, .inr (.inr (.inr (.inr (fun _ => none)))))) H := hU.at (by omega) f0
  replace f1 : va_at D gcl (s0.heap.size + 2, .inr (1, [.int 0, .ref z0, .int (nI 0)])) H := hU.at (by omega) f1
  replace f2 : va_at D gcl (s0.heap.size + 3, .inr (2, [.ref (s0.heap.size + 4)])) H := hU.at (by omega) f2
  replace f3 : va_at D gcl (s0.heap.size + 4, .inr (1, [.int 0, .ref z0, .int (nI 0)])) H := hU.at (by omega) f3
  replace f4 : va_at D gcl (s0.heap.size + 5, .inr (2, [.ref (s0.heap.size + 6)])) H := hU.at (by omega) f4
  replace f5 : va_at D gcl (s0.heap.size + 6, .inr (1, [.int 0, .ref z0, .int (nI 0)])) H := hU.at (by omega) f5
  replace f6 : va_at D gcl (s0.heap.size + 7, .inr (2, [.ref (s0.heap.size + 8)])) H := hU.at (by omega) f6
  replace f7 : va_at D gcl (s0.heap.size + 8, .inr (1, [.int 0, .ref z0, .int (nI 0)])) H := hU.at (by omega) f7
  replace f8 : va_at D gcl (s0.heap.size + 9, .inl (DA 5, 4, .inr (.inr (.inr (.inr (va_up (va_up (va_up (va_up (fun _ => none) 0 (some (s0.heap.size + 10))) 1 (some (s0.heap.size + 11))) 2 (some (s0.heap.size + 12))) 3 (some (s0.heap.size + 13)))))))) H := hU.at (by omega) f8
  replace f9 : va_at D gcl (s0.heap.size + 10, .inr (3, [])) H := hU.at (by omega) f9
  replace f10 : va_at D gcl (s0.heap.size + 11, .inr (4, [])) H := hU.at (by omega) f10
  replace f11 : va_at D gcl (s0.heap.size + 12, .inr (5, [])) H := hU.at (by omega) f11
  replace f12 : va_at D gcl (s0.heap.size + 13, .inr (6, [.ref (s0.heap.size + 14), .ref (s0.heap.size + 15)])) H := hU.at (by omega) f12
  replace f13 : va_at D gcl (s0.heap.size + 14, .inl (DA 0, 13, .inr (.inl (fun _ => 0)))) H := hU.at (by omega) f13
  replace f14 : va_at D gcl (s0.heap.size + 15, .inl (DA 1, 12, .inl (fun _ => 0))) H := hU.at (by omega) f14
  replace f15 : va_at D gcl (s0.heap.size + 16, .inr (7, [.ref (s0.heap.size + 17)])) H := hU.at (by omega) f15
  replace f16 : va_at D gcl (s0.heap.size + 17, .inr (1, [.int 0, .ref z0, .int (nI 0)])) H := hU.at (by omega) f16
  replace f17 : va_at D gcl (s0.heap.size + 18, .inl (DA 4, 12, .inr (.inr (.inr (.inr (fun _ => none)))))) H := hU.at (by omega) f17
  replace hsz : H.size = s0.heap.size + 19 := by rw [hU.1, hsz]
  replace hold := hold_U hU hold (by omega)
  replace hle := hle_U hU hle
  clear hU
  refine lv_aload_n hx hb dX1_init_130 rfl (lv_at hl 0 rfl) ?_
  refine lv_bipush (v := 12) hx hb dX1_init_131 (by decide) ?_
  refine gx_newaV (atype := .int) (ty := .int) (a0 := (12, .inl (fun _ => 0))) hx hb (hts _ q165) rfl hK 1 rfl (fun C h => by cases h) (fun cA => rfl) (by decide) (N' := 12) (by decide) (by decide) (Nat.le_of_ble_eq_true rfl) (Nat.le_of_ble_eq_true rfl) dX1_init_133 (v := s0.heap.size + 19) hsz (fun H hN f18 => ?_)
  replace f : va_at D gcl (s0.heap.size, .inr (0, [.ref (s0.heap.size + 1), .ref (s0.heap.size + 2), .ref (s0.heap.size + 3), .ref (s0.heap.size + 5), .ref (s0.heap.size + 7), .ref (s0.heap.size + 9), .ref (s0.heap.size + 16), .ref (s0.heap.size + 18), .int 1, .null])) H := hN.at f
  replace f0 : va_at D gcl (s0.heap.size + 1, .inl (DA 3, 12, .inr (.inr (.inr (.inr (fun _ => none)))))) H := hN.at f0
  replace f1 : va_at D gcl (s0.heap.size + 2, .inr (1, [.int 0, .ref z0, .int (nI 0)])) H := hN.at f1
  replace f2 : va_at D gcl (s0.heap.size + 3, .inr (2, [.ref (s0.heap.size + 4)])) H := hN.at f2
  replace f3 : va_at D gcl (s0.heap.size + 4, .inr (1, [.int 0, .ref z0, .int (nI 0)])) H := hN.at f3
  replace f4 : va_at D gcl (s0.heap.size + 5, .inr (2, [.ref (s0.heap.size + 6)])) H := hN.at f4
  replace f5 : va_at D gcl (s0.heap.size + 6, .inr (1, [.int 0, .ref z0, .int (nI 0)])) H := hN.at f5
  replace f6 : va_at D gcl (s0.heap.size + 7, .inr (2, [.ref (s0.heap.size + 8)])) H := hN.at f6
  replace f7 : va_at D gcl (s0.heap.size + 8, .inr (1, [.int 0, .ref z0, .int (nI 0)])) H := hN.at f7
  replace f8 : va_at D gcl (s0.heap.size + 9, .inl (DA 5, 4, .inr (.inr (.inr (.inr (va_up (va_up (va_up (va_up (fun _ => none) 0 (some (s0.heap.size + 10))) 1 (some (s0.heap.size + 11))) 2 (some (s0.heap.size + 12))) 3 (some (s0.heap.size + 13)))))))) H := hN.at f8
  replace f9 : va_at D gcl (s0.heap.size + 10, .inr (3, [])) H := hN.at f9
  replace f10 : va_at D gcl (s0.heap.size + 11, .inr (4, [])) H := hN.at f10
  replace f11 : va_at D gcl (s0.heap.size + 12, .inr (5, [])) H := hN.at f11
  replace f12 : va_at D gcl (s0.heap.size + 13, .inr (6, [.ref (s0.heap.size + 14), .ref (s0.heap.size + 15)])) H := hN.at f12
  replace f13 : va_at D gcl (s0.heap.size + 14, .inl (DA 0, 13, .inr (.inl (fun _ => 0)))) H := hN.at f13
  replace f14 : va_at D gcl (s0.heap.size + 15, .inl (DA 1, 12, .inl (fun _ => 0))) H := hN.at f14
  replace f15 : va_at D gcl (s0.heap.size + 16, .inr (7, [.ref (s0.heap.size + 17)])) H := hN.at f15
  replace f16 : va_at D gcl (s0.heap.size + 17, .inr (1, [.int 0, .ref z0, .int (nI 0)])) H := hN.at f16
  replace f17 : va_at D gcl (s0.heap.size + 18, .inl (DA 4, 12, .inr (.inr (.inr (.inr (fun _ => none)))))) H := hN.at f17
  replace hsz : H.size = s0.heap.size + 20 := by rw [hN.1, hsz]
  replace hold := hold_N hN hold hle
  replace hle := hle_N hN hle
  clear hN
  replace f18 : va_at D gcl (s0.heap.size + 19, .inl (DA 1, 12, .inl (fun _ => 0))) H := f18
  refine gx_putF (D := D) (cl := gcl) (ci := 0) (v := .ref (s0.heap.size + 19)) (ty := (.array .int)) (C := RX1) (T := TX1) (N := 10) hx hb hts in_X1 tyX1 tyX1_ok nmX1 hown hK f rfl 9 (by decide) (hts _ q281) (fun _ h9 => h9) rfl hin rfl (by decide +kernel) (rfl) rfl (Nat.le_of_ble_eq_true rfl) hL (by (try simp only [aI, aA, aT, aB, aL, mad]); omega) dX1_init_135 (fun H locs hU hA hL => ?_)
  have f : va_at D gcl (s0.heap.size, .inr (0, [.ref (s0.heap.size + 1), .ref (s0.heap.size + 2), .ref (s0.heap.size + 3), .ref (s0.heap.size + 5), .ref (s0.heap.size + 7), .ref (s0.heap.size + 9), .ref (s0.heap.size + 16), .ref (s0.heap.size + 18), .int 1, .ref (s0.heap.size + 19)])) H := hA
  replace f0 : va_at D gcl (s0.heap.size + 1, .inl (DA 3, 12, .inr (.inr (.inr (.inr (fun _ => none)))))) H := hU.at (by omega) f0
  replace f1 : va_at D gcl (s0.heap.size + 2, .inr (1, [.int 0, .ref z0, .int (nI 0)])) H := hU.at (by omega) f1
  replace f2 : va_at D gcl (s0.heap.size + 3, .inr (2, [.ref (s0.heap.size + 4)])) H := hU.at (by omega) f2
  replace f3 : va_at D gcl (s0.heap.size + 4, .inr (1, [.int 0, .ref z0, .int (nI 0)])) H := hU.at (by omega) f3
  replace f4 : va_at D gcl (s0.heap.size + 5, .inr (2, [.ref (s0.heap.size + 6)])) H := hU.at (by omega) f4
  replace f5 : va_at D gcl (s0.heap.size + 6, .inr (1, [.int 0, .ref z0, .int (nI 0)])) H := hU.at (by omega) f5
  replace f6 : va_at D gcl (s0.heap.size + 7, .inr (2, [.ref (s0.heap.size + 8)])) H := hU.at (by omega) f6
  replace f7 : va_at D gcl (s0.heap.size + 8, .inr (1, [.int 0, .ref z0, .int (nI 0)])) H := hU.at (by omega) f7
  replace f8 : va_at D gcl (s0.heap.size + 9, .inl (DA 5, 4, .inr (.inr (.inr (.inr (va_up (va_up (va_up (va_up (fun _ => none) 0 (some (s0.heap.size + 10))) 1 (some (s0.heap.size + 11))) 2 (some (s0.heap.size + 12))) 3 (some (s0.heap.size + 13)))))))) H := hU.at (by omega) f8
  replace f9 : va_at D gcl (s0.heap.size + 10, .inr (3, [])) H := hU.at (by omega) f9
  replace f10 : va_at D gcl (s0.heap.size + 11, .inr (4, [])) H := hU.at (by omega) f10
  replace f11 : va_at D gcl (s0.heap.size + 12, .inr (5, [])) H := hU.at (by omega) f11
  replace f12 : va_at D gcl (s0.heap.size + 13, .inr (6, [.ref (s0.heap.size + 14), .ref (s0.heap.size + 15)])) H := hU.at (by omega) f12
  replace f13 : va_at D gcl (s0.heap.size + 14, .inl (DA 0, 13, .inr (.inl (fun _ => 0)))) H := hU.at (by omega) f13
  replace f14 : va_at D gcl (s0.heap.size + 15, .inl (DA 1, 12, .inl (fun _ => 0))) H := hU.at (by omega) f14
  replace f15 : va_at D gcl (s0.heap.size + 16, .inr (7, [.ref (s0.heap.size + 17)])) H := hU.at (by omega) f15
  replace f16 : va_at D gcl (s0.heap.size + 17, .inr (1, [.int 0, .ref z0, .int (nI 0)])) H := hU.at (by omega) f16
  replace f17 : va_at D gcl (s0.heap.size + 18, .inl (DA 4, 12, .inr (.inr (.inr (.inr (fun _ => none)))))) H := hU.at (by omega) f17
  replace f18 : va_at D gcl (s0.heap.size + 19, .inl (DA 1, 12, .inl (fun _ => 0))) H := hU.at (by omega) f18
  replace hsz : H.size = s0.heap.size + 20 := by rw [hU.1, hsz]
  replace hold := hold_U hU hold (by omega)
  replace hle := hle_U hU hle
  clear hU
  refine lv_iconst (v := 0) hx hb dX1_init_138 (by decide) ?_
  refine gx_ti (nI 0) (by decide) ?_
  refine lv_istore_n (lv' := [(1, .int (nI 0)), (0, .ref s0.heap.size)]) hx hb dX1_init_139 rfl hl (by decide) rfl (fun ls hl => ?_)
  obtain ⟨Hs, hHs⟩ : ∃ Hs, Hs = H := ⟨_, rfl⟩
  subst hHs
  have hN0 : NPl s0.heap.size D DA Hs 0 Hs := ⟨fun _ _ _ _ => rfl, hsz, by simpa using f0, by simpa using f17, fun k hk => absurd hk (by omega), fun j k hj hk => absurd hk (by omega), fun k hk => absurd hk (by omega)⟩
  have key : ∀ (n : Nat) (v : Nat) (H : Heap) (locs : List Loc) (ls : Array Slot), v ≤ 12 → 12 < v + n → lv_has ls 2 [(1, .int (nI v)), (0, .ref s0.heap.size)] → gx_L s0.heap.size locs → NPl s0.heap.size D DA Hs v H → W p l e (headSpec (ws_ yX1_init cX1_init 2 none) ({ frames := 5, cells := 103, slots := 1058, locals := 92 })).room s m ([.ref s0.heap.size] : List Value).toArray below meth c H locs (19 + 7 * v) (86 + 81 * v) (MQ below (cQ0 (fun H1 => NPd s0.heap.size s0.heap D DA z0 H1)) ([.ref s0.heap.size] : List Value).toArray s 103 1058 (cF s0)) (F0 m 140 ls []) := by
    intro n
    induction n with
    | zero =>
      intro v H locs ls hv hn hl hL hR
      omega
    | succ n ih =>
      intro v H locs ls hv hn hl hL hR
      have hsz1 : H.size = s0.heap.size + 20 + 7 * v := hR.2.1
      have g0 : va_at D gcl (s0.heap.size, .inr (0, [.ref (s0.heap.size + 1), .ref (s0.heap.size + 2), .ref (s0.heap.size + 3), .ref (s0.heap.size + 5), .ref (s0.heap.size + 7), .ref (s0.heap.size + 9), .ref (s0.heap.size + 16), .ref (s0.heap.size + 18), .int 1, .ref (s0.heap.size + 19)])) H := f.kept (hR.1 _ (by omega) (by omega) (by omega))
      have hold1 : ∀ q, q < s0.heap.size → H[q]? = s0.heap[q]? := fun q hq => (hR.1 q (by omega) (by omega) (by omega)).trans (hold q hq)
      refine lv_iload_n hx hb dX1_init_140 rfl (lv_at hl 0 rfl) ?_
      refine lv_bipush (v := 12) hx hb dX1_init_141 (by decide) ?_
      refine lv_icmp_ge (tgt := 185) hx hb dX1_init_143 (by decide) (fun c143 => ?_) (fun c143 => ?_)
      · have hkc : v = 12 := by have := n_ge (b := 12) c143 (by omega) (by omega); omega
        subst hkc
        have hkp : ∀ (q : Nat) (x : va_E), va_at D gcl (q, x) Hs → q < s0.heap.size + 20 → q ≠ s0.heap.size + 1 → q ≠ s0.heap.size + 18 → va_at D gcl (q, x) H := fun q x h1 h2 h3 h4 => h1.kept (hR.1 q h2 h3 h4)
        have eL0 : aL s0.heap.size 0 = s0.heap.size + 2 := by unfold aL; omega
        have eL1 : aL s0.heap.size 1 = s0.heap.size + 4 := by unfold aL; omega
        have eL2 : aL s0.heap.size 2 = s0.heap.size + 6 := by unfold aL; omega
        have eL3 : aL s0.heap.size 3 = s0.heap.size + 8 := by unfold aL; omega
        have eL4 : aL s0.heap.size 4 = s0.heap.size + 17 := by unfold aL; omega
        have eB1 : aB s0.heap.size 1 = s0.heap.size + 3 := by unfold aB; omega
        have eB2 : aB s0.heap.size 2 = s0.heap.size + 5 := by unfold aB; omega
        have eB3 : aB s0.heap.size 3 = s0.heap.size + 7 := by unfold aB; omega
        have hbk : ∀ j, 1 ≤ j → j ≤ 3 → va_at D gcl (aB s0.heap.size j, .inr (2, [.ref (aL s0.heap.size j)])) H := by
          intro j j1 j3
          rcases (show j = 1 ∨ j = 2 ∨ j = 3 by omega) with e | e | e
          · subst e; rw [eB1, eL1]; exact hkp _ _ f2 (by omega) (by omega) (by omega)
          · subst e; rw [eB2, eL2]; exact hkp _ _ f4 (by omega) (by omega) (by omega)
          · subst e; rw [eB3, eL3]; exact hkp _ _ f6 (by omega) (by omega) (by omega)
        have hls : ∀ j, j < 5 → va_at D gcl (aL s0.heap.size j, oL 0 z0 0) H := by
          intro j hj
          rcases (show j = 0 ∨ j = 1 ∨ j = 2 ∨ j = 3 ∨ j = 4 by omega) with e | e | e | e | e
          · subst e; rw [eL0]; exact hkp _ _ f1 (by omega) (by omega) (by omega)
          · subst e; rw [eL1]; exact hkp _ _ f3 (by omega) (by omega) (by omega)
          · subst e; rw [eL2]; exact hkp _ _ f5 (by omega) (by omega) (by omega)
          · subst e; rw [eL3]; exact hkp _ _ f7 (by omega) (by omega) (by omega)
          · subst e; rw [eL4]; exact hkp _ _ f16 (by omega) (by omega) (by omega)
        have hrl := hkp _ _ f8 (by omega) (by omega) (by omega)
        rw [rul4] at hrl
        have hnp : va_at D gcl (s0.heap.size, .inr (0, npF s0.heap.size C0)) H := by unfold npF; rw [eL0, eB1, eB2, eB3]; exact g0
        have hwa : va_at D gcl (s0.heap.size + 16, .inr (7, [.ref (aL s0.heap.size 4)])) H := by rw [eL4]; exact hkp _ _ f15 (by omega) (by omega) (by omega)
        exact W.vret hx hb hr (fun t ht hW => ⟨rfl, by rw [ht]; exact ⟨hold1, hR.2.1, hnp, hR.2.2.1, hR.2.2.2.1, hrl, hkp _ _ f9 (by omega) (by omega) (by omega), hkp _ _ f10 (by omega) (by omega) (by omega), hkp _ _ f11 (by omega) (by omega) (by omega), hkp _ _ f12 (by omega) (by omega) (by omega), hkp _ _ f13 (by omega) (by omega) (by omega), hkp _ _ f14 (by omega) (by omega) (by omega), hwa, hkp _ _ f18 (by omega) (by omega) (by omega), hbk, hls, hR.2.2.2.2.1, hR.2.2.2.2.2.1, hR.2.2.2.2.2.2⟩⟩) hL dX1_init_185
      · have hkc : v < 12 := n_lt (b := 12) c143 (by omega) (by omega)
        refine lv_aload_n hx hb dX1_init_146 rfl (lv_at hl 1 rfl) ?_
        refine gx_get (D := D) (cl := gcl) (ci := 0) (v := .ref (s0.heap.size + 1)) (C := RX1) (T := TX1) (N := 10) hx hb hts in_X1 hown hK g0 rfl 0 (by decide) (hts _ q272) (fun _ h9 => h9) rfl dX1_init_147 ?_
        refine lv_iload_n hx hb dX1_init_150 rfl (lv_at hl 0 rfl) ?_
        refine gx_newW (ci := 8) (C := RX9) (T := TX9) (N := 19) (fs := [.int 0, .int 0, .int 0, .int 0, .int 0, .int 0, .int 0, .int 0, .int 0, .int 0, .int 0, .int 0, .int 0, .int 0, .null, .null, .null, .null, .null]) hx hb hts in_X9 tyX9 tyX9_ok hown (hts _ q84) (hts _ q180) (hts _ q58) hK rfl (by decide) (by show 19 + 7 * v + 1 ≤ 103; omega) (by show 86 + 81 * v + 19 ≤ 1058; omega) dX1_init_151 (v := (aI s0.heap.size v)) hsz1 (fun H1 hN1 gi => ?_)
        refine lv_dup hx hb dX1_init_154 rfl ?_
        refine lv_iload_n hx hb dX1_init_155 rfl (lv_at hl 0 rfl) ?_
        refine cc_0 (va_runI (b := (aI s0.heap.size v)) (As := [.int (nI v)]) (rest := [.ref (aI s0.heap.size v), .int (nI v), .ref (s0.heap.size + 1)]) ⟨hx, hb, hml, hown, hts⟩ (ct_X9_init hE (a := (aI s0.heap.size v)) (b := (s0.heap.size + 21 + 7 * v)) (by simp only [aI]; omega) (by simp only [aI]; omega) (by rw [hN1.1, hsz1]; omega) (fun q hq => (hN1.2 q (by omega)).trans (hold1 q hq)) (nI v) gi) (cwI 1 hts (lw_meth q183) rfl rfl rfl (hts _ q58) (hts _ q181) (hts _ q182) rfl (by decide +kernel) ⟨Nat.le_of_ble_eq_true rfl, Nat.le_of_ble_eq_true rfl⟩) (cc_pS hW0) rfl rfl hl.1 rfl (lv_room (Nat.le_of_ble_eq_true rfl)) dX1_init_156 ⟨by show (19 + 7 * v) + 1 + 5 ≤ 103; omega, by show (86 + 81 * v) + 19 + 61 ≤ 1058; omega⟩) hL (fun H locs hP1 hL => ?_)
        obtain ⟨hG2, gi, ga0, ga1, ga2, ga3, ga4⟩ := hP1
        have g0 := hG2.at (hN1.at g0) (by simp only [aI]; omega)
        refine gx_aast hx hb hK 3 (hG2.at (hN1.at hR.2.2.1) (by simp only [aI]; omega)) rfl (gx_anyS hK gi rfl) v rfl hkc (by decide) hL (by omega) dX1_init_159 (fun H3 locs hU3 gx3 hL => ?_)
        have g0 := hU3.at (by omega) g0
        refine lv_aload_n hx hb dX1_init_160 rfl (lv_at hl 1 rfl) ?_
        refine gx_get (D := D) (cl := gcl) (ci := 0) (v := .ref (s0.heap.size + 18)) (C := RX1) (T := TX1) (N := 10) hx hb hts in_X1 hown hK g0 rfl 7 (by decide) (hts _ q279) (fun _ h9 => h9) rfl dX1_init_161 ?_
        refine lv_iload_n hx hb dX1_init_164 rfl (lv_at hl 0 rfl) ?_
        refine gx_newW (ci := 9) (C := RX10) (T := TX10) (N := 1) (fs := [.null]) hx hb hts in_X10 tyX10 tyX10_ok hown (hts _ q178) (hts _ q260) (hts _ q60) hK rfl (by decide) (by show (19 + 7 * v) + 1 + 5 + 1 ≤ 103; omega) (by show (86 + 81 * v) + 19 + 61 + 1 ≤ 1058; omega) dX1_init_165 (v := (aT s0.heap.size v)) (by rw [hU3.1, hG2.1, hN1.1, hsz1]; simp only [aT]; omega) (fun H4 hN4 gt => ?_)
        have g0 := hN4.at g0
        have gx4 := hN4.at gx3
        refine lv_dup hx hb dX1_init_168 rfl ?_
        refine lv_aload_n hx hb dX1_init_169 rfl (lv_at hl 1 rfl) ?_
        refine gx_get (D := D) (cl := gcl) (ci := 0) (v := .ref (s0.heap.size + 1)) (C := RX1) (T := TX1) (N := 10) hx hb hts in_X1 hown hK g0 rfl 0 (by decide) (hts _ q272) (fun _ h9 => h9) rfl dX1_init_170 ?_
        refine lv_iload_n hx hb dX1_init_173 rfl (lv_at hl 0 rfl) ?_
        refine gx_aald (x := (aI s0.heap.size v)) hx hb hK 3 gx4 rfl v (rfl) (hkc) (by decide) (va_up_self _ _ _) dX1_init_174 ?_
        refine cc_0 (va_runIN (b := (aT s0.heap.size v)) (As := [.ref (aI s0.heap.size v)]) (rest := [.ref (aT s0.heap.size v), .int (nI v), .ref (s0.heap.size + 18)]) ⟨hx, hb, hml, hown, hts⟩ (ct_X10_init hE (it := (aI s0.heap.size v)) gt (by simp only [aT]; omega)) (⟨va_cnB 1 hts (lw_meth q263) rfl rfl rfl (hE.nM hW0 q261) (hts _ q60) (by decide +kernel) ⟨Nat.le_of_ble_eq_true rfl, Nat.le_of_ble_eq_true rfl⟩, rfl, hts _ q262⟩) (cc_pS hW0) rfl rfl hl.1 rfl (lv_room (Nat.le_of_ble_eq_true rfl)) dX1_init_175 ⟨by show (19 + 7 * v) + 1 + 5 + 1 + 0 ≤ 103; omega, by show (86 + 81 * v) + 19 + 61 + 1 + 0 ≤ 1058; omega⟩) hL (fun H locs hP1 hL => ?_)
        obtain ⟨hU5, gt⟩ := hP1
        refine gx_aast hx hb hK 4 (hU5.at (by simp only [aT]; omega) (hN4.at (hU3.at (by omega) (hG2.at (hN1.at hR.2.2.2.1) (by simp only [aI]; omega))))) rfl (gx_anyS hK gt rfl) v rfl hkc (by decide) hL (by omega) dX1_init_178 (fun H6 locs hU6 gt6 hL => ?_)
        refine lv_iinc (v := nI (v + 1)) (lv' := [(1, .int (nI (v + 1))), (0, .ref s0.heap.size)]) hx hb dX1_init_179 hl (k := 0) rfl (nI_1 v) (by decide) rfl (fun ls hl => ?_)
        refine lv_goto (tgt := 140) hx hb dX1_init_182 (by decide) ?_
        refine W.widen (k := 19 + 7 * (v + 1)) (n := 86 + 81 * (v + 1)) (by omega) (by omega) ?_
        exact ih (v + 1) _ _ _ (by omega) (by omega) (lv_sub hl [0, 1] rfl) hL (NPl_s hR hN1 hG2 gi (fun j hj => by rcases (show j = 0 ∨ j = 1 ∨ j = 2 ∨ j = 3 ∨ j = 4 by omega) with e | e | e | e | e <;> subst e <;> first | exact ga0 | exact ga1 | exact ga2 | exact ga3 | exact ga4) hU3 gx3 hN4 hU5 gt hU6 gt6)
  exact key 13 0 _ _ _ (by omega) (by omega) (lv_sub hl [0, 1] rfl) hL hN0
