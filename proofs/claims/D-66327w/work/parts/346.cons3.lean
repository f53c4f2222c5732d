theorem at_cg_i {D : va_G} {cl : List vw_C} {q n : Nat} {cA : ClassId} {f g : Nat → Int32} {H : Heap} (h : ∀ k, k < n → f k = g k) (hA : va_at D cl (q, .inl (cA, n, .inl f)) H) : va_at D cl (q, .inl (cA, n, .inl g)) H := by
  have e : vp_cell cA (n, .inl f) = vp_cell cA (n, .inl g) := by
    rw [vp_cell_i, vp_cell_i]
    unfold arrV
    congr 1
    exact congrArg Array.ofFn (funext fun j => by show Value.int (f j.val) = Value.int (g j.val); rw [h j.val j.isLt])
  have hA : H[q]? = some (vp_cell cA (n, .inl f)) := hA
  show H[q]? = some (vp_cell cA (n, .inl g))
  rw [← e]; exact hA
theorem at_cg_q {D : va_G} {cl : List vw_C} {q n : Nat} {cA : ClassId} {f g : Nat → Option Nat} {H : Heap} (h : ∀ k, k < n → f k = g k) (hA : va_at D cl (q, .inl (cA, n, .inr (.inr (.inr (.inr f))))) H) : va_at D cl (q, .inl (cA, n, .inr (.inr (.inr (.inr g))))) H := by
  have e : vp_cell cA (n, .inr (.inr (.inr (.inr f)))) = vp_cell cA (n, .inr (.inr (.inr (.inr g)))) := by
    rw [vp_cell_q, vp_cell_q]
    unfold arrV
    congr 1
    exact congrArg Array.ofFn (funext fun j => by show va_rf (f j.val) = va_rf (g j.val); rw [h j.val j.isLt])
  have hA : H[q]? = some (vp_cell cA (n, .inr (.inr (.inr (.inr f))))) := hA
  show H[q]? = some (vp_cell cA (n, .inr (.inr (.inr (.inr g)))))
  rw [← e]; exact hA
theorem at_U {D : va_G} {cl : List vw_C} {a b j : Nat} {x : va_E} {H H1 : Heap} (hU : gx_U a H H1) (hab : a < b) (h : va_at D cl (b + j, x) H) : va_at D cl (b + j, x) H1 := hU.at (by omega) h
theorem at_U0 {D : va_G} {cl : List vw_C} {a b : Nat} {x : va_E} {H H1 : Heap} (hU : gx_U a H H1) (hab : a < b) (h : va_at D cl (b, x) H) : va_at D cl (b, x) H1 := hU.at (by omega) h
theorem up_lt1 {v : Nat} : va_up (fun k => if k < v then (1 : Int32) else 0) v 1 = fun k => if k < v + 1 then 1 else 0 := by
  funext k
  by_cases e : k = v
  · subst e; rw [va_up_self, if_pos (by omega)]
  · rw [va_up_ne _ _ e]
    by_cases h : k < v
    · rw [if_pos h, if_pos (by omega)]
    · rw [if_neg h, if_neg (by omega)]
set_option maxHeartbeats 4000000 in
set_option maxRecDepth 100000 in
/-- NettedPlansModel constructor -/
theorem ct_X11_init {l : Launch} {s0 : State} {D : va_G} {DA : Nat → ClassId} {z0 : Nat} {H : Heap} (hE : G0 l s0 D DA z0) {a b : Nat} (ha : s0.heap.size ≤ a) (hab : a < b) (hsz : H.size = b) (hold : ∀ q, q < s0.heap.size → H[q]? = s0.heap[q]?) (f : va_at D gcl (a, .inr (10, [.int 0, .null, .null, .null, .null, .null, .null, .null, .null, .null, .null, .null, .null, .null, .int 0, .null, .null, .null, .null, .int 0, .int 0, .null, .null, .null, .null, .null, .null])) H) : Met l yX11_init (ws_ yX11_init cX11_init 2 none) ({ frames := 1, cells := 23, slots := 1109, locals := 12 }) (cP s0 [.ref a] H) (cQ0 (fun H1 => gG 23 a H H1 ∧ va_at D gcl (a, .inr (10, [.int 0, .ref b, .ref (b + 1), .ref (b + 2), .ref (b + 3), .ref (b + 4), .ref (b + 5), .ref (b + 6), .ref (b + 7), .ref (b + 8), .ref (b + 9), .ref (b + 10), .ref (b + 11), .ref (b + 12), .int 0, .ref (b + 13), .ref (b + 14), .ref (b + 15), .ref (b + 16), .int 0, .int 1, .ref (b + 17), .ref (b + 18), .ref (b + 19), .ref (b + 20), .ref (b + 21), .ref (b + 22)])) H1 ∧ (∀ j, miOk j → va_at D gcl (b + j, .inl (DA 1, msz j, .inl (mI M0 j))) H1) ∧ va_at D gcl (b + 17, .inl (DA 2, 12, .inl (fun _ => 0))) H1 ∧ ∀ j, 18 ≤ j → j ≤ 22 → va_at D gcl (b + j, .inl (DA 0, msz j, .inr (.inl (mL M0 j)))) H1)) 23 1109 (cF s0) := by
  refine Met.ofW (cc := cX11_init) (maxL := 2) (ret := none) (by decide) rfl ?_
  intro p e s m args below meth c s₁ Bd hml hv
  obtain ⟨rfl, rfl, hW0⟩ := hv
  have hx := Bd.exec
  have hb := Bd.bytes
  have hr := Bd.returns
  have hts := atoms_spec (ws := (ws_ yX11_init cX11_init 2 none)) Bd.pre
  have hts : ∀ w ∈ lw_all, w.before _ s = true := fun w h => hts w (List.mem_cons_of_mem _ h)
  have hown : s.vm.findClass RX11 = some m.cls := findClass_of_methodNamed Bd.named
  have hlocks := Bd.notSynchronized
  have hin : meth.name = "<init>" := (name_of_methodNamed Bd.named Bd.method).1
  have hK := va_K.moved hW0.alike hE.K
  have hL : gx_L s0.heap.size ([] : List Loc) := gx_L0
  have hl := lv_entry ([.ref a]) (n := 2) (Nat.le_of_ble_eq_true rfl)
  rw [lg_entry_eq]
  generalize (lg_sl ([.ref a]) ++ List.replicate (2 - (lg_sl ([.ref a])).length) Slot.unset).toArray = ls at hl ⊢
  have hl : lv_has ls 2 [(0, .ref a)] := hl
  have hsz0 := hsz
  have hgg : gG 0 a s.heap s.heap := gG.rf
  have hle : s0.heap.size ≤ s.heap.size := by omega
  refine lv_aload_n hx hb dX11_init_0 rfl (lv_at hl 0 rfl) ?_
  refine W.objInit hx hb hown (hts _ q885) (hts _ q82) (hts _ q83) rfl (by rw [hml]; exact hl.1) rfl dX11_init_1 (Nat.le_of_ble_eq_true rfl) (Nat.le_of_ble_eq_true rfl) ?_
  refine W.eq (g2 := F0 m 4 ls []) rfl ?_
  refine lv_aload_n hx hb dX11_init_4 rfl (lv_at hl 0 rfl) ?_
  refine lv_bipush (v := 12) hx hb dX11_init_5 (by decide) ?_
  refine gx_newaV (atype := .int) (ty := .int) (a0 := (12, .inl (fun _ => 0))) hx hb (hts _ q165) rfl hK 1 rfl (fun C h => by cases h) (fun cA => rfl) (by decide) (N' := 12) (by decide) (by decide) (Nat.le_of_ble_eq_true rfl) (Nat.le_of_ble_eq_true rfl) dX11_init_7 (v := b) hsz (fun H hN f0 => ?_)
  replace f := hN.at f
  replace hsz : H.size = b + 1 := by rw [hN.1, hsz]
  replace hold := hold_N hN hold hle
  replace hle := hle_N hN hle
  replace hgg := hgg.N hN
  clear hN
  replace f0 : va_at D gcl (b, .inl (DA 1, 12, .inl (fun _ => 0))) H := f0
  refine gx_putF (D := D) (cl := gcl) (ci := 10) (v := .ref b) (ty := (.array .int)) (C := RX11) (T := TX11) (N := 27) hx hb hts in_X11 tyX11 tyX11_ok nmX11 hown hK f rfl 1 (by decide) (hts _ q887) (fun _ h9 => h9) rfl hin rfl (by decide +kernel) (rfl) rfl (Nat.le_of_ble_eq_true rfl) hL (by (try simp only [aI, aA, aT, aB, aL, mad]); omega) dX11_init_9 (fun H locs hU hA hL => ?_)
  have f : va_at D gcl (a, .inr (10, [.int 0, .ref b, .null, .null, .null, .null, .null, .null, .null, .null, .null, .null, .null, .null, .int 0, .null, .null, .null, .null, .int 0, .int 0, .null, .null, .null, .null, .null, .null])) H := hA
  replace f0 := at_U0 hU hab f0
  replace hsz : H.size = b + 1 := by rw [hU.1, hsz]
  replace hold := hold_U hU hold ha
  replace hle := hle_U hU hle
  replace hgg := hgg.U hU (Or.inl rfl)
  clear hU
  refine lv_aload_n hx hb dX11_init_12 rfl (lv_at hl 0 rfl) ?_
  refine lv_bipush (v := 12) hx hb dX11_init_13 (by decide) ?_
  refine gx_newaV (atype := .int) (ty := .int) (a0 := (12, .inl (fun _ => 0))) hx hb (hts _ q165) rfl hK 1 rfl (fun C h => by cases h) (fun cA => rfl) (by decide) (N' := 12) (by decide) (by decide) (Nat.le_of_ble_eq_true rfl) (Nat.le_of_ble_eq_true rfl) dX11_init_15 (v := b + 1) hsz (fun H hN f1 => ?_)
  replace f := hN.at f
  replace f0 := hN.at f0
  replace hsz : H.size = b + 2 := by rw [hN.1, hsz]
  replace hold := hold_N hN hold hle
  replace hle := hle_N hN hle
  replace hgg := hgg.N hN
  clear hN
  replace f1 : va_at D gcl (b + 1, .inl (DA 1, 12, .inl (fun _ => 0))) H := f1
  refine gx_putF (D := D) (cl := gcl) (ci := 10) (v := .ref (b + 1)) (ty := (.array .int)) (C := RX11) (T := TX11) (N := 27) hx hb hts in_X11 tyX11 tyX11_ok nmX11 hown hK f rfl 2 (by decide) (hts _ q888) (fun _ h9 => h9) rfl hin rfl (by decide +kernel) (rfl) rfl (Nat.le_of_ble_eq_true rfl) hL (by (try simp only [aI, aA, aT, aB, aL, mad]); omega) dX11_init_17 (fun H locs hU hA hL => ?_)
  have f : va_at D gcl (a, .inr (10, [.int 0, .ref b, .ref (b + 1), .null, .null, .null, .null, .null, .null, .null, .null, .null, .null, .null, .int 0, .null, .null, .null, .null, .int 0, .int 0, .null, .null, .null, .null, .null, .null])) H := hA
  replace f0 := at_U0 hU hab f0
  replace f1 := at_U hU hab f1
  replace hsz : H.size = b + 2 := by rw [hU.1, hsz]
  replace hold := hold_U hU hold ha
  replace hle := hle_U hU hle
  replace hgg := hgg.U hU (Or.inl rfl)
  clear hU
  refine lv_aload_n hx hb dX11_init_20 rfl (lv_at hl 0 rfl) ?_
  refine lv_bipush (v := 12) hx hb dX11_init_21 (by decide) ?_
  refine gx_newaV (atype := .int) (ty := .int) (a0 := (12, .inl (fun _ => 0))) hx hb (hts _ q165) rfl hK 1 rfl (fun C h => by cases h) (fun cA => rfl) (by decide) (N' := 12) (by decide) (by decide) (Nat.le_of_ble_eq_true rfl) (Nat.le_of_ble_eq_true rfl) dX11_init_23 (v := b + 2) hsz (fun H hN f2 => ?_)
  replace f := hN.at f
  replace f0 := hN.at f0
  replace f1 := hN.at f1
  replace hsz : H.size = b + 3 := by rw [hN.1, hsz]
  replace hold := hold_N hN hold hle
  replace hle := hle_N hN hle
  replace hgg := hgg.N hN
  clear hN
  replace f2 : va_at D gcl (b + 2, .inl (DA 1, 12, .inl (fun _ => 0))) H := f2
  refine gx_putF (D := D) (cl := gcl) (ci := 10) (v := .ref (b + 2)) (ty := (.array .int)) (C := RX11) (T := TX11) (N := 27) hx hb hts in_X11 tyX11 tyX11_ok nmX11 hown hK f rfl 3 (by decide) (hts _ q889) (fun _ h9 => h9) rfl hin rfl (by decide +kernel) (rfl) rfl (Nat.le_of_ble_eq_true rfl) hL (by (try simp only [aI, aA, aT, aB, aL, mad]); omega) dX11_init_25 (fun H locs hU hA hL => ?_)
  have f : va_at D gcl (a, .inr (10, [.int 0, .ref b, .ref (b + 1), .ref (b + 2), .null, .null, .null, .null, .null, .null, .null, .null, .null, .null, .int 0, .null, .null, .null, .null, .int 0, .int 0, .null, .null, .null, .null, .null, .null])) H := hA
  replace f0 := at_U0 hU hab f0
  replace f1 := at_U hU hab f1
  replace f2 := at_U hU hab f2
  replace hsz : H.size = b + 3 := by rw [hU.1, hsz]
  replace hold := hold_U hU hold ha
  replace hle := hle_U hU hle
  replace hgg := hgg.U hU (Or.inl rfl)
  clear hU
  refine lv_aload_n hx hb dX11_init_28 rfl (lv_at hl 0 rfl) ?_
  refine lv_bipush (v := 12) hx hb dX11_init_29 (by decide) ?_
  refine gx_newaV (atype := .int) (ty := .int) (a0 := (12, .inl (fun _ => 0))) hx hb (hts _ q165) rfl hK 1 rfl (fun C h => by cases h) (fun cA => rfl) (by decide) (N' := 12) (by decide) (by decide) (Nat.le_of_ble_eq_true rfl) (Nat.le_of_ble_eq_true rfl) dX11_init_31 (v := b + 3) hsz (fun H hN f3 => ?_)
  replace f := hN.at f
  replace f0 := hN.at f0
  replace f1 := hN.at f1
  replace f2 := hN.at f2
  replace hsz : H.size = b + 4 := by rw [hN.1, hsz]
  replace hold := hold_N hN hold hle
  replace hle := hle_N hN hle
  replace hgg := hgg.N hN
  clear hN
  replace f3 : va_at D gcl (b + 3, .inl (DA 1, 12, .inl (fun _ => 0))) H := f3
  refine gx_putF (D := D) (cl := gcl) (ci := 10) (v := .ref (b + 3)) (ty := (.array .int)) (C := RX11) (T := TX11) (N := 27) hx hb hts in_X11 tyX11 tyX11_ok nmX11 hown hK f rfl 4 (by decide) (hts _ q890) (fun _ h9 => h9) rfl hin rfl (by decide +kernel) (rfl) rfl (Nat.le_of_ble_eq_true rfl) hL (by (try simp only [aI, aA, aT, aB, aL, mad]); omega) dX11_init_33 (fun H locs hU hA hL => ?_)
  have f : va_at D gcl (a, .inr (10, [.int 0, .ref b, .ref (b + 1), .ref (b + 2), .ref (b + 3), .null, .null, .null, .null, .null, .null, .null, .null, .null, .int 0, .null, .null, .null, .null, .int 0, .int 0, .null, .null, .null, .null, .null, .null])) H := hA
  replace f0 := at_U0 hU hab f0
  replace f1 := at_U hU hab f1
  replace f2 := at_U hU hab f2
  replace f3 := at_U hU hab f3
  replace hsz : H.size = b + 4 := by rw [hU.1, hsz]
  replace hold := hold_U hU hold ha
  replace hle := hle_U hU hle
  replace hgg := hgg.U hU (Or.inl rfl)
  clear hU
  refine lv_aload_n hx hb dX11_init_36 rfl (lv_at hl 0 rfl) ?_
  refine lv_bipush (v := 12) hx hb dX11_init_37 (by decide) ?_
  refine gx_newaV (atype := .int) (ty := .int) (a0 := (12, .inl (fun _ => 0))) hx hb (hts _ q165) rfl hK 1 rfl (fun C h => by cases h) (fun cA => rfl) (by decide) (N' := 12) (by decide) (by decide) (Nat.le_of_ble_eq_true rfl) (Nat.le_of_ble_eq_true rfl) dX11_init_39 (v := b + 4) hsz (fun H hN f4 => ?_)
  replace f := hN.at f
  replace f0 := hN.at f0
  replace f1 := hN.at f1
  replace f2 := hN.at f2
  replace f3 := hN.at f3
  replace hsz : H.size = b + 5 := by rw [hN.1, hsz]
  replace hold := hold_N hN hold hle
  replace hle := hle_N hN hle
  replace hgg := hgg.N hN
  clear hN
  replace f4 : va_at D gcl (b + 4, .inl (DA 1, 12, .inl (fun _ => 0))) H := f4
  refine gx_putF (D := D) (cl := gcl) (ci := 10) (v := .ref (b + 4)) (ty := (.array .int)) (C := RX11) (T := TX11) (N := 27) hx hb hts in_X11 tyX11 tyX11_ok nmX11 hown hK f rfl 5 (by decide) (hts _ q891) (fun _ h9 => h9) rfl hin rfl (by decide +kernel) (rfl) rfl (Nat.le_of_ble_eq_true rfl) hL (by (try simp only [aI, aA, aT, aB, aL, mad]); omega) dX11_init_41 (fun H locs hU hA hL => ?_)
  have f : va_at D gcl (a, .inr (10, [.int 0, .ref b, .ref (b + 1), .ref (b + 2), .ref (b + 3), .ref (b + 4), .null, .null, .null, .null, .null, .null, .null, .null, .int 0, .null, .null, .null, .null, .int 0, .int 0, .null, .null, .null, .null, .null, .null])) H := hA
  replace f0 := at_U0 hU hab f0
  replace f1 := at_U hU hab f1
  replace f2 := at_U hU hab f2
  replace f3 := at_U hU hab f3
  replace f4 := at_U hU hab f4
  replace hsz : H.size = b + 5 := by rw [hU.1, hsz]
  replace hold := hold_U hU hold ha
  replace hle := hle_U hU hle
  replace hgg := hgg.U hU (Or.inl rfl)
  clear hU
  refine lv_aload_n hx hb dX11_init_44 rfl (lv_at hl 0 rfl) ?_
  refine lv_bipush (v := 12) hx hb dX11_init_45 (by decide) ?_
  refine gx_newaV (atype := .int) (ty := .int) (a0 := (12, .inl (fun _ => 0))) hx hb (hts _ q165) rfl hK 1 rfl (fun C h => by cases h) (fun cA => rfl) (by decide) (N' := 12) (by decide) (by decide) (Nat.le_of_ble_eq_true rfl) (Nat.le_of_ble_eq_true rfl) dX11_init_47 (v := b + 5) hsz (fun H hN f5 => ?_)
  replace f := hN.at f
  replace f0 := hN.at f0
  replace f1 := hN.at f1
  replace f2 := hN.at f2
  replace f3 := hN.at f3
  replace f4 := hN.at f4
  replace hsz : H.size = b + 6 := by rw [hN.1, hsz]
  replace hold := hold_N hN hold hle
  replace hle := hle_N hN hle
  replace hgg := hgg.N hN
  clear hN
  replace f5 : va_at D gcl (b + 5, .inl (DA 1, 12, .inl (fun _ => 0))) H := f5
  refine gx_putF (D := D) (cl := gcl) (ci := 10) (v := .ref (b + 5)) (ty := (.array .int)) (C := RX11) (T := TX11) (N := 27) hx hb hts in_X11 tyX11 tyX11_ok nmX11 hown hK f rfl 6 (by decide) (hts _ q892) (fun _ h9 => h9) rfl hin rfl (by decide +kernel) (rfl) rfl (Nat.le_of_ble_eq_true rfl) hL (by (try simp only [aI, aA, aT, aB, aL, mad]); omega) dX11_init_49 (fun H locs hU hA hL => ?_)
  have f : va_at D gcl (a, .inr (10, [.int 0, .ref b, .ref (b + 1), .ref (b + 2), .ref (b + 3), .ref (b + 4), .ref (b + 5), .null, .null, .null, .null, .null, .null, .null, .int 0, .null, .null, .null, .null, .int 0, .int 0, .null, .null, .null, .null, .null, .null])) H := hA
  replace f0 := at_U0 hU hab f0
  replace f1 := at_U hU hab f1
  replace f2 := at_U hU hab f2
  replace f3 := at_U hU hab f3
  replace f4 := at_U hU hab f4
  replace f5 := at_U hU hab f5
  replace hsz : H.size = b + 6 := by rw [hU.1, hsz]
  replace hold := hold_U hU hold ha
  replace hle := hle_U hU hle
  replace hgg := hgg.U hU (Or.inl rfl)
  clear hU
  refine lv_aload_n hx hb dX11_init_52 rfl (lv_at hl 0 rfl) ?_
  refine lv_bipush (v := 12) hx hb dX11_init_53 (by decide) ?_
  refine gx_newaV (atype := .int) (ty := .int) (a0 := (12, .inl (fun _ => 0))) hx hb (hts _ q165) rfl hK 1 rfl (fun C h => by cases h) (fun cA => rfl) (by decide) (N' := 12) (by decide) (by decide) (Nat.le_of_ble_eq_true rfl) (Nat.le_of_ble_eq_true rfl) dX11_init_55 (v := b + 6) hsz (fun H hN f6 => ?_)
  replace f := hN.at f
  replace f0 := hN.at f0
  replace f1 := hN.at f1
  replace f2 := hN.at f2
  replace f3 := hN.at f3
  replace f4 := hN.at f4
  replace f5 := hN.at f5
  replace hsz : H.size = b + 7 := by rw [hN.1, hsz]
  replace hold := hold_N hN hold hle
  replace hle := hle_N hN hle
  replace hgg := hgg.N hN
  clear hN
  replace f6 : va_at D gcl (b + 6, .inl (DA 1, 12, .inl (fun _ => 0))) H := f6
  refine gx_putF (D := D) (cl := gcl) (ci := 10) (v := .ref (b + 6)) (ty := (.array .int)) (C := RX11) (T := TX11) (N := 27) hx hb hts in_X11 tyX11 tyX11_ok nmX11 hown hK f rfl 7 (by decide) (hts _ q893) (fun _ h9 => h9) rfl hin rfl (by decide +kernel) (rfl) rfl (Nat.le_of_ble_eq_true rfl) hL (by (try simp only [aI, aA, aT, aB, aL, mad]); omega) dX11_init_57 (fun H locs hU hA hL => ?_)
  have f : va_at D gcl (a, .inr (10, [.int 0, .ref b, .ref (b + 1), .ref (b + 2), .ref (b + 3), .ref (b + 4), .ref (b + 5), .ref (b + 6), .null, .null, .null, .null, .null, .null, .int 0, .null, .null, .null, .null, .int 0, .int 0, .null, .null, .null, .null, .null, .null])) H := hA
  replace f0 := at_U0 hU hab f0
  replace f1 := at_U hU hab f1
  replace f2 := at_U hU hab f2
  replace f3 := at_U hU hab f3
  replace f4 := at_U hU hab f4
  replace f5 := at_U hU hab f5
  replace f6 := at_U hU hab f6
  replace hsz : H.size = b + 7 := by rw [hU.1, hsz]
  replace hold := hold_U hU hold ha
  replace hle := hle_U hU hle
  replace hgg := hgg.U hU (Or.inl rfl)
  clear hU
  refine lv_aload_n hx hb dX11_init_60 rfl (lv_at hl 0 rfl) ?_
  refine lv_bipush (v := 12) hx hb dX11_init_61 (by decide) ?_
  refine gx_newaV (atype := .int) (ty := .int) (a0 := (12, .inl (fun _ => 0))) hx hb (hts _ q165) rfl hK 1 rfl (fun C h => by cases h) (fun cA => rfl) (by decide) (N' := 12) (by decide) (by decide) (Nat.le_of_ble_eq_true rfl) (Nat.le_of_ble_eq_true rfl) dX11_init_63 (v := b + 7) hsz (fun H hN f7 => ?_)
  replace f := hN.at f
  replace f0 := hN.at f0
  replace f1 := hN.at f1
  replace f2 := hN.at f2
  replace f3 := hN.at f3
  replace f4 := hN.at f4
  replace f5 := hN.at f5
  replace f6 := hN.at f6
  replace hsz : H.size = b + 8 := by rw [hN.1, hsz]
  replace hold := hold_N hN hold hle
  replace hle := hle_N hN hle
  replace hgg := hgg.N hN
  clear hN
  replace f7 : va_at D gcl (b + 7, .inl (DA 1, 12, .inl (fun _ => 0))) H := f7
  refine gx_putF (D := D) (cl := gcl) (ci := 10) (v := .ref (b + 7)) (ty := (.array .int)) (C := RX11) (T := TX11) (N := 27) hx hb hts in_X11 tyX11 tyX11_ok nmX11 hown hK f rfl 8 (by decide) (hts _ q894) (fun _ h9 => h9) rfl hin rfl (by decide +kernel) (rfl) rfl (Nat.le_of_ble_eq_true rfl) hL (by (try simp only [aI, aA, aT, aB, aL, mad]); omega) dX11_init_65 (fun H locs hU hA hL => ?_)
  have f : va_at D gcl (a, .inr (10, [.int 0, .ref b, .ref (b + 1), .ref (b + 2), .ref (b + 3), .ref (b + 4), .ref (b + 5), .ref (b + 6), .ref (b + 7), .null, .null, .null, .null, .null, .int 0, .null, .null, .null, .null, .int 0, .int 0, .null, .null, .null, .null, .null, .null])) H := hA
  replace f0 := at_U0 hU hab f0
  replace f1 := at_U hU hab f1
  replace f2 := at_U hU hab f2
  replace f3 := at_U hU hab f3
  replace f4 := at_U hU hab f4
  replace f5 := at_U hU hab f5
  replace f6 := at_U hU hab f6
  replace f7 := at_U hU hab f7
  replace hsz : H.size = b + 8 := by rw [hU.1, hsz]
  replace hold := hold_U hU hold ha
  replace hle := hle_U hU hle
  replace hgg := hgg.U hU (Or.inl rfl)
  clear hU
  refine lv_aload_n hx hb dX11_init_68 rfl (lv_at hl 0 rfl) ?_
  refine lv_bipush (v := 12) hx hb dX11_init_69 (by decide) ?_
  refine gx_newaV (atype := .int) (ty := .int) (a0 := (12, .inl (fun _ => 0))) hx hb (hts _ q165) rfl hK 1 rfl (fun C h => by cases h) (fun cA => rfl) (by decide) (N' := 12) (by decide) (by decide) (Nat.le_of_ble_eq_true rfl) (Nat.le_of_ble_eq_true rfl) dX11_init_71 (v := b + 8) hsz (fun H hN f8 => ?_)
  replace f := hN.at f
  replace f0 := hN.at f0
  replace f1 := hN.at f1
  replace f2 := hN.at f2
  replace f3 := hN.at f3
  replace f4 := hN.at f4
  replace f5 := hN.at f5
  replace f6 := hN.at f6
  replace f7 := hN.at f7
  replace hsz : H.size = b + 9 := by rw [hN.1, hsz]
  replace hold := hold_N hN hold hle
  replace hle := hle_N hN hle
  replace hgg := hgg.N hN
  clear hN
  replace f8 : va_at D gcl (b + 8, .inl (DA 1, 12, .inl (fun _ => 0))) H := f8
  refine gx_putF (D := D) (cl := gcl) (ci := 10) (v := .ref (b + 8)) (ty := (.array .int)) (C := RX11) (T := TX11) (N := 27) hx hb hts in_X11 tyX11 tyX11_ok nmX11 hown hK f rfl 9 (by decide) (hts _ q895) (fun _ h9 => h9) rfl hin rfl (by decide +kernel) (rfl) rfl (Nat.le_of_ble_eq_true rfl) hL (by (try simp only [aI, aA, aT, aB, aL, mad]); omega) dX11_init_73 (fun H locs hU hA hL => ?_)
  have f : va_at D gcl (a, .inr (10, [.int 0, .ref b, .ref (b + 1), .ref (b + 2), .ref (b + 3), .ref (b + 4), .ref (b + 5), .ref (b + 6), .ref (b + 7), .ref (b + 8), .null, .null, .null, .null, .int 0, .null, .null, .null, .null, .int 0, .int 0, .null, .null, .null, .null, .null, .null])) H := hA
  replace f0 := at_U0 hU hab f0
  replace f1 := at_U hU hab f1
  replace f2 := at_U hU hab f2
  replace f3 := at_U hU hab f3
  replace f4 := at_U hU hab f4
  replace f5 := at_U hU hab f5
  replace f6 := at_U hU hab f6
  replace f7 := at_U hU hab f7
  replace f8 := at_U hU hab f8
  replace hsz : H.size = b + 9 := by rw [hU.1, hsz]
  replace hold := hold_U hU hold ha
  replace hle := hle_U hU hle
  replace hgg := hgg.U hU (Or.inl rfl)
  clear hU
  refine lv_aload_n hx hb dX11_init_76 rfl (lv_at hl 0 rfl) ?_
  refine lv_bipush (v := 12) hx hb dX11_init_77 (by decide) ?_
  refine gx_newaV (atype := .int) (ty := .int) (a0 := (12, .inl (fun _ => 0))) hx hb (hts _ q165) rfl hK 1 rfl (fun C h => by cases h) (fun cA => rfl) (by decide) (N' := 12) (by decide) (by decide) (Nat.le_of_ble_eq_true rfl) (Nat.le_of_ble_eq_true rfl) dX11_init_79 (v := b + 9) hsz (fun H hN f9 => ?_)
  replace f := hN.at f
  replace f0 := hN.at f0
  replace f1 := hN.at f1
  replace f2 := hN.at f2
  replace f3 := hN.at f3
  replace f4 := hN.at f4
  replace f5 := hN.at f5
  replace f6 := hN.at f6
  replace f7 := hN.at f7
  replace f8 := hN.at f8
  replace hsz : H.size = b + 10 := by rw [hN.1, hsz]
  replace hold := hold_N hN hold hle
  replace hle := hle_N hN hle
  replace hgg := hgg.N hN
  clear hN
  replace f9 : va_at D gcl (b + 9, .inl (DA 1, 12, .inl (fun _ => 0))) H := f9
  refine gx_putF (D := D) (cl := gcl) (ci := 10) (v := .ref (b + 9)) (ty := (.array .int)) (C := RX11) (T := TX11) (N := 27) hx hb hts in_X11 tyX11 tyX11_ok nmX11 hown hK f rfl 10 (by decide) (hts _ q896) (fun _ h9 => h9) rfl hin rfl (by decide +kernel) (rfl) rfl (Nat.le_of_ble_eq_true rfl) hL (by (try simp only [aI, aA, aT, aB, aL, mad]); omega) dX11_init_81 (fun H locs hU hA hL => ?_)
  have f : va_at D gcl (a, .inr (10, [.int 0, .ref b, .ref (b + 1), .ref (b + 2), .ref (b + 3), .ref (b + 4), .ref (b + 5), .ref (b + 6), .ref (b + 7), .ref (b + 8), .ref (b + 9), .null, .null, .null, .int 0, .null, .null, .null, .null, .int 0, .int 0, .null, .null, .null, .null, .null, .null])) H := hA
  replace f0 := at_U0 hU hab f0
  replace f1 := at_U hU hab f1
  replace f2 := at_U hU hab f2
  replace f3 := at_U hU hab f3
  replace f4 := at_U hU hab f4
  replace f5 := at_U hU hab f5
  replace f6 := at_U hU hab f6
  replace f7 := at_U hU hab f7
  replace f8 := at_U hU hab f8
  replace f9 := at_U hU hab f9
  replace hsz : H.size = b + 10 := by rw [hU.1, hsz]
  replace hold := hold_U hU hold ha
  replace hle := hle_U hU hle
  replace hgg := hgg.U hU (Or.inl rfl)
  clear hU
  refine lv_aload_n hx hb dX11_init_84 rfl (lv_at hl 0 rfl) ?_
  refine lv_sipush (v := 144) hx hb dX11_init_85 (by decide) ?_
  refine gx_newaV (atype := .int) (ty := .int) (a0 := (144, .inl (fun _ => 0))) hx hb (hts _ q165) rfl hK 1 rfl (fun C h => by cases h) (fun cA => rfl) (by decide) (N' := 144) (by decide) (by decide) (Nat.le_of_ble_eq_true rfl) (Nat.le_of_ble_eq_true rfl) dX11_init_88 (v := b + 10) hsz (fun H hN f10 => ?_)
  replace f := hN.at f
  replace f0 := hN.at f0
  replace f1 := hN.at f1
  replace f2 := hN.at f2
  replace f3 := hN.at f3
  replace f4 := hN.at f4
  replace f5 := hN.at f5
  replace f6 := hN.at f6
  replace f7 := hN.at f7
  replace f8 := hN.at f8
  replace f9 := hN.at f9
  replace hsz : H.size = b + 11 := by rw [hN.1, hsz]
  replace hold := hold_N hN hold hle
  replace hle := hle_N hN hle
  replace hgg := hgg.N hN
  clear hN
  replace f10 : va_at D gcl (b + 10, .inl (DA 1, 144, .inl (fun _ => 0))) H := f10
  refine gx_putF (D := D) (cl := gcl) (ci := 10) (v := .ref (b + 10)) (ty := (.array .int)) (C := RX11) (T := TX11) (N := 27) hx hb hts in_X11 tyX11 tyX11_ok nmX11 hown hK f rfl 11 (by decide) (hts _ q897) (fun _ h9 => h9) rfl hin rfl (by decide +kernel) (rfl) rfl (Nat.le_of_ble_eq_true rfl) hL (by (try simp only [aI, aA, aT, aB, aL, mad]); omega) dX11_init_90 (fun H locs hU hA hL => ?_)
  have f : va_at D gcl (a, .inr (10, [.int 0, .ref b, .ref (b + 1), .ref (b + 2), .ref (b + 3), .ref (b + 4), .ref (b + 5), .ref (b + 6), .ref (b + 7), .ref (b + 8), .ref (b + 9), .ref (b + 10), .null, .null, .int 0, .null, .null, .null, .null, .int 0, .int 0, .null, .null, .null, .null, .null, .null])) H := hA
  replace f0 := at_U0 hU hab f0
  replace f1 := at_U hU hab f1
  replace f2 := at_U hU hab f2
  replace f3 := at_U hU hab f3
  replace f4 := at_U hU hab f4
  replace f5 := at_U hU hab f5
  replace f6 := at_U hU hab f6
  replace f7 := at_U hU hab f7
  replace f8 := at_U hU hab f8
  replace f9 := at_U hU hab f9
  replace f10 := at_U hU hab f10
  replace hsz : H.size = b + 11 := by rw [hU.1, hsz]
  replace hold := hold_U hU hold ha
  replace hle := hle_U hU hle
  replace hgg := hgg.U hU (Or.inl rfl)
  clear hU
  refine lv_aload_n hx hb dX11_init_93 rfl (lv_at hl 0 rfl) ?_
  refine lv_sipush (v := 144) hx hb dX11_init_94 (by decide) ?_
  refine gx_newaV (atype := .int) (ty := .int) (a0 := (144, .inl (fun _ => 0))) hx hb (hts _ q165) rfl hK 1 rfl (fun C h => by cases h) (fun cA => rfl) (by decide) (N' := 144) (by decide) (by decide) (Nat.le_of_ble_eq_true rfl) (Nat.le_of_ble_eq_true rfl) dX11_init_97 (v := b + 11) hsz (fun H hN f11 => ?_)
  replace f := hN.at f
  replace f0 := hN.at f0
  replace f1 := hN.at f1
  replace f2 := hN.at f2
  replace f3 := hN.at f3
  replace f4 := hN.at f4
  replace f5 := hN.at f5
  replace f6 := hN.at f6
  replace f7 := hN.at f7
  replace f8 := hN.at f8
  replace f9 := hN.at f9
  replace f10 := hN.at f10
  replace hsz : H.size = b + 12 := by rw [hN.1, hsz]
  replace hold := hold_N hN hold hle
  replace hle := hle_N hN hle
  replace hgg := hgg.N hN
  clear hN
  replace f11 : va_at D gcl (b + 11, .inl (DA 1, 144, .inl (fun _ => 0))) H := f11
  refine gx_putF (D := D) (cl := gcl) (ci := 10) (v := .ref (b + 11)) (ty := (.array .int)) (C := RX11) (T := TX11) (N := 27) hx hb hts in_X11 tyX11 tyX11_ok nmX11 hown hK f rfl 12 (by decide) (hts _ q898) (fun _ h9 => h9) rfl hin rfl (by decide +kernel) (rfl) rfl (Nat.le_of_ble_eq_true rfl) hL (by (try simp only [aI, aA, aT, aB, aL, mad]); omega) dX11_init_99 (fun H locs hU hA hL => ?_)
  have f : va_at D gcl (a, .inr (10, [.int 0, .ref b, .ref (b + 1), .ref (b + 2), .ref (b + 3), .ref (b + 4), .ref (b + 5), .ref (b + 6), .ref (b + 7), .ref (b + 8), .ref (b + 9), .ref (b + 10), .ref (b + 11), .null, .int 0, .null, .null, .null, .null, .int 0, .int 0, .null, .null, .null, .null, .null, .null])) H := hA
  replace f0 := at_U0 hU hab f0
  replace f1 := at_U hU hab f1
  replace f2 := at_U hU hab f2
  replace f3 := at_U hU hab f3
  replace f4 := at_U hU hab f4
  replace f5 := at_U hU hab f5
  replace f6 := at_U hU hab f6
  replace f7 := at_U hU hab f7
  replace f8 := at_U hU hab f8
  replace f9 := at_U hU hab f9
  replace f10 := at_U hU hab f10
  replace f11 := at_U hU hab f11
  replace hsz : H.size = b + 12 := by rw [hU.1, hsz]
  replace hold := hold_U hU hold ha
  replace hle := hle_U hU hle
  replace hgg := hgg.U hU (Or.inl rfl)
  clear hU
  refine lv_aload_n hx hb dX11_init_102 rfl (lv_at hl 0 rfl) ?_
  refine lv_sipush (v := 144) hx hb dX11_init_103 (by decide) ?_
  refine gx_newaV (atype := .int) (ty := .int) (a0 := (144, .inl (fun _ => 0))) hx hb (hts _ q165) rfl hK 1 rfl (fun C h => by cases h) (fun cA => rfl) (by decide) (N' := 144) (by decide) (by decide) (Nat.le_of_ble_eq_true rfl) (Nat.le_of_ble_eq_true rfl) dX11_init_106 (v := b + 12) hsz (fun H hN f12 => ?_)
  replace f := hN.at f
  replace f0 := hN.at f0
  replace f1 := hN.at f1
  replace f2 := hN.at f2
  replace f3 := hN.at f3
  replace f4 := hN.at f4
  replace f5 := hN.at f5
  replace f6 := hN.at f6
  replace f7 := hN.at f7
  replace f8 := hN.at f8
  replace f9 := hN.at f9
  replace f10 := hN.at f10
  replace f11 := hN.at f11
  replace hsz : H.size = b + 13 := by rw [hN.1, hsz]
  replace hold := hold_N hN hold hle
  replace hle := hle_N hN hle
  replace hgg := hgg.N hN
  clear hN
  replace f12 : va_at D gcl (b + 12, .inl (DA 1, 144, .inl (fun _ => 0))) H := f12
  refine gx_putF (D := D) (cl := gcl) (ci := 10) (v := .ref (b + 12)) (ty := (.array .int)) (C := RX11) (T := TX11) (N := 27) hx hb hts in_X11 tyX11 tyX11_ok nmX11 hown hK f rfl 13 (by decide) (hts _ q899) (fun _ h9 => h9) rfl hin rfl (by decide +kernel) (rfl) rfl (Nat.le_of_ble_eq_true rfl) hL (by (try simp only [aI, aA, aT, aB, aL, mad]); omega) dX11_init_108 (fun H locs hU hA hL => ?_)
  have f : va_at D gcl (a, .inr (10, [.int 0, .ref b, .ref (b + 1), .ref (b + 2), .ref (b + 3), .ref (b + 4), .ref (b + 5), .ref (b + 6), .ref (b + 7), .ref (b + 8), .ref (b + 9), .ref (b + 10), .ref (b + 11), .ref (b + 12), .int 0, .null, .null, .null, .null, .int 0, .int 0, .null, .null, .null, .null, .null, .null])) H := hA
  replace f0 := at_U0 hU hab f0
  replace f1 := at_U hU hab f1
  replace f2 := at_U hU hab f2
  replace f3 := at_U hU hab f3
  replace f4 := at_U hU hab f4
  replace f5 := at_U hU hab f5
  replace f6 := at_U hU hab f6
  replace f7 := at_U hU hab f7
  replace f8 := at_U hU hab f8
  replace f9 := at_U hU hab f9
  replace f10 := at_U hU hab f10
  replace f11 := at_U hU hab f11
  replace f12 := at_U hU hab f12
  replace hsz : H.size = b + 13 := by rw [hU.1, hsz]
  replace hold := hold_U hU hold ha
  replace hle := hle_U hU hle
  replace hgg := hgg.U hU (Or.inl rfl)
  clear hU
  refine lv_aload_n hx hb dX11_init_111 rfl (lv_at hl 0 rfl) ?_
  refine lv_iconst (v := 3) hx hb dX11_init_112 (by decide) ?_
  refine gx_newaV (atype := .int) (ty := .int) (a0 := (3, .inl (fun _ => 0))) hx hb (hts _ q165) rfl hK 1 rfl (fun C h => by cases h) (fun cA => rfl) (by decide) (N' := 3) (by decide) (by decide) (Nat.le_of_ble_eq_true rfl) (Nat.le_of_ble_eq_true rfl) dX11_init_113 (v := b + 13) hsz (fun H hN f13 => ?_)
  replace f := hN.at f
  replace f0 := hN.at f0
  replace f1 := hN.at f1
  replace f2 := hN.at f2
  replace f3 := hN.at f3
  replace f4 := hN.at f4
  replace f5 := hN.at f5
  replace f6 := hN.at f6
  replace f7 := hN.at f7
  replace f8 := hN.at f8
  replace f9 := hN.at f9
  replace f10 := hN.at f10
  replace f11 := hN.at f11
  replace f12 := hN.at f12
  replace hsz : H.size = b + 14 := by rw [hN.1, hsz]
  replace hold := hold_N hN hold hle
  replace hle := hle_N hN hle
  replace hgg := hgg.N hN
  clear hN
  replace f13 : va_at D gcl (b + 13, .inl (DA 1, 3, .inl (fun _ => 0))) H := f13
  refine gx_putF (D := D) (cl := gcl) (ci := 10) (v := .ref (b + 13)) (ty := (.array .int)) (C := RX11) (T := TX11) (N := 27) hx hb hts in_X11 tyX11 tyX11_ok nmX11 hown hK f rfl 15 (by decide) (hts _ q901) (fun _ h9 => h9) rfl hin rfl (by decide +kernel) (rfl) rfl (Nat.le_of_ble_eq_true rfl) hL (by (try simp only [aI, aA, aT, aB, aL, mad]); omega) dX11_init_115 (fun H locs hU hA hL => ?_)
  have f : va_at D gcl (a, .inr (10, [.int 0, .ref b, .ref (b + 1), .ref (b + 2), .ref (b + 3), .ref (b + 4), .ref (b + 5), .ref (b + 6), .ref (b + 7), .ref (b + 8), .ref (b + 9), .ref (b + 10), .ref (b + 11), .ref (b + 12), .int 0, .ref (b + 13), .null, .null, .null, .int 0, .int 0, .null, .null, .null, .null, .null, .null])) H := hA
  replace f0 := at_U0 hU hab f0
  replace f1 := at_U hU hab f1
  replace f2 := at_U hU hab f2
  replace f3 := at_U hU hab f3
  replace f4 := at_U hU hab f4
  replace f5 := at_U hU hab f5
  replace f6 := at_U hU hab f6
  replace f7 := at_U hU hab f7
  replace f8 := at_U hU hab f8
  replace f9 := at_U hU hab f9
  replace f10 := at_U hU hab f10
  replace f11 := at_U hU hab f11
  replace f12 := at_U hU hab f12
  replace f13 := at_U hU hab f13
  replace hsz : H.size = b + 14 := by rw [hU.1, hsz]
  replace hold := hold_U hU hold ha
  replace hle := hle_U hU hle
  replace hgg := hgg.U hU (Or.inl rfl)
  clear hU
  refine lv_aload_n hx hb dX11_init_118 rfl (lv_at hl 0 rfl) ?_
  refine lv_bipush (v := 72) hx hb dX11_init_119 (by decide) ?_
  refine gx_newaV (atype := .int) (ty := .int) (a0 := (72, .inl (fun _ => 0))) hx hb (hts _ q165) rfl hK 1 rfl (fun C h => by cases h) (fun cA => rfl) (by decide) (N' := 72) (by decide) (by decide) (Nat.le_of_ble_eq_true rfl) (Nat.le_of_ble_eq_true rfl) dX11_init_121 (v := b + 14) hsz (fun H hN f14 => ?_)
  replace f := hN.at f
  replace f0 := hN.at f0
  replace f1 := hN.at f1
  replace f2 := hN.at f2
  replace f3 := hN.at f3
  replace f4 := hN.at f4
  replace f5 := hN.at f5
  replace f6 := hN.at f6
  replace f7 := hN.at f7
  replace f8 := hN.at f8
  replace f9 := hN.at f9
  replace f10 := hN.at f10
  replace f11 := hN.at f11
  replace f12 := hN.at f12
  replace f13 := hN.at f13
  replace hsz : H.size = b + 15 := by rw [hN.1, hsz]
  replace hold := hold_N hN hold hle
  replace hle := hle_N hN hle
  replace hgg := hgg.N hN
  clear hN
  replace f14 : va_at D gcl (b + 14, .inl (DA 1, 72, .inl (fun _ => 0))) H := f14
  refine gx_putF (D := D) (cl := gcl) (ci := 10) (v := .ref (b + 14)) (ty := (.array .int)) (C := RX11) (T := TX11) (N := 27) hx hb hts in_X11 tyX11 tyX11_ok nmX11 hown hK f rfl 16 (by decide) (hts _ q902) (fun _ h9 => h9) rfl hin rfl (by decide +kernel) (rfl) rfl (Nat.le_of_ble_eq_true rfl) hL (by (try simp only [aI, aA, aT, aB, aL, mad]); omega) dX11_init_123 (fun H locs hU hA hL => ?_)
  have f : va_at D gcl (a, .inr (10, [.int 0, .ref b, .ref (b + 1), .ref (b + 2), .ref (b + 3), .ref (b + 4), .ref (b + 5), .ref (b + 6), .ref (b + 7), .ref (b + 8), .ref (b + 9), .ref (b + 10), .ref (b + 11), .ref (b + 12), .int 0, .ref (b + 13), .ref (b + 14), .null, .null, .int 0, .int 0, .null, .null, .null, .null, .null, .null])) H := hA
  replace f0 := at_U0 hU hab f0
  replace f1 := at_U hU hab f1
  replace f2 := at_U hU hab f2
  replace f3 := at_U hU hab f3
  replace f4 := at_U hU hab f4
  replace f5 := at_U hU hab f5
  replace f6 := at_U hU hab f6
  replace f7 := at_U hU hab f7
  replace f8 := at_U hU hab f8
  replace f9 := at_U hU hab f9
  replace f10 := at_U hU hab f10
  replace f11 := at_U hU hab f11
  replace f12 := at_U hU hab f12
  replace f13 := at_U hU hab f13
  replace f14 := at_U hU hab f14
  replace hsz : H.size = b + 15 := by rw [hU.1, hsz]
  replace hold := hold_U hU hold ha
  replace hle := hle_U hU hle
  replace hgg := hgg.U hU (Or.inl rfl)
  clear hU
  refine lv_aload_n hx hb dX11_init_126 rfl (lv_at hl 0 rfl) ?_
  refine lv_bipush (v := 72) hx hb dX11_init_127 (by decide) ?_
  refine gx_newaV (atype := .int) (ty := .int) (a0 := (72, .inl (fun _ => 0))) hx hb (hts _ q165) rfl hK 1 rfl (fun C h => by cases h) (fun cA => rfl) (by decide) (N' := 72) (by decide) (by decide) (Nat.le_of_ble_eq_true rfl) (Nat.le_of_ble_eq_true rfl) dX11_init_129 (v := b + 15) hsz (fun H hN f15 => ?_)
  replace f := hN.at f
  replace f0 := hN.at f0
  replace f1 := hN.at f1
  replace f2 := hN.at f2
  replace f3 := hN.at f3
  replace f4 := hN.at f4
  replace f5 := hN.at f5
  replace f6 := hN.at f6
  replace f7 := hN.at f7
  replace f8 := hN.at f8
  replace f9 := hN.at f9
  replace f10 := hN.at f10
  replace f11 := hN.at f11
  replace f12 := hN.at f12
  replace f13 := hN.at f13
  replace f14 := hN.at f14
  replace hsz : H.size = b + 16 := by rw [hN.1, hsz]
  replace hold := hold_N hN hold hle
  replace hle := hle_N hN hle
  replace hgg := hgg.N hN
  clear hN
  replace f15 : va_at D gcl (b + 15, .inl (DA 1, 72, .inl (fun _ => 0))) H := f15
  refine gx_putF (D := D) (cl := gcl) (ci := 10) (v := .ref (b + 15)) (ty := (.array .int)) (C := RX11) (T := TX11) (N := 27) hx hb hts in_X11 tyX11 tyX11_ok nmX11 hown hK f rfl 17 (by decide) (hts _ q903) (fun _ h9 => h9) rfl hin rfl (by decide +kernel) (rfl) rfl (Nat.le_of_ble_eq_true rfl) hL (by (try simp only [aI, aA, aT, aB, aL, mad]); omega) dX11_init_131 (fun H locs hU hA hL => ?_)
  have f : va_at D gcl (a, .inr (10, [.int 0, .ref b, .ref (b + 1), .ref (b + 2), .ref (b + 3), .ref (b + 4), .ref (b + 5), .ref (b + 6), .ref (b + 7), .ref (b + 8), .ref (b + 9), .ref (b + 10), .ref (b + 11), .ref (b + 12), .int 0, .ref (b + 13), .ref (b + 14), .ref (b + 15), .null, .int 0, .int 0, .null, .null, .null, .null, .null, .null])) H := hA
  replace f0 := at_U0 hU hab f0
  replace f1 := at_U hU hab f1
  replace f2 := at_U hU hab f2
  replace f3 := at_U hU hab f3
  replace f4 := at_U hU hab f4
  replace f5 := at_U hU hab f5
  replace f6 := at_U hU hab f6
  replace f7 := at_U hU hab f7
  replace f8 := at_U hU hab f8
  replace f9 := at_U hU hab f9
  replace f10 := at_U hU hab f10
  replace f11 := at_U hU hab f11
  replace f12 := at_U hU hab f12
  replace f13 := at_U hU hab f13
  replace f14 := at_U hU hab f14
  replace f15 := at_U hU hab f15
  replace hsz : H.size = b + 16 := by rw [hU.1, hsz]
  replace hold := hold_U hU hold ha
  replace hle := hle_U hU hle
  replace hgg := hgg.U hU (Or.inl rfl)
  clear hU
  refine lv_aload_n hx hb dX11_init_134 rfl (lv_at hl 0 rfl) ?_
  refine lv_bipush (v := 72) hx hb dX11_init_135 (by decide) ?_
  refine gx_newaV (atype := .int) (ty := .int) (a0 := (72, .inl (fun _ => 0))) hx hb (hts _ q165) rfl hK 1 rfl (fun C h => by cases h) (fun cA => rfl) (by decide) (N' := 72) (by decide) (by decide) (Nat.le_of_ble_eq_true rfl) (Nat.le_of_ble_eq_true rfl) dX11_init_137 (v := b + 16) hsz (fun H hN f16 => ?_)
  replace f := hN.at f
  replace f0 := hN.at f0
  replace f1 := hN.at f1
  replace f2 := hN.at f2
  replace f3 := hN.at f3
  replace f4 := hN.at f4
  replace f5 := hN.at f5
  replace f6 := hN.at f6
  replace f7 := hN.at f7
  replace f8 := hN.at f8
  replace f9 := hN.at f9
  replace f10 := hN.at f10
  replace f11 := hN.at f11
  replace f12 := hN.at f12
  replace f13 := hN.at f13
  replace f14 := hN.at f14
  replace f15 := hN.at f15
  replace hsz : H.size = b + 17 := by rw [hN.1, hsz]
  replace hold := hold_N hN hold hle
  replace hle := hle_N hN hle
  replace hgg := hgg.N hN
  clear hN
  replace f16 : va_at D gcl (b + 16, .inl (DA 1, 72, .inl (fun _ => 0))) H := f16
  refine gx_putF (D := D) (cl := gcl) (ci := 10) (v := .ref (b + 16)) (ty := (.array .int)) (C := RX11) (T := TX11) (N := 27) hx hb hts in_X11 tyX11 tyX11_ok nmX11 hown hK f rfl 18 (by decide) (hts _ q904) (fun _ h9 => h9) rfl hin rfl (by decide +kernel) (rfl) rfl (Nat.le_of_ble_eq_true rfl) hL (by (try simp only [aI, aA, aT, aB, aL, mad]); omega) dX11_init_139 (fun H locs hU hA hL => ?_)
  have f : va_at D gcl (a, .inr (10, [.int 0, .ref b, .ref (b + 1), .ref (b + 2), .ref (b + 3), .ref (b + 4), .ref (b + 5), .ref (b + 6), .ref (b + 7), .ref (b + 8), .ref (b + 9), .ref (b + 10), .ref (b + 11), .ref (b + 12), .int 0, .ref (b + 13), .ref (b + 14), .ref (b + 15), .ref (b + 16), .int 0, .int 0, .null, .null, .null, .null, .null, .null])) H := hA
  replace f0 := at_U0 hU hab f0
  replace f1 := at_U hU hab f1
  replace f2 := at_U hU hab f2
  replace f3 := at_U hU hab f3
  replace f4 := at_U hU hab f4
  replace f5 := at_U hU hab f5
  replace f6 := at_U hU hab f6
  replace f7 := at_U hU hab f7
  replace f8 := at_U hU hab f8
  replace f9 := at_U hU hab f9
  replace f10 := at_U hU hab f10
  replace f11 := at_U hU hab f11
  replace f12 := at_U hU hab f12
  replace f13 := at_U hU hab f13
  replace f14 := at_U hU hab f14
  replace f15 := at_U hU hab f15
  replace f16 := at_U hU hab f16
  replace hsz : H.size = b + 17 := by rw [hU.1, hsz]
  replace hold := hold_U hU hold ha
  replace hle := hle_U hU hle
  replace hgg := hgg.U hU (Or.inl rfl)
  clear hU
  refine lv_aload_n hx hb dX11_init_142 rfl (lv_at hl 0 rfl) ?_
  refine lv_iconst (v := 1) hx hb dX11_init_143 (by decide) ?_
  refine gx_put (D := D) (cl := gcl) (ci := 10) (v := .int 1) (ty := .boolean) (C := RX11) (T := TX11) (N := 27) hx hb hts in_X11 tyX11 tyX11_ok nmX11 hown hK f rfl 20 (by decide) (hts _ q906) (fun _ h9 => h9) rfl (by decide +kernel) (rfl) rfl (Nat.le_of_ble_eq_true rfl) hL (by (try simp only [aI, aA, aT, aB, aL, mad]); omega) dX11_init_144 (fun H locs hU hA hL => ?_)
  have f : va_at D gcl (a, .inr (10, [.int 0, .ref b, .ref (b + 1), .ref (b + 2), .ref (b + 3), .ref (b + 4), .ref (b + 5), .ref (b + 6), .ref (b + 7), .ref (b + 8), .ref (b + 9), .ref (b + 10), .ref (b + 11), .ref (b + 12), .int 0, .ref (b + 13), .ref (b + 14), .ref (b + 15), .ref (b + 16), .int 0, .int 1, .null, .null, .null, .null, .null, .null])) H := hA
  replace f0 := at_U0 hU hab f0
  replace f1 := at_U hU hab f1
  replace f2 := at_U hU hab f2
  replace f3 := at_U hU hab f3
  replace f4 := at_U hU hab f4
  replace f5 := at_U hU hab f5
  replace f6 := at_U hU hab f6
  replace f7 := at_U hU hab f7
  replace f8 := at_U hU hab f8
  replace f9 := at_U hU hab f9
  replace f10 := at_U hU hab f10
  replace f11 := at_U hU hab f11
  replace f12 := at_U hU hab f12
  replace f13 := at_U hU hab f13
  replace f14 := at_U hU hab f14
  replace f15 := at_U hU hab f15
  replace f16 := at_U hU hab f16
  replace hsz : H.size = b + 17 := by rw [hU.1, hsz]
  replace hold := hold_U hU hold ha
  replace hle := hle_U hU hle
  replace hgg := hgg.U hU (Or.inl rfl)
  clear hU
  refine lv_aload_n hx hb dX11_init_147 rfl (lv_at hl 0 rfl) ?_
  refine lv_bipush (v := 12) hx hb dX11_init_148 (by decide) ?_
  refine gx_newaV (atype := .boolean) (ty := .boolean) (a0 := (12, .inl (fun _ => 0))) hx hb (hts _ q968) rfl hK 2 rfl (fun C h => by cases h) (fun cA => rfl) (by decide) (N' := 12) (by decide) (by decide) (Nat.le_of_ble_eq_true rfl) (Nat.le_of_ble_eq_true rfl) dX11_init_150 (v := b + 17) hsz (fun H hN f17 => ?_)
  replace f := hN.at f
  replace f0 := hN.at f0
  replace f1 := hN.at f1
  replace f2 := hN.at f2
  replace f3 := hN.at f3
  replace f4 := hN.at f4
  replace f5 := hN.at f5
  replace f6 := hN.at f6
  replace f7 := hN.at f7
  replace f8 := hN.at f8
  replace f9 := hN.at f9
  replace f10 := hN.at f10
  replace f11 := hN.at f11
  replace f12 := hN.at f12
  replace f13 := hN.at f13
  replace f14 := hN.at f14
  replace f15 := hN.at f15
  replace f16 := hN.at f16
  replace hsz : H.size = b + 18 := by rw [hN.1, hsz]
  replace hold := hold_N hN hold hle
  replace hle := hle_N hN hle
  replace hgg := hgg.N hN
  clear hN
  replace f17 : va_at D gcl (b + 17, .inl (DA 2, 12, .inl (fun _ => 0))) H := f17
  refine gx_putF (D := D) (cl := gcl) (ci := 10) (v := .ref (b + 17)) (ty := (.array .boolean)) (C := RX11) (T := TX11) (N := 27) hx hb hts in_X11 tyX11 tyX11_ok nmX11 hown hK f rfl 21 (by decide) (hts _ q907) (fun _ h9 => h9) rfl hin rfl (by decide +kernel) (rfl) rfl (Nat.le_of_ble_eq_true rfl) hL (by (try simp only [aI, aA, aT, aB, aL, mad]); omega) dX11_init_152 (fun H locs hU hA hL => ?_)
  have f : va_at D gcl (a, .inr (10, [.int 0, .ref b, .ref (b + 1), .ref (b + 2), .ref (b + 3), .ref (b + 4), .ref (b + 5), .ref (b + 6), .ref (b + 7), .ref (b + 8), .ref (b + 9), .ref (b + 10), .ref (b + 11), .ref (b + 12), .int 0, .ref (b + 13), .ref (b + 14), .ref (b + 15), .ref (b + 16), .int 0, .int 1, .ref (b + 17), .null, .null, .null, .null, .null])) H := hA
  replace f0 := at_U0 hU hab f0
  replace f1 := at_U hU hab f1
  replace f2 := at_U hU hab f2
  replace f3 := at_U hU hab f3
  replace f4 := at_U hU hab f4
  replace f5 := at_U hU hab f5
  replace f6 := at_U hU hab f6
  replace f7 := at_U hU hab f7
  replace f8 := at_U hU hab f8
  replace f9 := at_U hU hab f9
  replace f10 := at_U hU hab f10
  replace f11 := at_U hU hab f11
  replace f12 := at_U hU hab f12
  replace f13 := at_U hU hab f13
  replace f14 := at_U hU hab f14
  replace f15 := at_U hU hab f15
  replace f16 := at_U hU hab f16
  replace f17 := at_U hU hab f17
  replace hsz : H.size = b + 18 := by rw [hU.1, hsz]
  replace hold := hold_U hU hold ha
  replace hle := hle_U hU hle
  replace hgg := hgg.U hU (Or.inl rfl)
  clear hU
  refine lv_aload_n hx hb dX11_init_155 rfl (lv_at hl 0 rfl) ?_
  refine lv_sipush (v := 144) hx hb dX11_init_156 (by decide) ?_
  refine gx_newaV (atype := .long) (ty := .long) (a0 := (144, .inr (.inl (fun _ => 0)))) hx hb (hts _ q164) rfl hK 0 rfl (fun C h => by cases h) (fun cA => rfl) (by decide) (N' := 144) (by decide) (by decide) (Nat.le_of_ble_eq_true rfl) (Nat.le_of_ble_eq_true rfl) dX11_init_159 (v := b + 18) hsz (fun H hN f18 => ?_)
  replace f := hN.at f
  replace f0 := hN.at f0
  replace f1 := hN.at f1
  replace f2 := hN.at f2
  replace f3 := hN.at f3
  replace f4 := hN.at f4
  replace f5 := hN.at f5
  replace f6 := hN.at f6
  replace f7 := hN.at f7
  replace f8 := hN.at f8
  replace f9 := hN.at f9
  replace f10 := hN.at f10
  replace f11 := hN.at f11
  replace f12 := hN.at f12
  replace f13 := hN.at f13
  replace f14 := hN.at f14
  replace f15 := hN.at f15
  replace f16 := hN.at f16
  replace f17 := hN.at f17
  replace hsz : H.size = b + 19 := by rw [hN.1, hsz]
  replace hold := hold_N hN hold hle
  replace hle := hle_N hN hle
  replace hgg := hgg.N hN
  clear hN
  replace f18 : va_at D gcl (b + 18, .inl (DA 0, 144, .inr (.inl (fun _ => 0)))) H := f18
  refine gx_putF (D := D) (cl := gcl) (ci := 10) (v := .ref (b + 18)) (ty := (.array .long)) (C := RX11) (T := TX11) (N := 27) hx hb hts in_X11 tyX11 tyX11_ok nmX11 hown hK f rfl 22 (by decide) (hts _ q908) (fun _ h9 => h9) rfl hin rfl (by decide +kernel) (rfl) rfl (Nat.le_of_ble_eq_true rfl) hL (by (try simp only [aI, aA, aT, aB, aL, mad]); omega) dX11_init_161 (fun H locs hU hA hL => ?_)
  have f : va_at D gcl (a, .inr (10, [.int 0, .ref b, .ref (b + 1), .ref (b + 2), .ref (b + 3), .ref (b + 4), .ref (b + 5), .ref (b + 6), .ref (b + 7), .ref (b + 8), .ref (b + 9), .ref (b + 10), .ref (b + 11), .ref (b + 12), .int 0, .ref (b + 13), .ref (b + 14), .ref (b + 15), .ref (b + 16), .int 0, .int 1, .ref (b + 17), .ref (b + 18), .null, .null, .null, .null])) H := hA
  replace f0 := at_U0 hU hab f0
  replace f1 := at_U hU hab f1
  replace f2 := at_U hU hab f2
  replace f3 := at_U hU hab f3
  replace f4 := at_U hU hab f4
  replace f5 := at_U hU hab f5
  replace f6 := at_U hU hab f6
  replace f7 := at_U hU hab f7
  replace f8 := at_U hU hab f8
  replace f9 := at_U hU hab f9
  replace f10 := at_U hU hab f10
  replace f11 := at_U hU hab f11
  replace f12 := at_U hU hab f12
  replace f13 := at_U hU hab f13
  replace f14 := at_U hU hab f14
  replace f15 := at_U hU hab f15
  replace f16 := at_U hU hab f16
  replace f17 := at_U hU hab f17
  replace f18 := at_U hU hab f18
  replace hsz : H.size = b + 19 := by rw [hU.1, hsz]
  replace hold := hold_U hU hold ha
  replace hle := hle_U hU hle
  replace hgg := hgg.U hU (Or.inl rfl)
  clear hU
  refine lv_aload_n hx hb dX11_init_164 rfl (lv_at hl 0 rfl) ?_
  refine lv_sipush (v := 144) hx hb dX11_init_165 (by decide) ?_
  refine gx_newaV (atype := .long) (ty := .long) (a0 := (144, .inr (.inl (fun _ => 0)))) hx hb (hts _ q164) rfl hK 0 rfl (fun C h => by cases h) (fun cA => rfl) (by decide) (N' := 144) (by decide) (by decide) (Nat.le_of_ble_eq_true rfl) (Nat.le_of_ble_eq_true rfl) dX11_init_168 (v := b + 19) hsz (fun H hN f19 => ?_)
  replace f := hN.at f
  replace f0 := hN.at f0
  replace f1 := hN.at f1
  replace f2 := hN.at f2
  replace f3 := hN.at f3
  replace f4 := hN.at f4
  replace f5 := hN.at f5
  replace f6 := hN.at f6
  replace f7 := hN.at f7
  replace f8 := hN.at f8
  replace f9 := hN.at f9
  replace f10 := hN.at f10
  replace f11 := hN.at f11
  replace f12 := hN.at f12
  replace f13 := hN.at f13
  replace f14 := hN.at f14
  replace f15 := hN.at f15
  replace f16 := hN.at f16
  replace f17 := hN.at f17
  replace f18 := hN.at f18
  replace hsz : H.size = b + 20 := by rw [hN.1, hsz]
  replace hold := hold_N hN hold hle
  replace hle := hle_N hN hle
  replace hgg := hgg.N hN
  clear hN
  replace f19 : va_at D gcl (b + 19, .inl (DA 0, 144, .inr (.inl (fun _ => 0)))) H := f19
  refine gx_putF (D := D) (cl := gcl) (ci := 10) (v := .ref (b + 19)) (ty := (.array .long)) (C := RX11) (T := TX11) (N := 27) hx hb hts in_X11 tyX11 tyX11_ok nmX11 hown hK f rfl 23 (by decide) (hts _ q909) (fun _ h9 => h9) rfl hin rfl (by decide +kernel) (rfl) rfl (Nat.le_of_ble_eq_true rfl) hL (by (try simp only [aI, aA, aT, aB, aL, mad]); omega) dX11_init_170 (fun H locs hU hA hL => ?_)
  have f : va_at D gcl (a, .inr (10, [.int 0, .ref b, .ref (b + 1), .ref (b + 2), .ref (b + 3), .ref (b + 4), .ref (b + 5), .ref (b + 6), .ref (b + 7), .ref (b + 8), .ref (b + 9), .ref (b + 10), .ref (b + 11), .ref (b + 12), .int 0, .ref (b + 13), .ref (b + 14), .ref (b + 15), .ref (b + 16), .int 0, .int 1, .ref (b + 17), .ref (b + 18), .ref (b + 19), .null, .null, .null])) H := hA
  replace f0 := at_U0 hU hab f0
  replace f1 := at_U hU hab f1
  replace f2 := at_U hU hab f2
  replace f3 := at_U hU hab f3
  replace f4 := at_U hU hab f4
  replace f5 := at_U hU hab f5
  replace f6 := at_U hU hab f6
  replace f7 := at_U hU hab f7
  replace f8 := at_U hU hab f8
  replace f9 := at_U hU hab f9
  replace f10 := at_U hU hab f10
  replace f11 := at_U hU hab f11
  replace f12 := at_U hU hab f12
  replace f13 := at_U hU hab f13
  replace f14 := at_U hU hab f14
  replace f15 := at_U hU hab f15
  replace f16 := at_U hU hab f16
  replace f17 := at_U hU hab f17
  replace f18 := at_U hU hab f18
  replace f19 := at_U hU hab f19
  replace hsz : H.size = b + 20 := by rw [hU.1, hsz]
  replace hold := hold_U hU hold ha
  replace hle := hle_U hU hle
  replace hgg := hgg.U hU (Or.inl rfl)
  clear hU
  refine lv_aload_n hx hb dX11_init_173 rfl (lv_at hl 0 rfl) ?_
  refine lv_bipush (v := 12) hx hb dX11_init_174 (by decide) ?_
  refine gx_newaV (atype := .long) (ty := .long) (a0 := (12, .inr (.inl (fun _ => 0)))) hx hb (hts _ q164) rfl hK 0 rfl (fun C h => by cases h) (fun cA => rfl) (by decide) (N' := 12) (by decide) (by decide) (Nat.le_of_ble_eq_true rfl) (Nat.le_of_ble_eq_true rfl) dX11_init_176 (v := b + 20) hsz (fun H hN f20 => ?_)
  replace f := hN.at f
  replace f0 := hN.at f0
  replace f1 := hN.at f1
  replace f2 := hN.at f2
  replace f3 := hN.at f3
  replace f4 := hN.at f4
  replace f5 := hN.at f5
  replace f6 := hN.at f6
  replace f7 := hN.at f7
  replace f8 := hN.at f8
  replace f9 := hN.at f9
  replace f10 := hN.at f10
  replace f11 := hN.at f11
  replace f12 := hN.at f12
  replace f13 := hN.at f13
  replace f14 := hN.at f14
  replace f15 := hN.at f15
  replace f16 := hN.at f16
  replace f17 := hN.at f17
  replace f18 := hN.at f18
  replace f19 := hN.at f19
  replace hsz : H.size = b + 21 := by rw [hN.1, hsz]
  replace hold := hold_N hN hold hle
  replace hle := hle_N hN hle
  replace hgg := hgg.N hN
  clear hN
  replace f20 : va_at D gcl (b + 20, .inl (DA 0, 12, .inr (.inl (fun _ => 0)))) H := f20
  refine gx_putF (D := D) (cl := gcl) (ci := 10) (v := .ref (b + 20)) (ty := (.array .long)) (C := RX11) (T := TX11) (N := 27) hx hb hts in_X11 tyX11 tyX11_ok nmX11 hown hK f rfl 24 (by decide) (hts _ q910) (fun _ h9 => h9) rfl hin rfl (by decide +kernel) (rfl) rfl (Nat.le_of_ble_eq_true rfl) hL (by (try simp only [aI, aA, aT, aB, aL, mad]); omega) dX11_init_178 (fun H locs hU hA hL => ?_)
  have f : va_at D gcl (a, .inr (10, [.int 0, .ref b, .ref (b + 1), .ref (b + 2), .ref (b + 3), .ref (b + 4), .ref (b + 5), .ref (b + 6), .ref (b + 7), .ref (b + 8), .ref (b + 9), .ref (b + 10), .ref (b + 11), .ref (b + 12), .int 0, .ref (b + 13), .ref (b + 14), .ref (b + 15), .ref (b + 16), .int 0, .int 1, .ref (b + 17), .ref (b + 18), .ref (b + 19), .ref (b + 20), .null, .null])) H := hA
  replace f0 := at_U0 hU hab f0
  replace f1 := at_U hU hab f1
  replace f2 := at_U hU hab f2
  replace f3 := at_U hU hab f3
  replace f4 := at_U hU hab f4
  replace f5 := at_U hU hab f5
  replace f6 := at_U hU hab f6
  replace f7 := at_U hU hab f7
  replace f8 := at_U hU hab f8
  replace f9 := at_U hU hab f9
  replace f10 := at_U hU hab f10
  replace f11 := at_U hU hab f11
  replace f12 := at_U hU hab f12
  replace f13 := at_U hU hab f13
  replace f14 := at_U hU hab f14
  replace f15 := at_U hU hab f15
  replace f16 := at_U hU hab f16
  replace f17 := at_U hU hab f17
  replace f18 := at_U hU hab f18
  replace f19 := at_U hU hab f19
  replace f20 := at_U hU hab f20
  replace hsz : H.size = b + 21 := by rw [hU.1, hsz]
  replace hold := hold_U hU hold ha
  replace hle := hle_U hU hle
  replace hgg := hgg.U hU (Or.inl rfl)
  clear hU
  refine lv_aload_n hx hb dX11_init_181 rfl (lv_at hl 0 rfl) ?_
  refine lv_bipush (v := 13) hx hb dX11_init_182 (by decide) ?_
  refine gx_newaV (atype := .long) (ty := .long) (a0 := (13, .inr (.inl (fun _ => 0)))) hx hb (hts _ q164) rfl hK 0 rfl (fun C h => by cases h) (fun cA => rfl) (by decide) (N' := 13) (by decide) (by decide) (Nat.le_of_ble_eq_true rfl) (Nat.le_of_ble_eq_true rfl) dX11_init_184 (v := b + 21) hsz (fun H hN f21 => ?_)
  replace f := hN.at f
  replace f0 := hN.at f0
  replace f1 := hN.at f1
  replace f2 := hN.at f2
  replace f3 := hN.at f3
  replace f4 := hN.at f4
  replace f5 := hN.at f5
  replace f6 := hN.at f6
  replace f7 := hN.at f7
  replace f8 := hN.at f8
  replace f9 := hN.at f9
  replace f10 := hN.at f10
  replace f11 := hN.at f11
  replace f12 := hN.at f12
  replace f13 := hN.at f13
  replace f14 := hN.at f14
  replace f15 := hN.at f15
  replace f16 := hN.at f16
  replace f17 := hN.at f17
  replace f18 := hN.at f18
  replace f19 := hN.at f19
  replace f20 := hN.at f20
  replace hsz : H.size = b + 22 := by rw [hN.1, hsz]
  replace hold := hold_N hN hold hle
  replace hle := hle_N hN hle
  replace hgg := hgg.N hN
  clear hN
  replace f21 : va_at D gcl (b + 21, .inl (DA 0, 13, .inr (.inl (fun _ => 0)))) H := f21
  refine gx_putF (D := D) (cl := gcl) (ci := 10) (v := .ref (b + 21)) (ty := (.array .long)) (C := RX11) (T := TX11) (N := 27) hx hb hts in_X11 tyX11 tyX11_ok nmX11 hown hK f rfl 25 (by decide) (hts _ q911) (fun _ h9 => h9) rfl hin rfl (by decide +kernel) (rfl) rfl (Nat.le_of_ble_eq_true rfl) hL (by (try simp only [aI, aA, aT, aB, aL, mad]); omega) dX11_init_186 (fun H locs hU hA hL => ?_)
  have f : va_at D gcl (a, .inr (10, [.int 0, .ref b, .ref (b + 1), .ref (b + 2), .ref (b + 3), .ref (b + 4), .ref (b + 5), .ref (b + 6), .ref (b + 7), .ref (b + 8), .ref (b + 9), .ref (b + 10), .ref (b + 11), .ref (b + 12), .int 0, .ref (b + 13), .ref (b + 14), .ref (b + 15), .ref (b + 16), .int 0, .int 1, .ref (b + 17), .ref (b + 18), .ref (b + 19), .ref (b + 20), .ref (b + 21), .null])) H := hA
  replace f0 := at_U0 hU hab f0
  replace f1 := at_U hU hab f1
  replace f2 := at_U hU hab f2
  replace f3 := at_U hU hab f3
  replace f4 := at_U hU hab f4
  replace f5 := at_U hU hab f5
  replace f6 := at_U hU hab f6
  replace f7 := at_U hU hab f7
  replace f8 := at_U hU hab f8
  replace f9 := at_U hU hab f9
  replace f10 := at_U hU hab f10
  replace f11 := at_U hU hab f11
  replace f12 := at_U hU hab f12
  replace f13 := at_U hU hab f13
  replace f14 := at_U hU hab f14
  replace f15 := at_U hU hab f15
  replace f16 := at_U hU hab f16
  replace f17 := at_U hU hab f17
  replace f18 := at_U hU hab f18
  replace f19 := at_U hU hab f19
  replace f20 := at_U hU hab f20
  replace f21 := at_U hU hab f21
  replace hsz : H.size = b + 22 := by rw [hU.1, hsz]
  replace hold := hold_U hU hold ha
  replace hle := hle_U hU hle
  replace hgg := hgg.U hU (Or.inl rfl)
  clear hU
  refine lv_aload_n hx hb dX11_init_189 rfl (lv_at hl 0 rfl) ?_
  refine lv_bipush (v := 13) hx hb dX11_init_190 (by decide) ?_
  refine gx_newaV (atype := .long) (ty := .long) (a0 := (13, .inr (.inl (fun _ => 0)))) hx hb (hts _ q164) rfl hK 0 rfl (fun C h => by cases h) (fun cA => rfl) (by decide) (N' := 13) (by decide) (by decide) (Nat.le_of_ble_eq_true rfl) (Nat.le_of_ble_eq_true rfl) dX11_init_192 (v := b + 22) hsz (fun H hN f22 => ?_)
  replace f := hN.at f
  replace f0 := hN.at f0
  replace f1 := hN.at f1
  replace f2 := hN.at f2
  replace f3 := hN.at f3
  replace f4 := hN.at f4
  replace f5 := hN.at f5
  replace f6 := hN.at f6
  replace f7 := hN.at f7
  replace f8 := hN.at f8
  replace f9 := hN.at f9
  replace f10 := hN.at f10
  replace f11 := hN.at f11
  replace f12 := hN.at f12
  replace f13 := hN.at f13
  replace f14 := hN.at f14
  replace f15 := hN.at f15
  replace f16 := hN.at f16
  replace f17 := hN.at f17
  replace f18 := hN.at f18
  replace f19 := hN.at f19
  replace f20 := hN.at f20
  replace f21 := hN.at f21
  replace hsz : H.size = b + 23 := by rw [hN.1, hsz]
  replace hold := hold_N hN hold hle
  replace hle := hle_N hN hle
  replace hgg := hgg.N hN
  clear hN
  replace f22 : va_at D gcl (b + 22, .inl (DA 0, 13, .inr (.inl (fun _ => 0)))) H := f22
  refine gx_putF (D := D) (cl := gcl) (ci := 10) (v := .ref (b + 22)) (ty := (.array .long)) (C := RX11) (T := TX11) (N := 27) hx hb hts in_X11 tyX11 tyX11_ok nmX11 hown hK f rfl 26 (by decide) (hts _ q912) (fun _ h9 => h9) rfl hin rfl (by decide +kernel) (rfl) rfl (Nat.le_of_ble_eq_true rfl) hL (by (try simp only [aI, aA, aT, aB, aL, mad]); omega) dX11_init_194 (fun H locs hU hA hL => ?_)
  have f : va_at D gcl (a, .inr (10, [.int 0, .ref b, .ref (b + 1), .ref (b + 2), .ref (b + 3), .ref (b + 4), .ref (b + 5), .ref (b + 6), .ref (b + 7), .ref (b + 8), .ref (b + 9), .ref (b + 10), .ref (b + 11), .ref (b + 12), .int 0, .ref (b + 13), .ref (b + 14), .ref (b + 15), .ref (b + 16), .int 0, .int 1, .ref (b + 17), .ref (b + 18), .ref (b + 19), .ref (b + 20), .ref (b + 21), .ref (b + 22)])) H := hA
  replace f0 := at_U0 hU hab f0
  replace f1 := at_U hU hab f1
  replace f2 := at_U hU hab f2
  replace f3 := at_U hU hab f3
  replace f4 := at_U hU hab f4
  replace f5 := at_U hU hab f5
  replace f6 := at_U hU hab f6
  replace f7 := at_U hU hab f7
  replace f8 := at_U hU hab f8
  replace f9 := at_U hU hab f9
  replace f10 := at_U hU hab f10
  replace f11 := at_U hU hab f11
  replace f12 := at_U hU hab f12
  replace f13 := at_U hU hab f13
  replace f14 := at_U hU hab f14
  replace f15 := at_U hU hab f15
  replace f16 := at_U hU hab f16
  replace f17 := at_U hU hab f17
  replace f18 := at_U hU hab f18
  replace f19 := at_U hU hab f19
  replace f20 := at_U hU hab f20
  replace f21 := at_U hU hab f21
  replace f22 := at_U hU hab f22
  replace hsz : H.size = b + 23 := by rw [hU.1, hsz]
  replace hold := hold_U hU hold ha
  replace hle := hle_U hU hle
  replace hgg := hgg.U hU (Or.inl rfl)
  clear hU
  refine lv_iconst (v := 0) hx hb dX11_init_197 (by decide) ?_
  refine gx_ti (nI 0) (by decide) ?_
  refine lv_istore_n (lv' := [(1, .int (nI 0)), (0, .ref a)]) hx hb dX11_init_198 rfl hl (by decide) rfl (fun ls hl => ?_)
  obtain ⟨Hs, hHs⟩ : ∃ Hs, Hs = H := ⟨_, rfl⟩
  subst hHs
  have hN0 : gx_U (b + 1) Hs Hs ∧ va_at D gcl (b + 1, .inl (DA 1, 12, .inl (fun k => if k < 0 then 1 else 0))) Hs := ⟨⟨rfl, fun _ _ => rfl⟩, by simpa using f1⟩
  have key : ∀ (n : Nat) (v : Nat) (H : Heap) (locs : List Loc) (ls : Array Slot), v ≤ 12 → 12 < v + n → lv_has ls 2 [(1, .int (nI v)), (0, .ref a)] → gx_L s0.heap.size locs → gx_U (b + 1) Hs H ∧ va_at D gcl (b + 1, .inl (DA 1, 12, .inl (fun k => if k < v then 1 else 0))) H → W p l e (headSpec (ws_ yX11_init cX11_init 2 none) ({ frames := 1, cells := 23, slots := 1109, locals := 12 })).room s m ([.ref a] : List Value).toArray below meth c H locs (23) (1109) (MQ below (cQ0 (fun H1 => gG 23 a s.heap H1 ∧ va_at D gcl (a, .inr (10, [.int 0, .ref b, .ref (b + 1), .ref (b + 2), .ref (b + 3), .ref (b + 4), .ref (b + 5), .ref (b + 6), .ref (b + 7), .ref (b + 8), .ref (b + 9), .ref (b + 10), .ref (b + 11), .ref (b + 12), .int 0, .ref (b + 13), .ref (b + 14), .ref (b + 15), .ref (b + 16), .int 0, .int 1, .ref (b + 17), .ref (b + 18), .ref (b + 19), .ref (b + 20), .ref (b + 21), .ref (b + 22)])) H1 ∧ (∀ j, miOk j → va_at D gcl (b + j, .inl (DA 1, msz j, .inl (mI M0 j))) H1) ∧ va_at D gcl (b + 17, .inl (DA 2, 12, .inl (fun _ => 0))) H1 ∧ ∀ j, 18 ≤ j → j ≤ 22 → va_at D gcl (b + j, .inl (DA 0, msz j, .inr (.inl (mL M0 j)))) H1)) ([.ref a] : List Value).toArray s 23 1109 (cF s0)) (F0 m 199 ls []) := by
    intro n
    induction n with
    | zero =>
      intro v H locs ls hv hn hl hL hR
      omega
    | succ n ih =>
      intro v H locs ls hv hn hl hL hR
      have g0 : va_at D gcl (a, .inr (10, [.int 0, .ref b, .ref (b + 1), .ref (b + 2), .ref (b + 3), .ref (b + 4), .ref (b + 5), .ref (b + 6), .ref (b + 7), .ref (b + 8), .ref (b + 9), .ref (b + 10), .ref (b + 11), .ref (b + 12), .int 0, .ref (b + 13), .ref (b + 14), .ref (b + 15), .ref (b + 16), .int 0, .int 1, .ref (b + 17), .ref (b + 18), .ref (b + 19), .ref (b + 20), .ref (b + 21), .ref (b + 22)])) H := hR.1.at (by omega) f
      refine lv_iload_n hx hb dX11_init_199 rfl (lv_at hl 0 rfl) ?_
      refine lv_bipush (v := 12) hx hb dX11_init_200 (by decide) ?_
      refine lv_icmp_ge (tgt := 218) hx hb dX11_init_202 (by decide) (fun c202 => ?_) (fun c202 => ?_)
      · have hkc : v = 12 := by have := n_ge (b := 12) c202 (by omega) (by omega); omega
        subst hkc
        have hgg := hgg.U hR.1 (by omega)
        have hmi : ∀ j, miOk j → va_at D gcl (b + j, .inl (DA 1, msz j, .inl (mI M0 j))) H := by
          intro j hj
          have hj : j ≤ 16 := hj
          rcases (show j = 0 ∨ j = 1 ∨ j = 2 ∨ j = 3 ∨ j = 4 ∨ j = 5 ∨ j = 6 ∨ j = 7 ∨ j = 8 ∨ j = 9 ∨ j = 10 ∨ j = 11 ∨ j = 12 ∨ j = 13 ∨ j = 14 ∨ j = 15 ∨ j = 16 by omega) with e | e | e | e | e | e | e | e | e | e | e | e | e | e | e | e | e
          · subst e; exact hR.1.at (by omega) f0
          · subst e; exact at_cg_i (n := 12) (fun k hk => by rw [if_pos hk]; rfl) hR.2
          · subst e; exact hR.1.at (by omega) f2
          · subst e; exact hR.1.at (by omega) f3
          · subst e; exact hR.1.at (by omega) f4
          · subst e; exact hR.1.at (by omega) f5
          · subst e; exact hR.1.at (by omega) f6
          · subst e; exact hR.1.at (by omega) f7
          · subst e; exact hR.1.at (by omega) f8
          · subst e; exact hR.1.at (by omega) f9
          · subst e; exact hR.1.at (by omega) f10
          · subst e; exact hR.1.at (by omega) f11
          · subst e; exact hR.1.at (by omega) f12
          · subst e; exact hR.1.at (by omega) f13
          · subst e; exact hR.1.at (by omega) f14
          · subst e; exact hR.1.at (by omega) f15
          · subst e; exact hR.1.at (by omega) f16
        have hml2 : ∀ j, 18 ≤ j → j ≤ 22 → va_at D gcl (b + j, .inl (DA 0, msz j, .inr (.inl (mL M0 j)))) H := by
          intro j j1 j2
          rcases (show j = 18 ∨ j = 19 ∨ j = 20 ∨ j = 21 ∨ j = 22 by omega) with e | e | e | e | e
          · subst e; exact hR.1.at (by omega) f18
          · subst e; exact hR.1.at (by omega) f19
          · subst e; exact hR.1.at (by omega) f20
          · subst e; exact hR.1.at (by omega) f21
          · subst e; exact hR.1.at (by omega) f22
        exact W.vret hx hb hr (fun t ht hW => ⟨rfl, by rw [ht]; exact ⟨hgg, g0, hmi, hR.1.at (by omega) f17, hml2⟩⟩) hL dX11_init_218
      · have hkc : v < 12 := n_lt (b := 12) c202 (by omega) (by omega)
        refine lv_aload_n hx hb dX11_init_205 rfl (lv_at hl 1 rfl) ?_
        refine gx_get (D := D) (cl := gcl) (ci := 10) (v := .ref (b + 1)) (C := RX11) (T := TX11) (N := 27) hx hb hts in_X11 hown hK g0 rfl 2 (by decide) (hts _ q888) (fun _ h9 => h9) rfl dX11_init_206 ?_
        refine lv_iload_n hx hb dX11_init_209 rfl (lv_at hl 0 rfl) ?_
        refine lv_iconst (v := 1) hx hb dX11_init_210 (by decide) ?_
        refine gx_iast (n := 12) hx hb hK 1 hR.2 rfl v (rfl) (hkc) (by decide) hL (by (try simp only [aI, aA, aT, aB, aL, mad]); omega) dX11_init_211 (fun H locs hU hA hL => ?_)
        refine lv_iinc (v := nI (v + 1)) (lv' := [(1, .int (nI (v + 1))), (0, .ref a)]) hx hb dX11_init_212 hl (k := 0) rfl (nI_1 v) (by decide) rfl (fun ls hl => ?_)
        refine lv_goto (tgt := 199) hx hb dX11_init_215 (by decide) ?_
        exact ih (v + 1) _ _ _ (by omega) (by omega) (lv_sub hl [0, 1] rfl) hL ⟨hR.1.tr hU, by have h9 := hA; rw [up_lt1] at h9; exact h9⟩
  refine W.widen (k := 23) (n := 1109) (by omega) (by omega) ?_
  exact key 13 0 _ _ _ (by omega) (by omega) (lv_sub hl [0, 1] rfl) hL hN0
/-- the world at the start -/
theorem GRb_0 {B : Nat} {h0 : Heap} {D : va_G} {DA : Nat → ClassId} {z0 : Nat} {H H1 H2 H3 : Heap} (h : NPd B h0 D DA z0 H) (hz : z0 < B) (n1 : gx_N H H1) (g2 : gG 23 (B + 104) H1 H2) (m1 : va_at D gcl (B + 104, .inr (10, [.int 0, .ref (B + 105), .ref (B + 105 + 1), .ref (B + 105 + 2), .ref (B + 105 + 3), .ref (B + 105 + 4), .ref (B + 105 + 5), .ref (B + 105 + 6), .ref (B + 105 + 7), .ref (B + 105 + 8), .ref (B + 105 + 9), .ref (B + 105 + 10), .ref (B + 105 + 11), .ref (B + 105 + 12), .int 0, .ref (B + 105 + 13), .ref (B + 105 + 14), .ref (B + 105 + 15), .ref (B + 105 + 16), .int 0, .int 1, .ref (B + 105 + 17), .ref (B + 105 + 18), .ref (B + 105 + 19), .ref (B + 105 + 20), .ref (B + 105 + 21), .ref (B + 105 + 22)])) H2)
    (m2 : ∀ j, miOk j → va_at D gcl (B + 105 + j, .inl (DA 1, msz j, .inl (mI M0 j))) H2) (m3 : va_at D gcl (B + 105 + 17, .inl (DA 2, 12, .inl (fun _ => 0))) H2) (m4 : ∀ j, 18 ≤ j → j ≤ 22 → va_at D gcl (B + 105 + j, .inl (DA 0, msz j, .inr (.inl (mL M0 j)))) H2)
    (n3 : gx_N H2 H3) (m5 : va_at D gcl (B + 128, .inl (DA 0, 1, .inr (.inl (fun _ => 0)))) H3) : ∃ Y, GRb B h0 D DA z0 Y C0 M0 0 H3 := by
  obtain ⟨a1, a2, a3, a4, a5, a6, a7, a8, a9, a10, a11, a12, a13, a14, a15, a16, a17, a18, a19⟩ := h
  have keep : ∀ {q : Nat} {x : va_E}, va_at D gcl (q, x) H → va_at D gcl (q, x) H3 := by
    intro q x hx
    have hq : q < H.size := hx.lt
    exact n3.at (g2.at (n1.at hx) (by omega))
  have z1 := n1.1
  have z2 := g2.1
  have z3 := n3.1
  refine ⟨(fun _ => z0, fun _ => 0, fun _ => 0, fun _ _ => none, fun _ _ => 0, fun _ => 0), fun q hq => ?_, by omega, ?_, keep a3, keep (at_cg_q (fun k hk => if_pos hk) a4), keep (at_cg_q (fun k hk => if_pos hk) a5), keep (at_cg_q (fun k hk => if_pos hk) a6), keep a7, keep a8, keep a9, keep a10, keep a11, keep a12, keep a13, keep a14, fun j j1 j3 => keep (a15 j j1 j3), fun k hk => keep (a17 k hk), fun j k hj hk => keep (a18 j k hj hk), fun k hk => keep (a19 k hk), n3.at m1, fun j hj => n3.at (m2 j hj), n3.at m3, fun j j1 j2 => n3.at (m4 j j1 j2), m5, fun j hj => keep (a16 j hj), fun j hj h0 => absurd h0 (Nat.lt_irrefl 0), fun i hi => absurd hi (Nat.not_lt_zero i), fun j i _ _ hi => absurd hi (Nat.not_lt_zero i)⟩
  · rw [n3.2 q (by omega), g2.2 q (by omega) (by omega), n1.2 q (by omega)]
    exact a1 q hq
  · exact ⟨fun j _ => ⟨Nat.le_refl 0, Nat.zero_le _⟩, fun j _ i hi => absurd hi (Nat.not_lt_zero i), fun j _ => Or.inl ⟨rfl, rfl⟩, fun i hi => absurd hi (Nat.not_lt_zero i), fun j _ _ i hi => absurd hi (Nat.not_lt_zero i), fun i hi => absurd hi (Nat.not_lt_zero i), ⟨Nat.zero_le _, Nat.zero_le _, Nat.zero_le _, Nat.zero_le _, Nat.zero_le _⟩, hz⟩
