set_option maxHeartbeats 4000000 in
set_option maxRecDepth 100000 in
/-- grow(int) -/
theorem ct_J2_grow_2 {l : Launch} {s0 : State} {D : va_G} {DA : Nat → ClassId} {z0 : Nat} {H : Heap} (hE : G0 l s0 D DA z0) {a d n : Nat} {mcn : Int32} (hO : va_at D gcl (a, oL mcn d n) H) {cap : Nat} {g : Nat → Option Nat} (hB : 0 < cap → va_at D gcl (d, oA (DA 6) cap g) H) (hold : ∀ q, q < s0.heap.size → H[q]? = s0.heap[q]?) (hsz : s0.heap.size ≤ H.size) (ha : s0.heap.size ≤ a) (hnc : n = cap) (hc24 : cap ≤ 24) (hz0 : cap = 0 → d = z0) (hel : ∀ i, i < cap → ∀ y, g i = some y → elOk D a H y) : Met l yJ2_grow_2 (ws_ yJ2_grow_2 cJ2_grow_2 4 (some (.array (.object "java/lang/Object")))) ({ frames := 3, cells := 1, slots := 36, locals := 84 }) (cP s0 [.ref a, .int (nI (n + 1))] H) (cQv (.ref H.size) (fun H1 => H1.size = H.size + 1 ∧ (∀ q, q < H.size → q ≠ a → H1[q]? = H[q]?) ∧ va_at D gcl (a, oL mcn H.size n) H1 ∧ va_at D gcl (H.size, oA (DA 6) (ncap cap) (va_cpy g (fun _ => none) 0 0 cap)) H1)) 1 36 (cF s0) := by
  refine Met.ofW (cc := cJ2_grow_2) (maxL := 4) (ret := (some (.array (.object "java/lang/Object")))) (by decide) rfl ?_
  intro p e s m args below meth c s₁ Bd hml hv
  obtain ⟨rfl, rfl, hW0⟩ := hv
  have hx := Bd.exec
  have hb := Bd.bytes
  have hr := Bd.returns
  have hts := atoms_spec (ws := (ws_ yJ2_grow_2 cJ2_grow_2 4 (some (.array (.object "java/lang/Object"))))) Bd.pre
  have hts : ∀ w ∈ lw_all, w.before _ s = true := fun w h => hts w (List.mem_cons_of_mem _ h)
  have hown : s.vm.findClass RJ2 = some m.cls := findClass_of_methodNamed Bd.named
  have hlocks := Bd.notSynchronized
  have hK := va_K.moved hW0.alike hE.K
  have hL : gx_L s0.heap.size ([] : List Loc) := gx_L0
  have hl := lv_entry ([.ref a, .int (nI (n + 1))]) (n := 4) (Nat.le_of_ble_eq_true rfl)
  rw [lg_entry_eq]
  generalize (lg_sl ([.ref a, .int (nI (n + 1))]) ++ List.replicate (4 - (lg_sl ([.ref a, .int (nI (n + 1))])).length) Slot.unset).toArray = ls at hl ⊢
  have hl : lv_has ls 4 [(0, .ref a), (1, .int (nI (n + 1)))] := hl
  have hOl : a < s.heap.size := hO.lt
  have hgr := gr_b cap
  refine lv_aload_n hx hb dJ2_grow_2_0 rfl (lv_at hl 0 rfl) ?_
  refine gx_get (D := D) (cl := gcl) (ci := 1) (v := .ref d) (C := RJ2) (T := TJ2) (N := 3) hx hb hts in_J2 hown hK hO rfl 1 (by decide) (hts _ q100) (fun _ h9 => h9) rfl dJ2_grow_2_1 ?_
  refine gx_alenZ hx hb hE hW0 hold hK hz0 hB dJ2_grow_2_4 ?_
  refine lv_istore_n (lv' := [(2, .int (nI cap)), (0, .ref a), (1, .int (nI (n + 1)))]) hx hb dJ2_grow_2_5 rfl hl (by decide) rfl (fun ls hl => ?_)
  refine lv_iload_n hx hb dJ2_grow_2_6 rfl (lv_at hl 0 rfl) ?_
  refine lv_if_gt (tgt := 20) hx hb dJ2_grow_2_7 (by decide) (fun c7 => ?_) (fun c7 => ?_)
  · have h0 : 0 < cap := by have := n_gt (a := 0) c7 (by omega) (by omega); omega
    refine lv_iload_n hx hb dJ2_grow_2_20 rfl (lv_at hl 0 rfl) ?_
    refine lv_iload_n hx hb dJ2_grow_2_21 rfl (lv_at hl 2 rfl) ?_
    refine lv_iload_n hx hb dJ2_grow_2_22 rfl (lv_at hl 0 rfl) ?_
    refine lv_isub hx hb dJ2_grow_2_23 ?_
    refine gx_ti (1) (by rw [hnc, pk_sub (by omega)]; show nI _ = nI 1; congr 1; omega) ?_
    refine lv_iload_n hx hb dJ2_grow_2_24 rfl (lv_at hl 0 rfl) ?_
    refine lv_iconst (v := 1) hx hb dJ2_grow_2_25 (by decide) ?_
    refine lv_ishr hx hb dJ2_grow_2_26 ?_
    refine gx_ti (nI (cap / 2)) (pk_shrN (by omega) ((1 : Int32) &&& 31) 1 (by decide)) ?_
    refine cc_v (va_runS (As := [.int (nI cap), .int 1, .int (nI (cap / 2))]) (rest := []) ⟨hx, hb, hml, hown, hts⟩ (ct_J12_newLength (n := cap) hE (by omega) (by omega)) (va_cwS 3 hts (lw_S q331 q332 q72 q333) rfl rfl rfl (by decide +kernel) ⟨Nat.le_of_ble_eq_true rfl, Nat.le_of_ble_eq_true rfl⟩) (cc_pS hW0) rfl rfl hl.1 rfl (lv_room (Nat.le_of_ble_eq_true rfl)) dJ2_grow_2_27 ⟨Nat.le_of_ble_eq_true rfl, Nat.le_of_ble_eq_true rfl⟩) hL (fun H locs hP1 hL => ?_)
    subst hP1
    refine lv_istore_n (lv' := [(3, .int (nI (cap + gr cap))), (2, .int (nI cap)), (0, .ref a), (1, .int (nI (n + 1)))]) hx hb dJ2_grow_2_30 rfl hl (by decide) rfl (fun ls hl => ?_)
    refine lv_aload_n hx hb dJ2_grow_2_31 rfl (lv_at hl 2 rfl) ?_
    refine lv_aload_n hx hb dJ2_grow_2_32 rfl (lv_at hl 2 rfl) ?_
    refine gx_get (D := D) (cl := gcl) (ci := 1) (v := .ref d) (C := RJ2) (T := TJ2) (N := 3) hx hb hts in_J2 hown hK hO rfl 1 (by decide) (hts _ q100) (fun _ h9 => h9) rfl dJ2_grow_2_33 ?_
    refine lv_iload_n hx hb dJ2_grow_2_36 rfl (lv_at hl 0 rfl) ?_
    refine cc_v (va_runS (As := [.ref d, .int (nI (cap + gr cap))]) (rest := [.ref a]) ⟨hx, hb, hml, hown, hts⟩ (ct_J14_copyOf (k := cap + gr cap) hE (hB h0) (by omega) (by omega) (by omega) hsz (fun i hi y hy s hW => (hel i hi y hy).any hE hW)) (va_cwS 2 hts (lw_S q341 q342 q74 q343) rfl rfl rfl (by decide +kernel) ⟨Nat.le_of_ble_eq_true rfl, Nat.le_of_ble_eq_true rfl⟩) (cc_pS hW0) rfl rfl hl.1 rfl (lv_room (Nat.le_of_ble_eq_true rfl)) dJ2_grow_2_37 ⟨Nat.le_of_ble_eq_true rfl, Nat.le_of_ble_eq_true rfl⟩) hL (fun H locs hP1 hL => ?_)
    obtain ⟨hsz1, hkk, hA1⟩ := hP1
    have hO : va_at D gcl (a, oL mcn d n) H := hO.kept (hkk _ hO.lt)
    have hA1 : va_at D gcl (s.heap.size, oA (DA 6) (ncap cap) (va_cpy g (fun _ => none) 0 0 cap)) H := by rw [ncap_p h0]; exact hA1
    refine lv_dup_x1 hx hb dJ2_grow_2_40 rfl rfl ?_
    refine gx_put (D := D) (cl := gcl) (ci := 1) (v := .ref s.heap.size) (ty := (.array (.object "java/lang/Object"))) (C := RJ2) (T := TJ2) (N := 3) hx hb hts in_J2 tyJ2 tyJ2_ok nmJ2 hown hK hO rfl 1 (by decide) (hts _ q100) (fun _ h9 => h9) rfl (by decide +kernel) (rfl) rfl (Nat.le_of_ble_eq_true rfl) hL (by (try simp only [aI, aA, aT, aB, aL, mad]); omega) dJ2_grow_2_41 (fun H locs hU hA hL => ?_)
    have hO : va_at D gcl (a, oL mcn s.heap.size n) H := hA
    refine W.widen (k := 1) (n := 36) (by omega) (by omega) ?_
    exact W.aret hx hb hr (Or.inr ⟨_, rfl⟩) (Or.inr ⟨_, rfl⟩) (fun t ht hW => ⟨rfl, by rw [ht]; exact ⟨by rw [hU.1]; exact hsz1, fun q hq hqa => (hU.2 q hqa).trans (hkk q hq), hO, hU.at (by omega) hA1⟩⟩) hL dJ2_grow_2_44
  · have h0 : cap = 0 := by have := n_le (a := 0) c7 (by omega) (by omega); omega
    refine lv_aload_n hx hb dJ2_grow_2_10 rfl (lv_at hl 1 rfl) ?_
    refine gx_get (D := D) (cl := gcl) (ci := 1) (v := .ref d) (C := RJ2) (T := TJ2) (N := 3) hx hb hts in_J2 hown hK hO rfl 1 (by decide) (hts _ q100) (fun _ h9 => h9) rfl dJ2_grow_2_11 ?_
    obtain ⟨cf, kf, fi, f, az, cz, w1, w2, w3, w4, w5, w6, w7⟩ := hE.zst hW0 hold
    refine gx_gets hx hb hown (hts _ q98) w1 w2 w3 w4 w5 w6 w7 dJ2_grow_2_14 ?_
    refine lv_acmp_eq (rx := some d) (ry := some z0) (tgt := 45) hx hb dJ2_grow_2_17 (by decide) (fun c17 => ?_) (fun c17 => ?_)
    · refine lv_aload_n hx hb dJ2_grow_2_45 rfl (lv_at hl 1 rfl) ?_
      refine lv_bipush (v := 10) hx hb dJ2_grow_2_46 (by decide) ?_
      refine lv_iload_n hx hb dJ2_grow_2_48 rfl (lv_at hl 2 rfl) ?_
      refine va_mmax hx hb (by rw [hml]; exact hl.1.symm) hown (hts _ q376) (hts _ q335) (hts _ q73) (hts _ q336) (Nat.le_of_ble_eq_true rfl) (Nat.le_of_ble_eq_true rfl) (Nat.le_of_ble_eq_true rfl) (Nat.le_of_ble_eq_true rfl) dJ2_grow_2_49 ?_
      refine gx_ti (nI 10) (by rw [hnc, h0]; decide) ?_
      refine gx_newq hx hb hown (hts _ q377) (hE.nA hW0 q368) hK 6 rfl (N' := 10) (by decide) (by decide) (by decide) (Nat.le_of_ble_eq_true rfl) (Nat.le_of_ble_eq_true rfl) dJ2_grow_2_52 (fun H hN hA1 => ?_)
      have hO : va_at D gcl (a, oL mcn d n) H := hN.at hO
      have hkk : ∀ q, q < s.heap.size → H[q]? = s.heap[q]? := hN.2
      have hsz1 : H.size = s.heap.size + 1 := hN.1
      have hA1 : va_at D gcl (s.heap.size, oA (DA 6) (ncap cap) (va_cpy g (fun _ => none) 0 0 cap)) H := by subst h0; rw [cpy_0]; exact hA1
      refine lv_dup_x1 hx hb dJ2_grow_2_55 rfl rfl ?_
      refine gx_put (D := D) (cl := gcl) (ci := 1) (v := .ref s.heap.size) (ty := (.array (.object "java/lang/Object"))) (C := RJ2) (T := TJ2) (N := 3) hx hb hts in_J2 tyJ2 tyJ2_ok nmJ2 hown hK hO rfl 1 (by decide) (hts _ q100) (fun _ h9 => h9) rfl (by decide +kernel) (rfl) rfl (Nat.le_of_ble_eq_true rfl) hL (by (try simp only [aI, aA, aT, aB, aL, mad]); omega) dJ2_grow_2_56 (fun H locs hU hA hL => ?_)
      have hO : va_at D gcl (a, oL mcn s.heap.size n) H := hA
      refine W.widen (k := 1) (n := 36) (by omega) (by omega) ?_
      exact W.aret hx hb hr (Or.inr ⟨_, rfl⟩) (Or.inr ⟨_, rfl⟩) (fun t ht hW => ⟨rfl, by rw [ht]; exact ⟨by rw [hU.1]; exact hsz1, fun q hq hqa => (hU.2 q hqa).trans (hkk q hq), hO, hU.at (by omega) hA1⟩⟩) hL dJ2_grow_2_59
    · exact absurd (by rw [hz0 h0]) c17
set_option maxHeartbeats 4000000 in
set_option maxRecDepth 100000 in
/-- grow() -/
theorem ct_J2_grow {l : Launch} {s0 : State} {D : va_G} {DA : Nat → ClassId} {z0 : Nat} {H : Heap} (hE : G0 l s0 D DA z0) {a d n : Nat} {mcn : Int32} (hO : va_at D gcl (a, oL mcn d n) H) {cap : Nat} {g : Nat → Option Nat} (hB : 0 < cap → va_at D gcl (d, oA (DA 6) cap g) H) (hold : ∀ q, q < s0.heap.size → H[q]? = s0.heap[q]?) (hsz : s0.heap.size ≤ H.size) (ha : s0.heap.size ≤ a) (hnc : n = cap) (hc24 : cap ≤ 24) (hz0 : cap = 0 → d = z0) (hel : ∀ i, i < cap → ∀ y, g i = some y → elOk D a H y) : Met l yJ2_grow (ws_ yJ2_grow cJ2_grow 1 (some (.array (.object "java/lang/Object")))) ({ frames := 4, cells := 1, slots := 36, locals := 107 }) (cP s0 [.ref a] H) (cQv (.ref H.size) (fun H1 => H1.size = H.size + 1 ∧ (∀ q, q < H.size → q ≠ a → H1[q]? = H[q]?) ∧ va_at D gcl (a, oL mcn H.size n) H1 ∧ va_at D gcl (H.size, oA (DA 6) (ncap cap) (va_cpy g (fun _ => none) 0 0 cap)) H1)) 1 36 (cF s0) := by
  refine Met.ofW (cc := cJ2_grow) (maxL := 1) (ret := (some (.array (.object "java/lang/Object")))) (by decide) rfl ?_
  intro p e s m args below meth c s₁ Bd hml hv
  obtain ⟨rfl, rfl, hW0⟩ := hv
  have hx := Bd.exec
  have hb := Bd.bytes
  have hr := Bd.returns
  have hts := atoms_spec (ws := (ws_ yJ2_grow cJ2_grow 1 (some (.array (.object "java/lang/Object"))))) Bd.pre
  have hts : ∀ w ∈ lw_all, w.before _ s = true := fun w h => hts w (List.mem_cons_of_mem _ h)
  have hown : s.vm.findClass RJ2 = some m.cls := findClass_of_methodNamed Bd.named
  have hlocks := Bd.notSynchronized
  have hK := va_K.moved hW0.alike hE.K
  have hL : gx_L s0.heap.size ([] : List Loc) := gx_L0
  have hl := lv_entry ([.ref a]) (n := 1) (Nat.le_of_ble_eq_true rfl)
  rw [lg_entry_eq]
  generalize (lg_sl ([.ref a]) ++ List.replicate (1 - (lg_sl ([.ref a])).length) Slot.unset).toArray = ls at hl ⊢
  have hl : lv_has ls 1 [(0, .ref a)] := hl
  refine lv_aload_n hx hb dJ2_grow_0 rfl (lv_at hl 0 rfl) ?_
  refine lv_aload_n hx hb dJ2_grow_1 rfl (lv_at hl 0 rfl) ?_
  refine gx_get (D := D) (cl := gcl) (ci := 1) (v := .int (nI n)) (C := RJ2) (T := TJ2) (N := 3) hx hb hts in_J2 hown hK hO rfl 2 (by decide) (hts _ q101) (fun _ h9 => h9) rfl dJ2_grow_2 ?_
  refine lv_iconst (v := 1) hx hb dJ2_grow_5 (by decide) ?_
  refine lv_iadd hx hb dJ2_grow_6 ?_
  refine gx_ti (nI (n + 1)) (nI_add n 1) ?_
  refine cc_v (va_runV (b := a) (As := [.int (nI (n + 1))]) (rest := []) ⟨hx, hb, hml, hown, hts⟩ (ct_J2_grow_2 hE hO hB hold hsz ha hnc hc24 hz0 hel) (cwV 1 hts (lw_V q327 q329 qs3 q50 q330) rfl rfl rfl (by decide +kernel) ⟨Nat.le_of_ble_eq_true rfl, Nat.le_of_ble_eq_true rfl⟩) (cc_pV hW0 (cc_re hK hO (show gcl[1]? = _ from rfl))) rfl rfl hl.1 rfl (lv_room (Nat.le_of_ble_eq_true rfl)) dJ2_grow_7 ⟨Nat.le_of_ble_eq_true rfl, Nat.le_of_ble_eq_true rfl⟩) hL (fun H locs hP1 hL => ?_)
  exact W.aret hx hb hr (Or.inr ⟨_, rfl⟩) (Or.inr ⟨_, rfl⟩) (fun t ht hW => ⟨rfl, by rw [ht]; exact hP1⟩) hL dJ2_grow_10
set_option maxHeartbeats 4000000 in
set_option maxRecDepth 100000 in
/-- add(E, Object[], int) -/
theorem ct_J2_add_2 {l : Launch} {s0 : State} {D : va_G} {DA : Nat → ClassId} {z0 : Nat} {H : Heap} (hE : G0 l s0 D DA z0) {a d n : Nat} {mcn : Int32} (hO : va_at D gcl (a, oL mcn d n) H) {cap : Nat} {g : Nat → Option Nat} (hB : 0 < cap → va_at D gcl (d, oA (DA 6) cap g) H) (hold : ∀ q, q < s0.heap.size → H[q]? = s0.heap[q]?) (hsz : s0.heap.size ≤ H.size) (ha : s0.heap.size ≤ a) (hnc : n ≤ cap) (hn24 : n ≤ 24) (hc36 : cap ≤ 36) (hz0 : cap = 0 → d = z0) (hda : d ≠ a) (hdd : 0 < cap → s0.heap.size ≤ d) (hel : n = cap → ∀ i, i < cap → ∀ y, g i = some y → elOk D a H y) {v : Nat} (hv : elOk D a H v) : Met l yJ2_add_2 (ws_ yJ2_add_2 cJ2_add_2 4 none) ({ frames := 5, cells := 1, slots := 36, locals := 127 }) (cP s0 [.ref a, .ref v, .ref d, .int (nI n)] H) (cQ0 (fun H1 => lAdd D (DA 6) a d cap n g mcn v H H1)) 1 36 (cF s0) := by
  refine Met.ofW (cc := cJ2_add_2) (maxL := 4) (ret := none) (by decide) rfl ?_
  intro p e s m args below meth c s₁ Bd hml hv
  obtain ⟨rfl, rfl, hW0⟩ := hv
  have hx := Bd.exec
  have hb := Bd.bytes
  have hr := Bd.returns
  have hts := atoms_spec (ws := (ws_ yJ2_add_2 cJ2_add_2 4 none)) Bd.pre
  have hts : ∀ w ∈ lw_all, w.before _ s = true := fun w h => hts w (List.mem_cons_of_mem _ h)
  have hown : s.vm.findClass RJ2 = some m.cls := findClass_of_methodNamed Bd.named
  have hlocks := Bd.notSynchronized
  have hK := va_K.moved hW0.alike hE.K
  have hL : gx_L s0.heap.size ([] : List Loc) := gx_L0
  have hl := lv_entry ([.ref a, .ref v, .ref d, .int (nI n)]) (n := 4) (Nat.le_of_ble_eq_true rfl)
  rw [lg_entry_eq]
  generalize (lg_sl ([.ref a, .ref v, .ref d, .int (nI n)]) ++ List.replicate (4 - (lg_sl ([.ref a, .ref v, .ref d, .int (nI n)])).length) Slot.unset).toArray = ls at hl ⊢
  have hl : lv_has ls 4 [(0, .ref a), (1, .ref v), (2, .ref d), (3, .int (nI n))] := hl
  have hB0 : d < s.heap.size := by
    rcases Nat.eq_zero_or_pos cap with h | h
    · have := hE.z0lt; rw [hz0 h]; omega
    · exact (hB h).lt
  have hOl : a < s.heap.size := hO.lt
  refine lv_iload_n hx hb dJ2_add_2_0 rfl (lv_at hl 3 rfl) ?_
  refine lv_aload_n hx hb dJ2_add_2_1 rfl (lv_at hl 2 rfl) ?_
  refine gx_alenZ hx hb hE hW0 hold hK hz0 hB dJ2_add_2_2 ?_
  refine lv_icmp_ne (tgt := 11) hx hb dJ2_add_2_3 (by decide) (fun c3 => ?_) (fun c3 => ?_)
  · have hlt : n < cap := by have := mt (nI_eq (a := n) (b := cap) (by omega) (by omega)).mpr c3; omega
    refine lv_aload_n hx hb dJ2_add_2_11 rfl (lv_at hl 2 rfl) ?_
    refine lv_iload_n hx hb dJ2_add_2_12 rfl (lv_at hl 3 rfl) ?_
    refine lv_aload_n hx hb dJ2_add_2_13 rfl (lv_at hl 1 rfl) ?_
    refine gx_aast hx hb hK 6 (hB (by omega)) rfl (hv.any hE hW0) n rfl (by omega) (by omega) hL (hdd (by omega)) dJ2_add_2_14 (fun H locs hU2 hB hL => ?_)
    have hO : va_at D gcl (a, oL mcn d n) H := hU2.at hda.symm hO
    refine lv_aload_n hx hb dJ2_add_2_15 rfl (lv_at hl 0 rfl) ?_
    refine lv_iload_n hx hb dJ2_add_2_16 rfl (lv_at hl 3 rfl) ?_
    refine lv_iconst (v := 1) hx hb dJ2_add_2_17 (by decide) ?_
    refine lv_iadd hx hb dJ2_add_2_18 ?_
    refine gx_ti (nI (n + 1)) (nI_add n 1) ?_
    refine gx_put (D := D) (cl := gcl) (ci := 1) (v := .int (nI (n + 1))) (ty := .int) (C := RJ2) (T := TJ2) (N := 3) hx hb hts in_J2 tyJ2 tyJ2_ok nmJ2 hown hK hO rfl 2 (by decide) (hts _ q101) (fun _ h9 => h9) rfl (by decide +kernel) (rfl) rfl (Nat.le_of_ble_eq_true rfl) hL (by (try simp only [aI, aA, aT, aB, aL, mad]); omega) dJ2_add_2_19 (fun H locs hU hA hL => ?_)
    have hO : va_at D gcl (a, oL mcn d (n + 1)) H := hA
    have hU1 := hU
    refine W.widen (k := 1) (n := 36) (by omega) (by omega) ?_
    exact W.vret hx hb hr (fun t ht hW => ⟨rfl, by rw [ht]; exact ⟨d, cap, va_up g n (some v), ⟨by rw [hU1.1, hU2.1]; exact Nat.le_refl _, fun q hq hqa => (hU1.2 q (fun z => hqa (Or.inl z))).trans (hU2.2 q (fun z => hqa (Or.inr z)))⟩, hO, hU1.at hda hB, hlt, hc36, fun i hi => va_up_ne _ _ (by omega), va_up_self _ _ _, Or.inl ⟨rfl, hlt⟩⟩⟩) hL dJ2_add_2_22
  · have hec : n = cap := (nI_eq (by omega) (by omega)).mp c3
    refine lv_aload_n hx hb dJ2_add_2_6 rfl (lv_at hl 0 rfl) ?_
    refine cc_v (va_runV (b := a) (As := []) (rest := []) ⟨hx, hb, hml, hown, hts⟩ (ct_J2_grow hE hO hB hold hsz ha hec (by omega) hz0 (hel hec)) (cwV 0 hts (lw_V q323 q325 qs2 q50 q326) rfl rfl rfl (by decide +kernel) ⟨Nat.le_of_ble_eq_true rfl, Nat.le_of_ble_eq_true rfl⟩) (cc_pV hW0 (cc_re hK hO (show gcl[1]? = _ from rfl))) rfl rfl hl.1 rfl (lv_room (Nat.le_of_ble_eq_true rfl)) dJ2_add_2_7 ⟨Nat.le_of_ble_eq_true rfl, Nat.le_of_ble_eq_true rfl⟩) hL (fun H locs hP1 hL => ?_)
    obtain ⟨hs1, hk1, hO1, hB1⟩ := hP1
    have hv1 := hv.kept hk1
    have hnn : n < ncap cap := by have := ncap_b (c := cap) (by omega); omega
    refine lv_astore_n (lv' := [(2, .ref s.heap.size), (0, .ref a), (1, .ref v), (3, .int (nI n))]) hx hb dJ2_add_2_10 rfl hl (by decide) rfl (fun ls hl => ?_)
    refine lv_aload_n hx hb dJ2_add_2_11 rfl (lv_at hl 0 rfl) ?_
    refine lv_iload_n hx hb dJ2_add_2_12 rfl (lv_at hl 3 rfl) ?_
    refine lv_aload_n hx hb dJ2_add_2_13 rfl (lv_at hl 2 rfl) ?_
    refine gx_aast hx hb hK 6 hB1 rfl (hv1.any hE hW0) n rfl hnn (by have := ncap_b (c := cap) (by omega); omega) hL hsz dJ2_add_2_14 (fun H locs hU2 hB hL => ?_)
    have hO : va_at D gcl (a, oL mcn s.heap.size n) H := hU2.at (by have := hO.lt; omega) hO1
    refine lv_aload_n hx hb dJ2_add_2_15 rfl (lv_at hl 1 rfl) ?_
    refine lv_iload_n hx hb dJ2_add_2_16 rfl (lv_at hl 3 rfl) ?_
    refine lv_iconst (v := 1) hx hb dJ2_add_2_17 (by decide) ?_
    refine lv_iadd hx hb dJ2_add_2_18 ?_
    refine gx_ti (nI (n + 1)) (nI_add n 1) ?_
    refine gx_put (D := D) (cl := gcl) (ci := 1) (v := .int (nI (n + 1))) (ty := .int) (C := RJ2) (T := TJ2) (N := 3) hx hb hts in_J2 tyJ2 tyJ2_ok nmJ2 hown hK hO rfl 2 (by decide) (hts _ q101) (fun _ h9 => h9) rfl (by decide +kernel) (rfl) rfl (Nat.le_of_ble_eq_true rfl) hL (by (try simp only [aI, aA, aT, aB, aL, mad]); omega) dJ2_add_2_19 (fun H locs hU hA hL => ?_)
    have hO : va_at D gcl (a, oL mcn s.heap.size (n + 1)) H := hA
    have hU1 := hU
    refine W.widen (k := 1) (n := 36) (by omega) (by omega) ?_
    exact W.vret hx hb hr (fun t ht hW => ⟨rfl, by rw [ht]; exact ⟨s.heap.size, ncap cap, va_up (va_cpy g (fun _ => none) 0 0 cap) n (some v), ⟨by rw [hU1.1, hU2.1, hs1]; omega, fun q hq hqa => (hU1.2 q (fun z => hqa (Or.inl z))).trans ((hU2.2 q (by omega)).trans (hk1 q hq (fun z => hqa (Or.inl z))))⟩, hO, hU1.at (by omega) hB, hnn, (ncap_b (by omega)).2, fun i hi => by rw [va_up_ne _ _ (by omega), pk_cpy_in (by omega) (by omega)]; congr 1; omega, va_up_self _ _ _, Or.inr ⟨rfl, hec.symm, (hU1.2 d hda).trans ((hU2.2 d (by have := hB0; omega)).trans (hk1 d hB0 hda))⟩⟩⟩) hL dJ2_add_2_22
set_option maxHeartbeats 4000000 in
set_option maxRecDepth 100000 in
/-- add(E) -/
theorem ct_J2_add {l : Launch} {s0 : State} {D : va_G} {DA : Nat → ClassId} {z0 : Nat} {H : Heap} (hE : G0 l s0 D DA z0) {a d n : Nat} {mcn : Int32} (hO : va_at D gcl (a, oL mcn d n) H) {cap : Nat} {g : Nat → Option Nat} (hB : 0 < cap → va_at D gcl (d, oA (DA 6) cap g) H) (hold : ∀ q, q < s0.heap.size → H[q]? = s0.heap[q]?) (hsz : s0.heap.size ≤ H.size) (ha : s0.heap.size ≤ a) (hnc : n ≤ cap) (hn24 : n ≤ 24) (hc36 : cap ≤ 36) (hz0 : cap = 0 → d = z0) (hda : d ≠ a) (hdd : 0 < cap → s0.heap.size ≤ d) (hel : n = cap → ∀ i, i < cap → ∀ y, g i = some y → elOk D a H y) {v : Nat} (hv : elOk D a H v) : Met l yJ2_add (ws_ yJ2_add cJ2_add 2 (some .boolean)) ({ frames := 6, cells := 1, slots := 36, locals := 150 }) (cP s0 [.ref a, .ref v] H) (cQv (.int 1) (fun H1 => lAdd D (DA 6) a d cap n g (mcn + 1) v H H1)) 1 36 (cF s0) := by
  refine Met.ofW (cc := cJ2_add) (maxL := 2) (ret := (some .boolean)) (by decide) rfl ?_
  intro p e s m args below meth c s₁ Bd hml hv
  obtain ⟨rfl, rfl, hW0⟩ := hv
  have hx := Bd.exec
  have hb := Bd.bytes
  have hr := Bd.returns
  have hts := atoms_spec (ws := (ws_ yJ2_add cJ2_add 2 (some .boolean))) Bd.pre
  have hts : ∀ w ∈ lw_all, w.before _ s = true := fun w h => hts w (List.mem_cons_of_mem _ h)
  have hown : s.vm.findClass RJ2 = some m.cls := findClass_of_methodNamed Bd.named
  have hlocks := Bd.notSynchronized
  have hK := va_K.moved hW0.alike hE.K
  have hL : gx_L s0.heap.size ([] : List Loc) := gx_L0
  have hl := lv_entry ([.ref a, .ref v]) (n := 2) (Nat.le_of_ble_eq_true rfl)
  rw [lg_entry_eq]
  generalize (lg_sl ([.ref a, .ref v]) ++ List.replicate (2 - (lg_sl ([.ref a, .ref v])).length) Slot.unset).toArray = ls at hl ⊢
  have hl : lv_has ls 2 [(0, .ref a), (1, .ref v)] := hl
  have hB0 := hB
  refine lv_aload_n hx hb dJ2_add_0 rfl (lv_at hl 0 rfl) ?_
  refine lv_dup hx hb dJ2_add_1 rfl ?_
  refine gx_get (D := D) (cl := gcl) (ci := 1) (v := .int mcn) (C := RJ2) (T := TJ2) (N := 3) hx hb hts in_J2 hown hK hO rfl 0 (by decide) (hts _ q103) (u_same (hts _ q104)) rfl dJ2_add_2 ?_
  refine lv_iconst (v := 1) hx hb dJ2_add_5 (by decide) ?_
  refine lv_iadd hx hb dJ2_add_6 ?_
  refine gx_put (D := D) (cl := gcl) (ci := 1) (v := .int (mcn + 1)) (ty := .int) (C := RJ2) (T := TJ2) (N := 3) hx hb hts in_J2 tyJ2 tyJ2_ok nmJ2 hown hK hO rfl 0 (by decide) (hts _ q103) (u_same (hts _ q104)) rfl (by decide +kernel) (rfl) rfl (Nat.le_of_ble_eq_true rfl) hL (by (try simp only [aI, aA, aT, aB, aL, mad]); omega) dJ2_add_7 (fun H locs hU hA hL => ?_)
  have hO : va_at D gcl (a, oL (mcn + 1) d n) H := hA
  have hU1 := hU
  have hB : 0 < cap → va_at D gcl (d, oA (DA 6) cap g) H := fun h => hU.at hda (hB h)
  refine lv_aload_n hx hb dJ2_add_10 rfl (lv_at hl 0 rfl) ?_
  refine lv_aload_n hx hb dJ2_add_11 rfl (lv_at hl 1 rfl) ?_
  refine lv_aload_n hx hb dJ2_add_12 rfl (lv_at hl 0 rfl) ?_
  refine gx_get (D := D) (cl := gcl) (ci := 1) (v := .ref d) (C := RJ2) (T := TJ2) (N := 3) hx hb hts in_J2 hown hK hO rfl 1 (by decide) (hts _ q100) (fun _ h9 => h9) rfl dJ2_add_13 ?_
  refine lv_aload_n hx hb dJ2_add_16 rfl (lv_at hl 0 rfl) ?_
  refine gx_get (D := D) (cl := gcl) (ci := 1) (v := .int (nI n)) (C := RJ2) (T := TJ2) (N := 3) hx hb hts in_J2 hown hK hO rfl 2 (by decide) (hts _ q101) (fun _ h9 => h9) rfl dJ2_add_17 ?_
  refine cc_0 (va_runV (b := a) (As := [.ref v, .ref d, .int (nI n)]) (rest := []) ⟨hx, hb, hml, hown, hts⟩ (ct_J2_add_2 (mcn := mcn + 1) hE hO hB (fun q hq => (hU1.2 q (by omega)).trans (hold q hq)) (by rw [hU1.1]; exact hsz) ha hnc hn24 hc36 hz0 hda hdd (fun h i hi y hy => (hel h i hi y hy).U hU1) (hv.U hU1)) (cwV 3 hts (lw_V q319 q321 qs1 q50 q322) rfl rfl rfl (by decide +kernel) ⟨Nat.le_of_ble_eq_true rfl, Nat.le_of_ble_eq_true rfl⟩) (cc_pV hW0 (cc_re hK hO (show gcl[1]? = _ from rfl))) rfl rfl hl.1 rfl (lv_room (Nat.le_of_ble_eq_true rfl)) dJ2_add_20 ⟨Nat.le_of_ble_eq_true rfl, Nat.le_of_ble_eq_true rfl⟩) hL (fun H locs hP1 hL => ?_)
  refine lv_iconst (v := 1) hx hb dJ2_add_23 (by decide) ?_
  exact W.zret (v := 1) hx hb hr (rfl) (fun t ht hW => ⟨rfl, by rw [ht]; exact lAdd_U hU1 hda hP1⟩) hL dJ2_add_24
