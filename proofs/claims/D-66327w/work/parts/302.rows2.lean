/-! ROWS: casts, the JDK's static, arraycopy, interface calls -/
theorem G0.zst {l : Launch} {s0 s : State} {D : va_G} {DA : Nat → ClassId} {z0 : Nat} (h : G0 l s0 D DA z0) (hW : s0.WarmedH s.vm) {H : Heap} (hH : ∀ q, q < s0.heap.size → H[q]? = s0.heap[q]?) :
    ∃ (cf : ClassId) (kf : Class) (fi : Nat) (f : Field) (a : Nat) (cell : Cell), s.fieldFound? "java/util/ArrayList" "DEFAULTCAPACITY_EMPTY_ELEMENTDATA" "[Ljava/lang/Object;" = some (cf, kf, fi, f) ∧ f.isStatic = true ∧ kf.init = .initialized ∧ kf.statics = some a ∧ H[a]? = some cell ∧ cell.vm ≠ .unknown ∧ cell.slots[f.slot]? = some (.ref z0) := by
  obtain ⟨cf, kf, fi, f, a, cell, h1, h2, h3, h4, h5, h6, h7⟩ := h.2.2.2.2
  obtain ⟨k', hi', hek⟩ := State.fieldFound?_setVm hW.alike h1
  have hi2 : s.fieldFound? "java/util/ArrayList" "DEFAULTCAPACITY_EMPTY_ELEMENTDATA" "[Ljava/lang/Object;" = some (cf, k', fi, f) := hi'
  exact ⟨cf, k', fi, f, a, cell, hi2, h2, by rw [hek]; exact h3, by rw [hek]; exact h4, by rw [hH a (Array.getElem?_eq_some_iff.mp h5).1]; exact h5, h6, h7⟩
theorem G0.z0at {l : Launch} {s0 : State} {D : va_G} {DA : Nat → ClassId} {z0 : Nat} (h : G0 l s0 D DA z0) : ∃ cz : Cell, s0.heap[z0]? = some cz ∧ s0.isArrayOf cz (.object "java/lang/Object") ∧ cz.vm ≠ .unknown ∧ cz.slots.size = 0 := h.2.2.2.1
theorem G0.z0lt {l : Launch} {s0 : State} {D : va_G} {DA : Nat → ClassId} {z0 : Nat} (h : G0 l s0 D DA z0) : z0 < s0.heap.size := by
  obtain ⟨cz, h1, -⟩ := h.z0at
  exact (Array.getElem?_eq_some_iff.mp h1).1
section GXB
variable {p : Program} {l : Launch} {e : Env} {R : Room} {s : State} {m : MethodId} {args : Array Value} {below : List Frame} {meth : Method} {c : Code} {H : Heap} {locs : List Loc} {cells slots : Nat} {Q : State → Prop}
variable {cc : ByteArray} {pc : Nat} {ls : Array Slot} {rest : List Value} {D : va_G} {cl : List vw_C} {a b : Nat} {tys : List (ClassId × FieldType)}
theorem gx_castS (hexec : p.tables.exec = Jvm.exec) (hb : c.code = cc) {own nm : String} {T : u_T} {N ci index : Nat} {fs : List Value} (hown : s.vm.findClass own = some m.cls) (hlink : (Cond.classLink own index nm).before args s = true) (hK : va_K D cl tys s) (hA : va_at D cl (a, .inr (ci, fs)) H) (hc : cl[ci]? = some (nm, T, N)) (hdg : decode cc pc = .ok (.checkcast index, 3))
    (k : W p l e R s m args below meth c H locs cells slots Q (F0 m (pc + 3) ls (.ref a :: rest))) : W p l e R s m args below meth c H locs cells slots Q (F0 m pc ls (.ref a :: rest)) :=
  va_castS hexec hb hown hlink (hK.1 ci _ hc).2 (cc_re hK hA hc) hdg k
theorem gx_castY (hexec : p.tables.exec = Jvm.exec) (hb : c.code = cc) {own nm : String} {q : vw_C} {ci index : Nat} {fs : List Value} (hown : s.vm.findClass own = some m.cls) (hlink : (Cond.classLink own index nm).before args s = true) (hK : va_K D cl tys s) (hA : va_at D cl (a, .inr (ci, fs)) H) (hc : cl[ci]? = some q) (hca : va_Nw (.castable q.1 nm) s) (hdg : decode cc pc = .ok (.checkcast index, 3))
    (k : W p l e R s m args below meth c H locs cells slots Q (F0 m (pc + 3) ls (.ref a :: rest))) : W p l e R s m args below meth c H locs cells slots Q (F0 m pc ls (.ref a :: rest)) :=
  va_castY hexec hb hown hlink hca (cc_re hK hA hc) hdg k
/-- what may be stored into an array of E: an object of a class that can be cast to E -/
theorem gx_any {ci : Nat} {q : vw_C} {fs : List Value} {E : String} (hK : va_K D cl tys s) (hA : va_at D cl (a, .inr (ci, fs)) H) (hc : cl[ci]? = some q) (hca : va_Nw (.castable q.1 E) s) : va_Any E s H a := by
  obtain ⟨cell, h1, h2, h3⟩ := cc_re hK hA hc
  obtain ⟨kC, hkC, -⟩ := Vm.findClass_spec h3
  exact ⟨cell, h1, h2, ⟨kC, hkC⟩, fun comp hcomp => vb_asgC hca comp _ hcomp h3⟩
/-- null into an array of references -/
theorem gx_aastN (hexec : p.tables.exec = Jvm.exec) (hb : c.code = cc) (hK : va_K D cl tys s) (t0 : Nat) {cA : ClassId} {C : String} {n : Nat} {f : Nat → Option Nat} (hA : va_at D cl (a, .inl (cA, n, .inr (.inr (.inr (.inr f))))) H) (ht : tys[t0]? = some (cA, .object C)) {i : Int32} (k : Nat) (hi : i = nI k) (hk : k < n) (hn : n < 2 ^ 31) (hL : gx_L b locs) (hba : b ≤ a) (hdg : decode cc pc = .ok (.aastore, 1))
    (kk : ∀ (H1 : Heap) (locs1 : List Loc), gx_U a H H1 → va_at D cl (a, .inl (cA, n, .inr (.inr (.inr (.inr (va_up f k none)))))) H1 → gx_L b locs1 → W p l e R s m args below meth c H1 locs1 cells slots Q (F0 m (pc + 1) ls rest)) : W p l e R s m args below meth c H locs cells slots Q (F0 m pc ls (.null :: .int i :: .ref a :: rest)) := by
  subst hi
  have hcl := nI_clamp (Nat.lt_trans hk hn)
  refine va_WaastN (C := C) hexec hb hA ((hK.2 t0 _ ht).1 n (fun j => va_rf (f j))) (fun h => by cases h) (by show ¬ (nI k < 0 ∨ (arrV _ _ _).slots.size ≤ _); rw [arrV_size]; exact vp_in_nI hk hn) rfl rfl hdg fun H1 e1 z oq => ?_
  refine kk H1 _ ⟨z, oq⟩ ?_ (gx_L1 hL hba)
  show H1[a]? = some (vp_cell _ _)
  rw [e1, hcl]
  show some ((arrV cA n (fun j => va_rf (f j))).setSlot k .null) = some (arrV cA n (fun j => va_rf (va_up f k none j)))
  rw [arrV_store]
  congr 2
  funext q
  by_cases hq : q = k
  · subst hq
    simp [updV, va_up, va_rf]
  · simp [updV, va_up, hq]
/-- System.arraycopy of references; who is copied can be stored -/
theorem gx_copyq (hexec : p.tables.exec = Jvm.exec) (hb : c.code = cc) (hml : c.maxLocals = ls.size) {own : String} {index : Nat} (hown : s.vm.findClass own = some m.cls) (hlink : (Cond.methodLink own index arraycopyName).before args s = true) (hnat : (Cond.native arraycopyName).before args s = true) (hstat : (Cond.static arraycopyName).before args s = true) (hini : (Cond.initialized "java/lang/System").before args s = true)
    (hK : va_K D cl tys s) (t0 t1 : Nat) {a0 : Nat} {c0 c1 : ClassId} {n0 n1 : Nat} {f g : Nat → Option Nat} {E0 E1 : String} (hc0 : va_at D cl (a0, .inl (c0, n0, .inr (.inr (.inr (.inr f))))) H) (hc1 : va_at D cl (a, .inl (c1, n1, .inr (.inr (.inr (.inr g))))) H) (ht0 : tys[t0]? = some (c0, .object E0)) (ht1 : tys[t1]? = some (c1, .object E1))
    {i1 i2 i3 : Int32} (k1 k2 k3 : Nat) (h1 : i1 = nI k1) (h2 : i2 = nI k2) (h3 : i3 = nI k3) (h4 : k1 + k3 ≤ n0) (h5 : k2 + k3 ≤ n1) (hz0 : n0 < 2 ^ 31) (hz1 : n1 < 2 ^ 31) (hel : ∀ i : Nat, i < k3 → ∀ y : Nat, f (k1 + i) = some y → va_Any E1 s H y)
    (hframes : 1 ≤ R.frames) (hlocals : (rest.map fun v => v.category).sum + (nativeFrameWords "java/lang/System" "arraycopy" 5 + 11) ≤ R.locals) (hL : gx_L b locs) (hba : b ≤ a) (hdg : decode cc pc = .ok (.invokestatic index, 3))
    (kk : ∀ (H1 : Heap) (locs1 : List Loc), gx_U a H H1 → va_at D cl (a, .inl (c1, n1, .inr (.inr (.inr (.inr (va_cpy f g k1 k2 k3)))))) H1 → gx_L b locs1 → W p l e R s m args below meth c H1 locs1 cells slots Q (F0 m (pc + 3) ls rest)) : W p l e R s m args below meth c H locs cells slots Q (F0 m pc ls (.int i3 :: .int i2 :: .ref a :: .int i1 :: .ref a0 :: rest)) := by
  subst h1; subst h2; subst h3
  have q1 : (nI k1).toNatClampNeg = k1 := nI_clamp (by omega)
  have q2 : (nI k2).toNatClampNeg = k2 := nI_clamp (by omega)
  have q3 : (nI k3).toNatClampNeg = k3 := nI_clamp (by omega)
  have r1 : (nI k1).toInt = k1 := nI_toInt (by omega)
  have r2 : (nI k2).toInt = k2 := nI_toInt (by omega)
  have r3 : (nI k3).toInt = k3 := nI_toInt (by omega)
  intro T hT X
  have hc0 : H[a0]? = some (vp_cell c0 (n0, .inr (.inr (.inr (.inr f))))) := hc0
  have hc1 : H[a]? = some (vp_cell c1 (n1, .inr (.inr (.inr (.inr g))))) := hc1
  obtain ⟨-, kA0, hk0, cm0, hkk0⟩ := (hK.2 t0 _ ht0).1 n0 (fun j => va_rf (f j))
  obtain ⟨-, kA1, hk1, cm1, hkk1⟩ := (hK.2 t1 _ ht1).1 n1 (fun j => va_rf (g j))
  obtain ⟨vm', X', step⟩ := X.arraycopy hexec hown hlink hnat hstat hini (src := a0) (dst := a) (cs := vp_cell c0 (n0, .inr (.inr (.inr (.inr f))))) (cd := vp_cell c1 (n1, .inr (.inr (.inr (.inr g))))) (srcPos := nI k1) (destPos := nI k2) (n := nI k3) (by rw [hT]; exact hc0) (by rw [hT]; exact hc1)
    (fun _ h => by cases h) (fun _ h => by cases h) (fun h => by cases h) (fun h => by cases h) hk0 hk1 hkk0 hkk1 rfl (nI_pos (by omega)) (nI_pos (by omega)) (nI_pos (by omega))
    (by rw [r1, r3]; show ¬ _ > ((arrV c0 n0 (fun j => va_rf (f j))).slots.size : Int); rw [arrV_size]; omega)
    (by rw [r2, r3]; show ¬ _ > ((arrV c1 n1 (fun j => va_rf (g j))).slots.size : Int); rw [arrV_size]; omega)
    (fun vm₁ hal i hi => by
      rw [q3] at hi
      rw [q1]
      have e : (vp_cell c0 (n0, .inr (.inr (.inr (.inr f))))).slots.getD (k1 + i) .null = va_rf (f (k1 + i)) := by
        show (arrV c0 n0 (fun j => va_rf (f j))).slots.getD _ _ = _
        rw [Array.getD_eq_getD_getElem?, arrV_read _ _ (by omega)]
        rfl
      rw [e]
      cases hy : f (k1 + i) with
      | none => exact ⟨rfl, trivial⟩
      | some y =>
        obtain ⟨cellV, g1, g2, ⟨kC, hkC⟩, g4⟩ := hel i hi y hy
        obtain ⟨kA, comp, w1, w2, w3, -⟩ := (hK.2 t1 _ ht1).2
        cases hk1.symm.trans w1
        cases hkk1.symm.trans w2
        obtain ⟨kE, hkE, -⟩ := Vm.findClass_spec w3
        obtain ⟨kC', hkC', -⟩ := hal.2.2 _ _ hkC
        obtain ⟨kE', hkE', -⟩ := hal.2.2 _ _ hkE
        refine ⟨rfl, cellV, (show T.heap[y]? = some cellV by rw [hT]; exact g1), (fun q h => by rw [h] at g2; cases g2), ⟨kC', hkC'⟩, ?_, ?_⟩
        · exact ⟨kE', hkE'⟩
        · show vm₁.assignable _ _ = true
          rw [hal.assignable]
          exact g4 _ w3)
    (g := F0 m pc ls (.int (nI k3) :: .int (nI k2) :: .ref a :: .int (nI k1) :: .ref a0 :: rest)) rfl (by rw [hml]) (rest := rest) rfl (by rw [hb]; exact hdg) hframes (by show 2 * 0 + _ + _ ≤ _; omega)
  have e1 : copied (vp_cell c0 (n0, .inr (.inr (.inr (.inr f))))) (vp_cell c1 (n1, .inr (.inr (.inr (.inr g))))) (nI k1) (nI k2) (nI k3) = vp_cell c1 (n1, .inr (.inr (.inr (.inr (va_cpy f g k1 k2 k3))))) := by
    rw [vp_cell_q, vp_cell_q, vp_cell_q]
    have h := va_copied (fun z => va_rf z) c0 c1 (n0 := n0) (n1 := n1) (sp := k1) (dp := k2) (n := k3) f g h4
    show (arrV c1 n1 (fun j => va_rf (g j))).storeRun (nI k2).toNatClampNeg ((arrV c0 n0 (fun j => va_rf (f j))).stretch (nI k1).toNatClampNeg (nI k3).toNatClampNeg) = _
    rw [q1, q2, q3]
    exact h
  rw [e1] at X' step
  have hl : a < H.size := (Array.getElem?_eq_some_iff.mp hc1).1
  have hheap : ((T.setVm vm').setCell a (vp_cell c1 (n1, .inr (.inr (.inr (.inr (va_cpy f g k1 k2 k3))))))).heap = H.setIfInBounds a (vp_cell c1 (n1, .inr (.inr (.inr (.inr (va_cpy f g k1 k2 k3)))))) := by rw [← hT]; rfl
  have oq : ∀ q : Nat, q ≠ a → (H.setIfInBounds a (vp_cell c1 (n1, .inr (.inr (.inr (.inr (va_cpy f g k1 k2 k3)))))))[q]? = H[q]? := fun q hq => by simp [Array.getElem?_setIfInBounds, Ne.symm hq]
  obtain ⟨t, a1, b1⟩ := kk _ _ ⟨by simp, oq⟩ (show (H.setIfInBounds a _)[a]? = some _ by simp [Array.getElem?_setIfInBounds, hl]) (gx_L2 hL (fun q hq => by
      obtain ⟨z, -, hz⟩ := List.mem_map.mp hq
      rw [← hz]
      exact hba)) _ hheap X'
  exact ⟨t, step t a1, b1⟩
variable {st0 : List Value} {mc ms : Nat} {P : Heap → Prop} {av : Array Value} {s0 : State}
theorem cc5_v {r : Value} (hr : va_Run5 p l e R s m args below meth c H locs cells slots mc ms (F0 m pc ls st0) rest (cQv r P av) (cF s0)) (hL : gx_L s0.heap.size locs) (kk : ∀ (H1 : Heap) (locs1 : List Loc), P H1 → gx_L s0.heap.size locs1 → W p l e R s m args below meth c H1 locs1 (cells + mc) (slots + ms) Q (F0 m (pc + 5) ls (r :: rest))) : W p l e R s m args below meth c H locs cells slots Q (F0 m pc ls st0) := by
  intro T hT X
  obtain ⟨v, st₀, t, T', L, h0, X', hLL, e1, e2, ⟨hv, hp⟩, st⟩ := hr T hT X
  cases hv
  obtain ⟨t2, a1, b1⟩ := kk T'.heap (locs ++ L) (by rw [e1]; exact hp) (gx_L2 hL hLL) T' rfl X'
  exact ⟨t2, st t2 a1, b1⟩
/-- an answer that the contract says no more of than that it is there -/
def cQx (P : Nat → Heap → Prop) : Array Value → State → Outcome → State → Prop := fun _ _ o t => ∃ a : Nat, o = .returned (some (.ref a)) ∧ P a t.heap
theorem cc_x {P : Nat → Heap → Prop} (hr : va_Run p l e R s m args below meth c H locs cells slots mc ms (F0 m pc ls st0) rest (cQx P av) (cF s0)) (hL : gx_L s0.heap.size locs) (kk : ∀ (a : Nat) (H1 : Heap) (locs1 : List Loc), P a H1 → gx_L s0.heap.size locs1 → W p l e R s m args below meth c H1 locs1 (cells + mc) (slots + ms) Q (F0 m (pc + 3) ls (.ref a :: rest))) : W p l e R s m args below meth c H locs cells slots Q (F0 m pc ls st0) := by
  intro T hT X
  obtain ⟨v, st₀, t, T', L, h0, X', hLL, e1, e2, ⟨a, hv, hp⟩, st⟩ := hr T hT X
  cases hv
  obtain ⟨t2, a1, b1⟩ := kk a T'.heap (locs ++ L) (by rw [e1]; exact hp) (gx_L2 hL hLL) T' rfl X'
  exact ⟨t2, st t2 a1, b1⟩
end GXB
