/-! CONSTRUCTORS: heaps that grow -/
def gG (k a : Nat) (H H1 : Heap) : Prop := H1.size = H.size + k ∧ ∀ q, q < H.size → q ≠ a → H1[q]? = H[q]?
theorem gG.at {k a b : Nat} {x : va_E} {H H1 : Heap} {D : va_G} {cl : List vw_C} (h : gG k a H H1) (hA : va_at D cl (b, x) H) (hn : b ≠ a) : va_at D cl (b, x) H1 := hA.kept (h.2 b hA.lt hn)
theorem gG.N {k a : Nat} {H H1 H2 : Heap} (h : gG k a H H1) (hN : gx_N H1 H2) : gG (k + 1) a H H2 := ⟨by rw [hN.1, h.1]; omega, fun q hq hn => (hN.2 q (by rw [h.1]; omega)).trans (h.2 q hq hn)⟩
theorem gG.U {k a b : Nat} {H H1 H2 : Heap} (h : gG k a H H1) (hU : gx_U b H1 H2) (hb : b = a ∨ H.size ≤ b) : gG k a H H2 := ⟨by rw [hU.1, h.1], fun q hq hn => (hU.2 q (by omega)).trans (h.2 q hq hn)⟩
theorem gG.rf {a : Nat} {H : Heap} : gG 0 a H H := ⟨rfl, fun _ _ _ => rfl⟩
section GXE
variable {p : Program} {l : Launch} {e : Env} {R : Room} {s : State} {m : MethodId} {args : Array Value} {below : List Frame} {meth : Method} {c : Code} {H : Heap} {locs : List Loc} {cells slots : Nat} {Q : State → Prop} {cc : ByteArray} {pc : Nat} {ls : Array Slot} {rest : List Value} {D : va_G} {cl : List vw_C} {tys : List (ClassId × FieldType)}
theorem gx_newaV (hexec : p.tables.exec = Jvm.exec) (hb : c.code = cc) {atype : ArrayType} (harr : (Cond.arrayClass (newarray.typeOf atype)).before args s = true) {ty : FieldType} (hty : newarray.typeOf atype = ty) (hK : va_K D cl tys s) (t0 : Nat) {cA : ClassId} (ht : tys[t0]? = some (cA, ty)) (hobj : ∀ C, ty ≠ .object C)
    {n : Int32} {N' : Nat} {a0 : vp_A} (ha : ∀ cA : ClassId, vp_cell cA a0 = arrV cA N' (fun _ => defaultValue ty)) (hn : ¬ n < 0) (hN : n.toNatClampNeg = N') (hbytes : N' * componentBytes ty ≤ 536870912) (hcells : cells + 1 ≤ R.cells) (hslots : slots + N' ≤ R.slots) (hdg : decode cc pc = .ok (.newarray atype, 2))
    {v : Nat} (hv : H.size = v) (kk : ∀ (H1 : Heap), gx_N H H1 → va_at D cl (v, .inl (cA, a0)) H1 →
      W p l e R s m args below meth c H1 locs (cells + 1) (slots + N') Q (F0 m (pc + 2) ls (.ref v :: rest))) : W p l e R s m args below meth c H locs cells slots Q (F0 m pc ls (.int n :: rest)) := by
  subst hv
  exact gx_newa hexec hb harr hty hK t0 ht hobj ha hn hN hbytes hcells hslots hdg kk
theorem gx_newqV (hexec : p.tables.exec = Jvm.exec) (hb : c.code = cc) {own C : String} {index : Nat} (hown : s.vm.findClass own = some m.cls) (hclink : (Cond.classLink own index C).before args s = true) (hover : va_AO C s) (hK : va_K D cl tys s) (t0 : Nat) {cA : ClassId} (ht : tys[t0]? = some (cA, .object C))
    {n : Int32} {N' : Nat} (hn : ¬ n < 0) (hN : n.toNatClampNeg = N') (hbytes : N' * 4 ≤ 536870912) (hcells : cells + 1 ≤ R.cells) (hslots : slots + N' ≤ R.slots) (hdg : decode cc pc = .ok (.anewarray index, 3))
    {v : Nat} (hv : H.size = v) (kk : ∀ (H1 : Heap), gx_N H H1 → va_at D cl (v, .inl (cA, N', .inr (.inr (.inr (.inr (fun _ => none)))))) H1 →
      W p l e R s m args below meth c H1 locs (cells + 1) (slots + N') Q (F0 m (pc + 3) ls (.ref v :: rest))) : W p l e R s m args below meth c H locs cells slots Q (F0 m pc ls (.int n :: rest)) := by
  subst hv
  exact gx_newq hexec hb hown hclink hover hK t0 ht hn hN hbytes hcells hslots hdg kk
theorem gx_newW {c0 : Code} (hexec : p.tables.exec = Jvm.exec) (hb : c0.code = cc) {own C : String} {T : u_T} {N ci index : Nat} {Ts : List Cond} (hts : ∀ w ∈ Ts, w.before args s = true) (hin : ∀ w ∈ u_ws C T N, w ∈ Ts) (ty : Nat → FieldType) (hty : ∀ k, k < N → parseFieldDescriptor (T k).2.2.1 = some (ty k)) (hown : s.vm.findClass own = some m.cls) (hcl : (Cond.classLink own index C).before args s = true) (hinst : (Cond.instantiable C N).before args s = true) (hini : (Cond.initialized C).before args s = true)
    (hK : va_K D cl tys s) (hc : cl[ci]? = some (C, T, N)) {fs : List Value} (hfs : ∀ j, j < N → defaultValue (ty j) = vp_V fs j) (hcells : cells + 1 ≤ R.cells) (hslots : slots + N ≤ R.slots) (hdg : decode cc pc = .ok (.new index, 3)) {v : Nat} (hv : H.size = v)
    (kk : ∀ (H1 : Heap), gx_N H H1 → va_at D cl (v, .inr (ci, fs)) H1 →
      W p l e R s m args below meth c0 H1 locs (cells + 1) (slots + N) Q (F0 m (pc + 3) ls (.ref v :: rest))) : W p l e R s m args below meth c0 H locs cells slots Q (F0 m pc ls rest) := by
  subst hv
  exact gx_new hexec hb hts hin ty hty hown hcl hinst hini hK hc hfs hcells hslots hdg kk
theorem gx_anyS {a ci : Nat} {q : vw_C} {fs : List Value} (hK : va_K D cl tys s) (hA : va_at D cl (a, .inr (ci, fs)) H) (hc : cl[ci]? = some q) : va_Any q.1 s H a := by
  obtain ⟨cell, h1, h2, h3⟩ := cc_re hK hA hc
  obtain ⟨kC, hkC, -⟩ := Vm.findClass_spec h3
  exact ⟨cell, h1, h2, ⟨kC, hkC⟩, fun comp hcomp => vb_asgS comp _ hcomp h3⟩
end GXE
/-- the states at the start -/
def C0 : CS := (fun j _ => if j = 2 ∨ j = 12 then 1 else 0, fun _ _ _ => 0, 1, fun _ => 0, fun _ => 0, fun _ => 0, fun _ => 0, fun _ => 0, fun _ => 0, fun _ _ => 0, fun _ _ _ => 0, fun _ => 0)
def M0 : MS := (fun j _ => if j = 1 then 1 else 0, fun _ _ => 0, fun j => if j = 20 then 1 else 0)
/-- the first v items and turns are made -/
def NPl (B : Nat) (D : va_G) (DA : Nat → ClassId) (Hs : Heap) (v : Nat) (H : Heap) : Prop :=
  (∀ q, q < B + 20 → q ≠ B + 1 → q ≠ B + 18 → H[q]? = Hs[q]?) ∧ H.size = B + 20 + 7 * v ∧
  va_at D gcl (B + 1, .inl (DA 3, 12, .inr (.inr (.inr (.inr (fun k => if k < v then some (aI B k) else none)))))) H ∧
  va_at D gcl (B + 18, .inl (DA 4, 12, .inr (.inr (.inr (.inr (fun k => if k < v then some (aT B k) else none)))))) H ∧
  (∀ k, k < v → va_at D gcl (aI B k, .inr (8, itF B C0 k)) H) ∧
  (∀ j k, j < 5 → k < v → va_at D gcl (aA B j k, .inl (DA 0, asz j, .inr (.inl (fun _ => 0)))) H) ∧
  (∀ k, k < v → va_at D gcl (aT B k, .inr (9, [.ref (aI B k)])) H)
theorem up_lt {f : Nat → Nat} {v : Nat} : va_up (fun k => if k < v then some (f k) else none) v (some (f v)) = fun k => if k < v + 1 then some (f k) else none := by
  funext k
  by_cases e : k = v
  · subst e; rw [va_up_self, if_pos (by omega)]
  · rw [va_up_ne _ _ e]
    by_cases h : k < v
    · rw [if_pos h, if_pos (by omega)]
    · rw [if_neg h, if_neg (by omega)]
theorem NPl_s {B : Nat} {D : va_G} {DA : Nat → ClassId} {Hs : Heap} {v : Nat} {H H1 H2 H3 H4 H5 H6 : Heap} (h : NPl B D DA Hs v H) (n1 : gx_N H H1) (g2 : gG 5 (aI B v) H1 H2) (a2 : va_at D gcl (aI B v, .inr (8, itF B C0 v)) H2) (b2 : ∀ j, j < 5 → va_at D gcl (aA B j v, .inl (DA 0, asz j, .inr (.inl (fun _ => 0)))) H2)
    (u3 : gx_U (B + 1) H2 H3) (a3 : va_at D gcl (B + 1, .inl (DA 3, 12, .inr (.inr (.inr (.inr (va_up (fun k => if k < v then some (aI B k) else none) v (some (aI B v)))))))) H3) (n4 : gx_N H3 H4) (u5 : gx_U (aT B v) H4 H5) (a5 : va_at D gcl (aT B v, .inr (9, [.ref (aI B v)])) H5)
    (u6 : gx_U (B + 18) H5 H6) (a6 : va_at D gcl (B + 18, .inl (DA 4, 12, .inr (.inr (.inr (.inr (va_up (fun k => if k < v then some (aT B k) else none) v (some (aT B v)))))))) H6) : NPl B D DA Hs (v + 1) H6 := by
  obtain ⟨h1, h2, h3, h4, h5, h6, h7⟩ := h
  have z1 := n1.1
  have z2 := g2.1
  have z3 := u3.1
  have z4 := n4.1
  have z5 := u5.1
  have z6 := u6.1
  -- a cell of the past
  have keep : ∀ (q : Nat) (x : va_E), va_at D gcl (q, x) H → q ≠ B + 1 → q ≠ B + 18 → va_at D gcl (q, x) H6 := by
    intro q x hx e1 e2
    have hq := hx.lt
    have hq : q < H.size := hq
    exact u6.at e2 (u5.at (by simp only [aT]; omega) (n4.at (u3.at e1 (g2.at (n1.at hx) (by simp only [aI]; omega)))))
  have keep2 : ∀ (q : Nat) (x : va_E), va_at D gcl (q, x) H2 → q ≠ B + 1 → q ≠ B + 18 → va_at D gcl (q, x) H6 := by
    intro q x hx e1 e2
    have hq : q < H2.size := hx.lt
    exact u6.at e2 (u5.at (by simp only [aT]; omega) (n4.at (u3.at e1 hx)))
  refine ⟨fun q hq e1 e2 => ?_, by omega, ?_, ?_, fun k hk => ?_, fun j k hj hk => ?_, fun k hk => ?_⟩
  · rw [u6.2 q (by omega), u5.2 q (by simp only [aT]; omega), n4.2 q (by omega), u3.2 q (by omega), g2.2 q (by omega) (by simp only [aI]; omega), n1.2 q (by omega)]
    exact h1 q hq e1 e2
  · have := u6.at (by omega) (u5.at (by simp only [aT]; omega) (n4.at a3))
    rw [up_lt] at this
    exact this
  · rw [up_lt] at a6
    exact a6
  · by_cases e : k = v
    · subst e; exact keep2 _ _ a2 (by simp only [aI]; omega) (by simp only [aI]; omega)
    · exact keep _ _ (h5 k (by omega)) (by simp only [aI]; omega) (by simp only [aI]; omega)
  · by_cases e : k = v
    · subst e; exact keep2 _ _ (b2 j hj) (by simp only [aA]; omega) (by simp only [aA]; omega)
    · exact keep _ _ (h6 j k hj (by omega)) (by simp only [aA]; omega) (by simp only [aA]; omega)
  · by_cases e : k = v
    · subst e; exact u6.at (by simp only [aT]; omega) a5
    · exact keep _ _ (h7 k (by omega)) (by simp only [aT]; omega) (by simp only [aT]; omega)
/-- a NettedPlans has been made at B -/
def NPd (B : Nat) (h0 : Heap) (D : va_G) (DA : Nat → ClassId) (z0 : Nat) (H : Heap) : Prop :=
  (∀ q, q < B → H[q]? = h0[q]?) ∧ H.size = B + 104 ∧ va_at D gcl (B, .inr (0, npF B C0)) H ∧
  va_at D gcl (B + 1, .inl (DA 3, 12, .inr (.inr (.inr (.inr (fun k => if k < 12 then some (aI B k) else none)))))) H ∧
  va_at D gcl (B + 18, .inl (DA 4, 12, .inr (.inr (.inr (.inr (fun k => if k < 12 then some (aT B k) else none)))))) H ∧
  va_at D gcl (B + 9, .inl (DA 5, 4, .inr (.inr (.inr (.inr (fun k => if k < 4 then some (B + 10 + k) else none)))))) H ∧
  va_at D gcl (B + 10, .inr (3, [])) H ∧ va_at D gcl (B + 11, .inr (4, [])) H ∧ va_at D gcl (B + 12, .inr (5, [])) H ∧
  va_at D gcl (B + 13, .inr (6, [.ref (B + 14), .ref (B + 15)])) H ∧ va_at D gcl (B + 14, .inl (DA 0, 13, .inr (.inl (fun _ => 0)))) H ∧ va_at D gcl (B + 15, .inl (DA 1, 12, .inl (fun _ => 0))) H ∧
  va_at D gcl (B + 16, .inr (7, [.ref (aL B 4)])) H ∧ va_at D gcl (B + 19, .inl (DA 1, 12, .inl (fun _ => 0))) H ∧
  (∀ j, 1 ≤ j → j ≤ 3 → va_at D gcl (aB B j, .inr (2, [.ref (aL B j)])) H) ∧ (∀ j, j < 5 → va_at D gcl (aL B j, oL 0 z0 0) H) ∧
  (∀ k, k < 12 → va_at D gcl (aI B k, .inr (8, itF B C0 k)) H) ∧
  (∀ j k, j < 5 → k < 12 → va_at D gcl (aA B j k, .inl (DA 0, asz j, .inr (.inl (fun _ => 0)))) H) ∧
  (∀ k, k < 12 → va_at D gcl (aT B k, .inr (9, [.ref (aI B k)])) H)
