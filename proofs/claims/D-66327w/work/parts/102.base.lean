/-! what is given all through; the world behind one name; rows that give a computed number a better name -/
/-- the law's start: classes and arrays by their numbers, every word of the tables, no stack traces, the JDK's statics that are read -/
def G0 (l : Launch) (s0 : State) (D : va_G) (DA : Nat → ClassId) (z0 : Nat) : Prop :=
  va_K D gcl (gty DA) s0 ∧ (∃ a0 : Array Value, (∀ w ∈ lw_tbl, w.before a0 s0 = true) ∧ (Jvm.Cond.and given_1 narrow_1).before a0 s0 = true) ∧ l.stackTraces = false ∧
  (∃ cz : Cell, s0.heap[z0]? = some cz ∧ s0.isArrayOf cz (.object "java/lang/Object") ∧ cz.vm ≠ .unknown ∧ cz.slots.size = 0) ∧
  ∃ (cf : ClassId) (kf : Class) (fi : Nat) (f : Field) (a : Nat) (cell : Cell), s0.fieldFound? "java/util/ArrayList" "DEFAULTCAPACITY_EMPTY_ELEMENTDATA" "[Ljava/lang/Object;" = some (cf, kf, fi, f) ∧ f.isStatic = true ∧ kf.init = .initialized ∧ kf.statics = some a ∧ s0.heap[a]? = some cell ∧ cell.vm ≠ .unknown ∧ cell.slots[f.slot]? = some (.ref z0)
theorem G0.K {l : Launch} {s0 : State} {D : va_G} {DA : Nat → ClassId} {z0 : Nat} (h : G0 l s0 D DA z0) : va_K D gcl (gty DA) s0 := h.1
theorem G0.nw {l : Launch} {s0 : State} {D : va_G} {DA : Nat → ClassId} {z0 : Nat} (h : G0 l s0 D DA z0) {w : Cond} (hw : w.onTables = true) (hm : w ∈ lw_tbl) : va_Nw w s0 := by
  obtain ⟨-, ⟨a0, h1, -⟩, -⟩ := h
  exact va_Nw.of hw (h1 w hm)
theorem G0.nF {l : Launch} {s0 s : State} {D : va_G} {DA : Nat → ClassId} {z0 : Nat} (h : G0 l s0 D DA z0) (hW : s0.WarmedH s.vm) {a : String} {i : Nat} {b n d x : String} (hm : (Cond.fieldLinkNest a i b n d x) ∈ lw_tbl) : va_Nw (.fieldLinkNest a i b n d x) s := va_Nw.warmF hW (h.nw rfl hm)
theorem G0.nM {l : Launch} {s0 s : State} {D : va_G} {DA : Nat → ClassId} {z0 : Nat} (h : G0 l s0 D DA z0) (hW : s0.WarmedH s.vm) {a : String} {i : Nat} {y : MethodName} {x : String} (hm : (Cond.methodLinkNest a i y x) ∈ lw_tbl) : va_Nw (.methodLinkNest a i y x) s := va_Nw.warmM hW (h.nw rfl hm)
theorem G0.nA {l : Launch} {s0 s : State} {D : va_G} {DA : Nat → ClassId} {z0 : Nat} (h : G0 l s0 D DA z0) (hW : s0.WarmedH s.vm) {C : String} (hm : (Cond.arrayOver (.object C)) ∈ lw_tbl) : va_AO C s := by
  obtain ⟨-, ⟨a0, h1, -⟩, -⟩ := h
  exact va_AO.moved hW.alike (va_AO.of (h1 _ hm))
/-- the heap holds the world, wherever the lists' cells lie -/
def RR (s0 : State) (D : va_G) (DA : Nat → ClassId) (z0 : Nat) (C : CS) (M : MS) (o : Int64) (H : Heap) : Prop := ∃ Y, GRb s0.heap.size s0.heap D DA z0 Y C M o H
def bZ (b : Bool) : Int32 := if b then 1 else 0
theorem bZ_t {b : Bool} (h : b = true) : bZ b = 1 := by rw [h]; rfl
theorem bZ_f {b : Bool} (h : b = false) : bZ b = 0 := by rw [h]; rfl
theorem bZ_0 {b : Bool} : bZ b = 0 ↔ b = false := by cases b <;> decide
theorem bZ_1 {b : Bool} : ¬ bZ b = 0 ↔ b = true := by cases b <;> decide
theorem bZ_n (b : Bool) : narrow .boolean (.int (bZ b)) = .int (bZ b) := by cases b <;> rfl
section GB
variable {p : Program} {l : Launch} {e : Env} {R : Room} {s : State} {m : MethodId} {args : Array Value} {below : List Frame} {meth : Method} {c : Code} {H : Heap} {locs : List Loc} {cells slots : Nat} {Q : State → Prop}
variable {cc : ByteArray} {pc : Nat} {ls : Array Slot} {rest : List Value}
theorem gx_ti {x : Int32} (z : Int32) (h : x = z) (k : W p l e R s m args below meth c H locs cells slots Q (F0 m pc ls (.int z :: rest))) : W p l e R s m args below meth c H locs cells slots Q (F0 m pc ls (.int x :: rest)) := h ▸ k
theorem gx_tl {x : Int64} (z : Int64) (h : x = z) (k : W p l e R s m args below meth c H locs cells slots Q (F0 m pc ls (.long z :: rest))) : W p l e R s m args below meth c H locs cells slots Q (F0 m pc ls (.long x :: rest)) := h ▸ k
theorem gx_lc_ge (hexec : p.tables.exec = Jvm.exec) (hb : c.code = cc) {x y : Int64} {off : Int} {tgt pc1 : Nat} (hpc : pc + 1 = pc1) (hd0 : decode cc pc = .ok (.lcmp, 1)) (hdg : decode cc pc1 = .ok (.ifCond .ge off, 3)) (ht : (pc1 : Int) + off = (tgt : Int)) (kt : y ≤ x → W p l e R s m args below meth c H locs cells slots Q (F0 m tgt ls rest)) (kf : ¬ y ≤ x → W p l e R s m args below meth c H locs cells slots Q (F0 m (pc1 + 3) ls rest)) : W p l e R s m args below meth c H locs cells slots Q (F0 m pc ls (.long y :: .long x :: rest)) := by
  subst hpc
  exact W.lcmp hexec hb hd0 (lv_if_ge hexec hb hdg ht (fun h => kt ((lg_cmp_ge x y).mp h)) (fun h => kf (fun q => h ((lg_cmp_ge x y).mpr q))))
theorem gx_lc_le (hexec : p.tables.exec = Jvm.exec) (hb : c.code = cc) {x y : Int64} {off : Int} {tgt pc1 : Nat} (hpc : pc + 1 = pc1) (hd0 : decode cc pc = .ok (.lcmp, 1)) (hdg : decode cc pc1 = .ok (.ifCond .le off, 3)) (ht : (pc1 : Int) + off = (tgt : Int)) (kt : x ≤ y → W p l e R s m args below meth c H locs cells slots Q (F0 m tgt ls rest)) (kf : ¬ x ≤ y → W p l e R s m args below meth c H locs cells slots Q (F0 m (pc1 + 3) ls rest)) : W p l e R s m args below meth c H locs cells slots Q (F0 m pc ls (.long y :: .long x :: rest)) := by
  subst hpc
  exact W.lcmp hexec hb hd0 (lv_if_le hexec hb hdg ht (fun h => kt ((lg_cmp_le x y).mp h)) (fun h => kf (fun q => h ((lg_cmp_le x y).mpr q))))
theorem gx_lc_gt (hexec : p.tables.exec = Jvm.exec) (hb : c.code = cc) {x y : Int64} {off : Int} {tgt pc1 : Nat} (hpc : pc + 1 = pc1) (hd0 : decode cc pc = .ok (.lcmp, 1)) (hdg : decode cc pc1 = .ok (.ifCond .gt off, 3)) (ht : (pc1 : Int) + off = (tgt : Int)) (kt : y < x → W p l e R s m args below meth c H locs cells slots Q (F0 m tgt ls rest)) (kf : ¬ y < x → W p l e R s m args below meth c H locs cells slots Q (F0 m (pc1 + 3) ls rest)) : W p l e R s m args below meth c H locs cells slots Q (F0 m pc ls (.long y :: .long x :: rest)) := by
  subst hpc
  exact W.lcmp hexec hb hd0 (lv_if_gt hexec hb hdg ht (fun h => kt ((lg_cmp_gt x y).mp h)) (fun h => kf (fun q => h ((lg_cmp_gt x y).mpr q))))
theorem gx_lc_lt (hexec : p.tables.exec = Jvm.exec) (hb : c.code = cc) {x y : Int64} {off : Int} {tgt pc1 : Nat} (hpc : pc + 1 = pc1) (hd0 : decode cc pc = .ok (.lcmp, 1)) (hdg : decode cc pc1 = .ok (.ifCond .lt off, 3)) (ht : (pc1 : Int) + off = (tgt : Int)) (kt : x < y → W p l e R s m args below meth c H locs cells slots Q (F0 m tgt ls rest)) (kf : ¬ x < y → W p l e R s m args below meth c H locs cells slots Q (F0 m (pc1 + 3) ls rest)) : W p l e R s m args below meth c H locs cells slots Q (F0 m pc ls (.long y :: .long x :: rest)) := by
  subst hpc
  exact W.lcmp hexec hb hd0 (lv_if_lt hexec hb hdg ht (fun h => kt ((lg_cmp_lt x y).mp h)) (fun h => kf (fun q => h ((lg_cmp_lt x y).mpr q))))
theorem gx_lc_eq (hexec : p.tables.exec = Jvm.exec) (hb : c.code = cc) {x y : Int64} {off : Int} {tgt pc1 : Nat} (hpc : pc + 1 = pc1) (hd0 : decode cc pc = .ok (.lcmp, 1)) (hdg : decode cc pc1 = .ok (.ifCond .eq off, 3)) (ht : (pc1 : Int) + off = (tgt : Int)) (kt : x = y → W p l e R s m args below meth c H locs cells slots Q (F0 m tgt ls rest)) (kf : ¬ x = y → W p l e R s m args below meth c H locs cells slots Q (F0 m (pc1 + 3) ls rest)) : W p l e R s m args below meth c H locs cells slots Q (F0 m pc ls (.long y :: .long x :: rest)) := by
  subst hpc
  exact W.lcmp hexec hb hd0 (lv_if_eq hexec hb hdg ht (fun h => kt ((lg_cmp_eq x y).mp h)) (fun h => kf (fun q => h ((lg_cmp_eq x y).mpr q))))
theorem gx_lc_ne (hexec : p.tables.exec = Jvm.exec) (hb : c.code = cc) {x y : Int64} {off : Int} {tgt pc1 : Nat} (hpc : pc + 1 = pc1) (hd0 : decode cc pc = .ok (.lcmp, 1)) (hdg : decode cc pc1 = .ok (.ifCond .ne off, 3)) (ht : (pc1 : Int) + off = (tgt : Int)) (kt : ¬ x = y → W p l e R s m args below meth c H locs cells slots Q (F0 m tgt ls rest)) (kf : x = y → W p l e R s m args below meth c H locs cells slots Q (F0 m (pc1 + 3) ls rest)) : W p l e R s m args below meth c H locs cells slots Q (F0 m pc ls (.long y :: .long x :: rest)) := by
  subst hpc
  exact W.lcmp hexec hb hd0 (lv_if_ne hexec hb hdg ht (fun h => kt (fun q => h ((lg_cmp_eq x y).mpr q))) (fun h => kf ((lg_cmp_eq x y).mp h)))
end GB
theorem ovI {x y : Int32} (h : x = y) : Outcome.returned (some (Value.int x)) = .returned (some (.int y)) := by rw [h]
theorem ovJ {x y : Int64} (h : x = y) : Outcome.returned (some (Value.long x)) = .returned (some (.long y)) := by rw [h]
theorem i_nlt {x y : Int32} (h : ¬ x < y) : y ≤ x := Int32.not_lt.mp h
theorem i_nle {x y : Int32} (h : ¬ x ≤ y) : y < x := Int32.not_le.mp h
theorem l_nlt {x y : Int64} (h : ¬ x < y) : y ≤ x := Int64.not_lt.mp h
theorem l_nle {x y : Int64} (h : ¬ x ≤ y) : y < x := Int64.not_le.mp h
theorem n_ge {a b : Nat} (h : nI b ≤ nI a) (ha : a < 2 ^ 31) (hb : b < 2 ^ 31) : b ≤ a := (nI_leI hb ha).mp h
theorem n_lt {a b : Nat} (h : ¬ nI b ≤ nI a) (ha : a < 2 ^ 31) (hb : b < 2 ^ 31) : a < b := by
  rw [nI_leI hb ha] at h; omega
theorem n_gt {a b : Nat} (h : nI a < nI b) (ha : a < 2 ^ 31) (hb : b < 2 ^ 31) : a < b := (nI_ltI ha hb).mp h
theorem n_le {a b : Nat} (h : ¬ nI a < nI b) (ha : a < 2 ^ 31) (hb : b < 2 ^ 31) : b ≤ a := by
  rw [nI_ltI ha hb] at h; omega
theorem GR_M {B : Nat} {h0 : Heap} {D : va_G} {DA : Nat → ClassId} {z0 : Nat} {Y : YS} {C : CS} {M M' : MS} {o : Int64} {H : Heap} (h : M = M') (hR : GRb B h0 D DA z0 Y C M o H) : GRb B h0 D DA z0 Y C M' o H := h ▸ hR
theorem GR_C {B : Nat} {h0 : Heap} {D : va_G} {DA : Nat → ClassId} {z0 : Nat} {Y : YS} {C C' : CS} {M : MS} {o : Int64} {H : Heap} (h : C = C') (hR : GRb B h0 D DA z0 Y C M o H) : GRb B h0 D DA z0 Y C' M o H := h ▸ hR
theorem RR_M {s0 : State} {D : va_G} {DA : Nat → ClassId} {z0 : Nat} {C : CS} {M M' : MS} {o : Int64} {H : Heap} (h : M' = M) (hR : RR s0 D DA z0 C M o H) : RR s0 D DA z0 C M' o H := h ▸ hR
theorem RR_C {s0 : State} {D : va_G} {DA : Nat → ClassId} {z0 : Nat} {C C' : CS} {M : MS} {o : Int64} {H : Heap} (h : C' = C) (hR : RR s0 D DA z0 C M o H) : RR s0 D DA z0 C' M o H := h ▸ hR
