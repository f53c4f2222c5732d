theorem GRb.fre {B : Nat} {h0 : Heap} {D : va_G} {DA : Nat → ClassId} {z0 : Nat} {Y : YS} {C : CS} {M : MS} {o : Int64} {H : Heap} {H1 : Heap} {v : Nat} (h : GRb B h0 D DA z0 Y C M o H) (hf : yFr B Y C v) (hU : gx_U v H H1) : GRb B h0 D DA z0 Y C M o H1 := by
  obtain ⟨f1, f2, f3, f4⟩ := hf
  refine ⟨fun q hq => (hU.2 q (by omega)).trans (h.old q hq), by rw [hU.1]; exact h.sz, h.lay, ?_, ?_, ?_, ?_, ?_, ?_, ?_, ?_, ?_, ?_, ?_, ?_, ?_, ?_, ?_, ?_, ?_, ?_, ?_, ?_, ?_, ?_, ?_, ?_, ?_⟩
  · exact hU.at (by (try simp only [aI, aA, aT, aB, aL, mad, miOk] at *); omega) h.np
  · exact hU.at (by (try simp only [aI, aA, aT, aB, aL, mad, miOk] at *); omega) h.its
  · exact hU.at (by (try simp only [aI, aA, aT, aB, aL, mad, miOk] at *); omega) h.trn
  · exact hU.at (by (try simp only [aI, aA, aT, aB, aL, mad, miOk] at *); omega) h.rul
  · exact hU.at (by (try simp only [aI, aA, aT, aB, aL, mad, miOk] at *); omega) h.an
  · exact hU.at (by (try simp only [aI, aA, aT, aB, aL, mad, miOk] at *); omega) h.mu
  · exact hU.at (by (try simp only [aI, aA, aT, aB, aL, mad, miOk] at *); omega) h.co
  · exact hU.at (by (try simp only [aI, aA, aT, aB, aL, mad, miOk] at *); omega) h.lc
  · exact hU.at (by (try simp only [aI, aA, aT, aB, aL, mad, miOk] at *); omega) h.bes
  · exact hU.at (by (try simp only [aI, aA, aT, aB, aL, mad, miOk] at *); omega) h.las
  · exact hU.at (by (try simp only [aI, aA, aT, aB, aL, mad, miOk] at *); omega) h.wai
  · exact hU.at (by (try simp only [aI, aA, aT, aB, aL, mad, miOk] at *); omega) h.lev
  · intro j q0 q1; exact hU.at (by (try simp only [aI, aA, aT, aB, aL, mad, miOk] at *); omega) (h.bok j q0 q1)
  · intro k q0; exact hU.at (by (try simp only [aI, aA, aT, aB, aL, mad, miOk] at *); omega) (h.itm k q0)
  · intro j k q0 q1; exact hU.at (by (try simp only [aI, aA, aT, aB, aL, mad, miOk] at *); omega) (h.arr j k q0 q1)
  · intro k q0; exact hU.at (by (try simp only [aI, aA, aT, aB, aL, mad, miOk] at *); omega) (h.tur k q0)
  · exact hU.at (by (try simp only [aI, aA, aT, aB, aL, mad, miOk] at *); omega) h.mo
  · intro j q0; exact hU.at (by (try simp only [aI, aA, aT, aB, aL, mad, miOk] at *); omega) (h.mia j q0)
  · exact hU.at (by (try simp only [aI, aA, aT, aB, aL, mad, miOk] at *); omega) h.mza
  · intro j q0 q1; exact hU.at (by (try simp only [aI, aA, aT, aB, aL, mad, miOk] at *); omega) (h.mla j q0 q1)
  · exact hU.at (by (try simp only [aI, aA, aT, aB, aL, mad, miOk] at *); omega) h.out
  · intro j q0; exact hU.at (by (try simp only [aI, aA, aT, aB, aL, mad, miOk] at *); omega) (h.lob j q0)
  · intro j q0 q1; exact hU.at (f2 j q0) (h.lda j q0 q1)
  · intro i q0; exact hU.at (f3 i q0) (h.lin i q0)
  · intro j i q0 q1 q2; exact hU.at (f4 j q0 q1 i q2) (h.ent j i q0 q1 q2)
theorem GRb.pE {B : Nat} {h0 : Heap} {D : va_G} {DA : Nat → ClassId} {z0 : Nat} {Y : YS} {C : CS} {M : MS} {o : Int64} {H : Heap} {H1 : Heap} {j i : Nat} {v : Int32} (h1 : 1 ≤ j) (h3 : j ≤ 3) (hi : i < kN C j) (h : GRb B h0 D DA z0 Y C M o H) (hU : gx_U (yE Y j i) H H1) (hA : va_at D gcl (yE Y j i, .inr (12, [.int (kE C j i 0), .int (kE C j i 1), .int v])) H1) : GRb B h0 D DA z0 Y (rE C (up3 (kE C) j i 2 v)) M o H1 := by
  have hl := h.lay
  obtain ⟨f1, f2⟩ := hl.2.2.2.2.1 j h1 h3 i hi
  have c24 := hl.2.2.2.2.2.2.1
  have hi24 : i < 24 := by rcases (show j = 1 ∨ j = 2 ∨ j = 3 by omega) with e | e | e <;> subst e <;> omega
  have hd : ∀ k, k < 5 → yD Y k ≠ yE Y j i := by
    intro k hk e
    rcases hl.2.2.1 k hk with ⟨-, z⟩ | ⟨-, z1, z2⟩
    · have := hl.2.2.2.2.2.2.2; omega
    · rw [e] at z2; omega
  refine ⟨fun q hq => (hU.2 q (by omega)).trans (h.old q hq), by rw [hU.1]; exact h.sz, h.lay, ?_, ?_, ?_, ?_, ?_, ?_, ?_, ?_, ?_, ?_, ?_, ?_, ?_, ?_, ?_, ?_, ?_, ?_, ?_, ?_, ?_, ?_, ?_, ?_, ?_⟩
  · exact hU.at (by (try simp only [aI, aA, aT, aB, aL, mad, miOk] at *); omega) h.np
  · exact hU.at (by (try simp only [aI, aA, aT, aB, aL, mad, miOk] at *); omega) h.its
  · exact hU.at (by (try simp only [aI, aA, aT, aB, aL, mad, miOk] at *); omega) h.trn
  · exact hU.at (by (try simp only [aI, aA, aT, aB, aL, mad, miOk] at *); omega) h.rul
  · exact hU.at (by (try simp only [aI, aA, aT, aB, aL, mad, miOk] at *); omega) h.an
  · exact hU.at (by (try simp only [aI, aA, aT, aB, aL, mad, miOk] at *); omega) h.mu
  · exact hU.at (by (try simp only [aI, aA, aT, aB, aL, mad, miOk] at *); omega) h.co
  · exact hU.at (by (try simp only [aI, aA, aT, aB, aL, mad, miOk] at *); omega) h.lc
  · exact hU.at (by (try simp only [aI, aA, aT, aB, aL, mad, miOk] at *); omega) h.bes
  · exact hU.at (by (try simp only [aI, aA, aT, aB, aL, mad, miOk] at *); omega) h.las
  · exact hU.at (by (try simp only [aI, aA, aT, aB, aL, mad, miOk] at *); omega) h.wai
  · exact hU.at (by (try simp only [aI, aA, aT, aB, aL, mad, miOk] at *); omega) h.lev
  · intro j q0 q1; exact hU.at (by (try simp only [aI, aA, aT, aB, aL, mad, miOk] at *); omega) (h.bok j q0 q1)
  · intro k q0; exact hU.at (by (try simp only [aI, aA, aT, aB, aL, mad, miOk] at *); omega) (h.itm k q0)
  · intro j k q0 q1; exact hU.at (by (try simp only [aI, aA, aT, aB, aL, mad, miOk] at *); omega) (h.arr j k q0 q1)
  · intro k q0; exact hU.at (by (try simp only [aI, aA, aT, aB, aL, mad, miOk] at *); omega) (h.tur k q0)
  · exact hU.at (by (try simp only [aI, aA, aT, aB, aL, mad, miOk] at *); omega) h.mo
  · intro j q0; exact hU.at (by (try simp only [aI, aA, aT, aB, aL, mad, miOk] at *); omega) (h.mia j q0)
  · exact hU.at (by (try simp only [aI, aA, aT, aB, aL, mad, miOk] at *); omega) h.mza
  · intro j q0 q1; exact hU.at (by (try simp only [aI, aA, aT, aB, aL, mad, miOk] at *); omega) (h.mla j q0 q1)
  · exact hU.at (by (try simp only [aI, aA, aT, aB, aL, mad, miOk] at *); omega) h.out
  · intro j q0; exact hU.at (by (try simp only [aI, aA, aT, aB, aL, mad, miOk] at *); omega) (h.lob j q0)
  · intro k q0 q1; exact hU.at (hd k q0) (h.lda k q0 q1)
  · intro k q0; exact hU.at (fun e => by have z := (hl.2.2.2.1 k q0).2.1; rw [e] at z; omega) (h.lin k q0)
  · intro k q q0 q1 q2
    by_cases e : k = j ∧ q = i
    · obtain ⟨e1, e2⟩ := e
      subst e1; subst e2
      have z0 : up3 (kE C) k q 2 v k q 0 = kE C k q 0 := by simp [up3]
      have z1 : up3 (kE C) k q 2 v k q 1 = kE C k q 1 := by simp [up3]
      have z2 : up3 (kE C) k q 2 v k q 2 = v := by simp [up3]
      show va_at D gcl (yE Y k q, .inr (12, [.int (up3 (kE C) k q 2 v k q 0), .int (up3 (kE C) k q 2 v k q 1), .int (up3 (kE C) k q 2 v k q 2)])) H1
      rw [z0, z1, z2]
      exact hA
    · have z : up3 (kE C) j i 2 v k q = kE C k q := up3_n (by omega)
      show va_at D gcl (yE Y k q, .inr (12, [.int (up3 (kE C) j i 2 v k q 0), .int (up3 (kE C) j i 2 v k q 1), .int (up3 (kE C) j i 2 v k q 2)])) H1
      rw [z]
      have q2' : q < kN C k := q2
      refine hU.at (fun e3 => ?_) (h.ent k q q0 q1 q2)
      have z4 := (hl.2.2.2.2.1 k q0 q1 q q2').2
      rw [e3] at z4
      have hq24 : q < 24 := by rcases (show k = 1 ∨ k = 2 ∨ k = 3 by omega) with e | e | e <;> subst e <;> omega
      omega
/-! what telling does -/
def ci (C : CS) (j k : Nat) (v : Int32) : CS := rI C (up2 (kI C) j k v)
def c_tell (C : CS) (k : Nat) : CS := rT (ci C 12 k 1) 1
def c_item (C : CS) (k : Nat) (r z d q : Int32) : CS := c_tell (ci (ci (ci (ci C 1 k r) 2 k z) 3 k d) 4 k q) k
def c_costs (C : CS) (k : Nat) (a b d : Int32) : CS := c_tell (ci (ci (ci C 5 k a) 6 k b) 7 k d) k
def c_made (C : CS) (k : Nat) (a b : Int32) : CS := ci (ci C 9 k a) 10 k b
def c_stock (C : CS) (k : Nat) (a : Int32) : CS := c_tell (ci C 8 k a) k
section GXD
variable {p : Program} {l : Launch} {e : Env} {R : Room} {s : State} {m : MethodId} {args : Array Value} {below : List Frame} {meth : Method} {c : Code} {H : Heap} {locs : List Loc} {cells slots : Nat} {Q : State → Prop} {cc : ByteArray} {pc : Nat} {ls : Array Slot} {rest : List Value} {D : va_G} {cl : List vw_C} {tys : List (ClassId × FieldType)}
theorem gx_newV {c0 : Code} (hexec : p.tables.exec = Jvm.exec) (hb : c0.code = cc) {own C : String} {T : u_T} {N ci index : Nat} {Ts : List Cond} (hts : ∀ w ∈ Ts, w.before args s = true) (hin : ∀ w ∈ u_ws C T N, w ∈ Ts) (ty : Nat → FieldType) (hty : ∀ k, k < N → parseFieldDescriptor (T k).2.2.1 = some (ty k)) (hown : s.vm.findClass own = some m.cls) (hcl : (Cond.classLink own index C).before args s = true) (hinst : (Cond.instantiable C N).before args s = true) (hini : (Cond.initialized C).before args s = true)
    (hK : va_K D cl tys s) (hc : cl[ci]? = some (C, T, N)) {fs : List Value} (hfs : ∀ j, j < N → defaultValue (ty j) = vp_V fs j) (hcells : cells + 1 ≤ R.cells) (hslots : slots + N ≤ R.slots) (hdg : decode cc pc = .ok (.new index, 3))
    (kk : ∀ (H1 : Heap) (v : Nat), v = H.size → gx_N H H1 → va_at D cl (v, .inr (ci, fs)) H1 →
      W p l e R s m args below meth c0 H1 locs (cells + 1) (slots + N) Q (F0 m (pc + 3) ls (.ref v :: rest))) : W p l e R s m args below meth c0 H locs cells slots Q (F0 m pc ls rest) :=
  gx_new hexec hb hts hin ty hty hown hcl hinst hini hK hc hfs hcells hslots hdg (fun H1 hN hA => kk H1 H.size rfl hN hA)
end GXD
