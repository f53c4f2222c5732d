/-- an element that may lie in a list at a -/
def elOk (D : va_G) (a : Nat) (H : Heap) (y : Nat) : Prop := ∃ (ci : Nat) (q : vw_C) (fs : List Value), va_at D gcl (y, .inr (ci, fs)) H ∧ gcl[ci]? = some q ∧ (Cond.castable q.1 "java/lang/Object") ∈ lw_tbl ∧ y ≠ a
theorem elOk.any {l : Launch} {s0 s : State} {D : va_G} {DA : Nat → ClassId} {z0 a y : Nat} {H : Heap} (h : elOk D a H y) (hE : G0 l s0 D DA z0) (hW : s0.WarmedH s.vm) : va_Any "java/lang/Object" s H y := by
  obtain ⟨ci, q, fs, h1, h2, h3, -⟩ := h
  exact gx_any (va_K.moved hW.alike hE.K) h1 h2 (va_Nw.warmC hW (hE.nw rfl h3))
theorem elOk.U {D : va_G} {a y : Nat} {H H1 : Heap} (h : elOk D a H y) (hU : gx_U a H H1) : elOk D a H1 y := by
  obtain ⟨ci, q, fs, h1, h2, h3, h4⟩ := h
  exact ⟨ci, q, fs, hU.at h4 h1, h2, h3, h4⟩
theorem elOk.kept {D : va_G} {a y : Nat} {H H1 : Heap} (h : elOk D a H y) (hk : ∀ q, q < H.size → q ≠ a → H1[q]? = H[q]?) : elOk D a H1 y := by
  obtain ⟨ci, q, fs, h1, h2, h3, h4⟩ := h
  exact ⟨ci, q, fs, h1.kept (hk y h1.lt h4), h2, h3, h4⟩
/-- behind remove at i -/
def lRem (D : va_G) (c6 : ClassId) (a d cap n i : Nat) (g : Nat → Option Nat) (mcn : Int32) (H H1 : Heap) : Prop :=
  ∃ g' : Nat → Option Nat, gF (fun q => q = a ∨ q = d) H H1 ∧ H1.size = H.size ∧ va_at D gcl (a, oL mcn d (n - 1)) H1 ∧ va_at D gcl (d, oA c6 cap g') H1 ∧ ∀ k, k < n - 1 → g' k = if k < i then g k else g (k + 1)
section GXC
variable {p : Program} {l : Launch} {e : Env} {R : Room} {s : State} {m : MethodId} {args : Array Value} {below : List Frame} {meth : Method} {c : Code} {H : Heap} {locs : List Loc} {cells slots : Nat} {Q : State → Prop} {cc : ByteArray} {pc : Nat} {ls : Array Slot} {rest : List Value}
theorem gx_gets (hexec : p.tables.exec = Jvm.exec) (hb : c.code = cc) {own ref name desc : String} {index : Nat} (hown : s.vm.findClass own = some m.cls) (hlink : (Cond.fieldLink own index ref name desc).before args s = true)
    {cf i : Nat} {k : Class} {f : Field} (hi : s.fieldFound? ref name desc = some (cf, k, i, f)) (hst : f.isStatic = true) (hinit : k.init = .initialized) {a₁ : Addr} {cell₁ : Cell} {v : Value} (hstatics : k.statics = some a₁) (hcell : H[a₁]? = some cell₁) (hknown : cell₁.vm ≠ .unknown) (hslot : cell₁.slots[f.slot]? = some v)
    (hdg : decode cc pc = .ok (.getstatic index, 3)) (kk : W p l e R s m args below meth c H locs cells slots Q (F0 m (pc + 3) ls (v :: rest))) : W p l e R s m args below meth c H locs cells slots Q (F0 m pc ls rest) :=
  W.gets hexec hb hown hlink hi hst hinit hstatics hcell hknown hslot rfl hdg kk
end GXC
theorem cpy_0 (g : Nat → Option Nat) : va_cpy g (fun _ => none) 0 0 0 = fun _ => none := by
  funext k
  unfold va_cpy
  rw [if_neg (by omega)]
theorem lAdd_U {D : va_G} {c6 : ClassId} {a d cap n v : Nat} {g : Nat → Option Nat} {mcn : Int32} {H H1 H2 : Heap} (hU : gx_U a H H1) (hda : d ≠ a) (h : lAdd D c6 a d cap n g mcn v H1 H2) : lAdd D c6 a d cap n g mcn v H H2 := by
  obtain ⟨d', cap', g', h1, h2, h3, h4, h5, h6, h7, h8⟩ := h
  refine ⟨d', cap', g', (gF.rf.U hU (fun _ => Or.inl rfl)).tr h1 (fun q _ h => h), h2, h3, h4, h5, h6, h7, ?_⟩
  rcases h8 with h8 | ⟨q1, q2, q3⟩
  · exact Or.inl h8
  · exact Or.inr ⟨by rw [q1, hU.1], q2, q3.trans (hU.2 d hda)⟩
theorem lRem_c {g : Nat → Option Nat} {n i k : Nat} (hk : k < n - 1) (hi : i < n - 1) : va_up (va_cpy g g (i + 1) i (n - 1 - i)) (n - 1) none k = if k < i then g k else g (k + 1) := by
  rw [va_up_ne _ _ (by omega)]
  by_cases h : k < i
  · rw [if_pos h, pk_cpy_out (Or.inl h)]
  · rw [if_neg h, pk_cpy_in (by omega) (by omega)]
    congr 1
    omega
theorem lRem_n {g : Nat → Option Nat} {n i k : Nat} (hk : k < n - 1) (hi : n - 1 ≤ i) : va_up g (n - 1) none k = if k < i then g k else g (k + 1) := by
  rw [va_up_ne _ _ (by omega), if_pos (by omega)]
section GXF
variable {p : Program} {l : Launch} {e : Env} {R : Room} {s s0 : State} {m : MethodId} {args : Array Value} {below : List Frame} {meth : Method} {c : Code} {H : Heap} {locs : List Loc} {cells slots : Nat} {Q : State → Prop} {cc : ByteArray} {pc : Nat} {ls : Array Slot} {rest : List Value} {D : va_G} {DA : Nat → ClassId} {z0 d cap : Nat} {g : Nat → Option Nat}
/-- the length of a list's row, which may be the JDK's empty one -/
theorem gx_alenZ (hexec : p.tables.exec = Jvm.exec) (hb : c.code = cc) (hE : G0 l s0 D DA z0) (hW0 : s0.WarmedH s.vm) (hold : ∀ q, q < s0.heap.size → H[q]? = s0.heap[q]?) (hK : va_K D gcl (gty DA) s) (hz0 : cap = 0 → d = z0) (hB : 0 < cap → va_at D gcl (d, oA (DA 6) cap g) H) (hdg : decode cc pc = .ok (.arraylength, 1))
    (kk : W p l e R s m args below meth c H locs cells slots Q (F0 m (pc + 1) ls (.int (nI cap) :: rest))) : W p l e R s m args below meth c H locs cells slots Q (F0 m pc ls (.ref d :: rest)) := by
  rcases Nat.eq_zero_or_pos cap with h | h
  · obtain ⟨cz, h1, h2, h3, h4⟩ := hE.z0at
    have hd := hz0 h
    subst hd
    refine W.alen (n := nI cap) hexec hb (by rw [hold d hE.z0lt]; exact h1) (State.isArrayOf_alike hW0.alike h2) (by rw [h4, h]; rfl) rfl rfl hdg kk
  · exact gx_alen hexec hb hK 6 (hB h) rfl hdg kk
end GXF
