/-! ROWS over single cells: what a method reads is a cell 'va_at'; a store says which cell became what and that no other changed -/
def gx_L (b : Nat) (locs : List Loc) : Prop := ∀ q ∈ locs, b ≤ q.base
theorem gx_L0 {b : Nat} : gx_L b [] := fun q h => by cases h
theorem gx_L1 {b a i : Nat} {locs : List Loc} (h : gx_L b locs) (ha : b ≤ a) : gx_L b (locs ++ [⟨a, i⟩]) := by
  intro q hq
  rcases List.mem_append.mp hq with h1 | h1
  · exact h q h1
  · rw [List.mem_singleton] at h1
    subst h1
    exact ha
theorem gx_L2 {b : Nat} {locs L : List Loc} (h : gx_L b locs) (ha : ∀ q ∈ L, b ≤ q.base) : gx_L b (locs ++ L) := by
  intro q hq
  rcases List.mem_append.mp hq with h1 | h1
  · exact h q h1
  · exact ha q h1
theorem gx_one {D : va_G} {cl : List vw_C} {q : Nat × va_E} {H : Heap} (h : va_at D cl q H) : va_P D cl [q] H := fun k x hk => by
  have hz : k < 1 := (List.getElem?_eq_some_iff.mp hk).1
  rw [show k = 0 by omega] at hk
  cases hk
  exact h
/-- one cell changed -/
def gx_U (a : Nat) (H H1 : Heap) : Prop := H1.size = H.size ∧ ∀ q, q ≠ a → H1[q]? = H[q]?
/-- one cell made -/
def gx_N (H H1 : Heap) : Prop := H1.size = H.size + 1 ∧ ∀ q, q < H.size → H1[q]? = H[q]?
theorem gx_U.at {D : va_G} {cl : List vw_C} {a b : Nat} {x : va_E} {H H1 : Heap} (h : gx_U a H H1) (hb : b ≠ a) (hA : va_at D cl (b, x) H) : va_at D cl (b, x) H1 := hA.kept (h.2 b hb)
theorem gx_N.at {D : va_G} {cl : List vw_C} {b : Nat} {x : va_E} {H H1 : Heap} (h : gx_N H H1) (hA : va_at D cl (b, x) H) : va_at D cl (b, x) H1 := hA.kept (h.2 b hA.lt)
/-- a contract's start: its arguments, the heap itself, the tables as the law's start has them, warmed -/
def cP (s0 : State) (av : List Value) (H0 : Heap) : Array Value → State → Prop := fun v U => v = av.toArray ∧ U.heap = H0 ∧ s0.WarmedH U.vm
/-- ends: an answer, none -/
def cQv (r : Value) (P : Heap → Prop) : Array Value → State → Outcome → State → Prop := fun _ _ o t => o = .returned (some r) ∧ P t.heap
def cQ0 (P : Heap → Prop) : Array Value → State → Outcome → State → Prop := fun _ _ o t => o = .returned none ∧ P t.heap
theorem cP.blind {s0 : State} {av : List Value} {H0 : Heap} : FrameBlind (cP s0 av H0) := fun _ _ _ _ h => h
/-- what may be written: cells that the law's run made -/
def cF (s0 : State) : Addr → Prop := fun q => s0.heap.size ≤ q
section GX
variable {p : Program} {l : Launch} {e : Env} {R : Room} {s : State} {m : MethodId} {args : Array Value} {below : List Frame} {meth : Method} {c : Code} {H : Heap} {locs : List Loc} {cells slots : Nat} {Q : State → Prop}
variable {cc : ByteArray} {pc : Nat} {ls : Array Slot} {rest : List Value} {D : va_G} {cl : List vw_C} {a b : Nat} {tys : List (ClassId × FieldType)}
theorem gx_put (hexec : p.tables.exec = Jvm.exec) (hb : c.code = cc) {own ref C : String} {T : u_T} {N ci index : Nat} {Ts : List Cond} (hts : ∀ w ∈ Ts, w.before args s = true) (hin : ∀ w ∈ u_ws C T N, w ∈ Ts) (ty0 : Nat → FieldType) (hty : ∀ k, k < N → parseFieldDescriptor (T k).2.2.1 = some (ty0 k)) (hnm : ∀ a, a < N → ∀ b, b < N → a ≠ b → (T a).2.1 ≠ (T b).2.1) (hown : s.vm.findClass own = some m.cls) (hK : va_K D cl tys s) {fs : List Value} (hA : va_at D cl (a, .inr (ci, fs)) H) (hc : cl[ci]? = some (C, T, N)) (k : Nat) (hk : k < N) (hlink : (Cond.fieldLink own index ref (T k).2.1 (T k).2.2.1).before args s = true) (hsame : ∀ x, s.fieldFound? (T k).1 (T k).2.1 (T k).2.2.1 = some x → s.fieldFound? ref (T k).2.1 (T k).2.2.1 = some x) (hfin : (T k).2.2.2 = false) {ty : FieldType} {v : Value} (hd : parseFieldDescriptor (T k).2.2.1 = some ty) (hn : narrow ty v = v) (hfit : fits ty v = true) (hl : k < fs.length) (hL : gx_L b locs) (hba : b ≤ a)
    (hdg : decode cc pc = .ok (.putfield index, 3)) (kk : ∀ (H1 : Heap) (locs1 : List Loc), gx_U a H H1 → va_at D cl (a, .inr (ci, fs.set k v)) H1 → gx_L b locs1 → W p l e R s m args below meth c H1 locs1 cells slots Q (F0 m (pc + 3) ls rest)) : W p l e R s m args below meth c H locs cells slots Q (F0 m pc ls (v :: .ref a :: rest)) := by
  have hap := va_apart (own := own) hts hin ty0 hty hnm hK hc
  obtain ⟨r, h1, cell, q1, q2, q3, q4⟩ := hA
  have hr : r = (C, T, N) := Option.some.inj (h1.symm.trans hc)
  subst hr
  obtain ⟨hS, hfc, kC, hkC, hkind⟩ := hK.1 ci _ hc
  obtain ⟨cf, kf, fi, f, hi, hsl⟩ := hS k hk
  have hlay := hts _ (hin _ (u_in_lay hk))
  unfold u_lay at hlay
  rw [if_neg (by rw [hfin]; decide)] at hlay
  have hst := (u_facts hfc hkC (u_lays hts hin hk) hi).1
  have h6 := u_store hfc hkC hkind hlay hi hd hn hfit
  refine W.putK hexec hb (f := f) ⟨hown, hlink, ⟨_, _, _, hsame _ hi⟩, hst⟩ (by rw [q2]; exact h6) q1 q3 (by rw [hsl]; exact k2_hasslot (q4 k hk)) rfl rfl hdg fun H' e1 e2 e3 => ?_
  rw [hsl] at e1 ⊢
  exact kk H' _ ⟨e2, e3⟩ ⟨_, hc, t_OB.to (V := updV (vp_V fs) k v) ⟨_, e1, q2, q3, t_set q4 hap hk v⟩ (fun j _ => vp_updV_set hl v j)⟩ (gx_L1 hL hba)
theorem gx_putN (hexec : p.tables.exec = Jvm.exec) (hb : c.code = cc) {own ref C host : String} {T : u_T} {N ci index : Nat} {Ts : List Cond} (hts : ∀ w ∈ Ts, w.before args s = true) (hin : ∀ w ∈ u_ws C T N, w ∈ Ts) (ty0 : Nat → FieldType) (hty : ∀ k, k < N → parseFieldDescriptor (T k).2.2.1 = some (ty0 k)) (hnm : ∀ a, a < N → ∀ b, b < N → a ≠ b → (T a).2.1 ≠ (T b).2.1) (hown : s.vm.findClass own = some m.cls) (hK : va_K D cl tys s) {fs : List Value} (hA : va_at D cl (a, .inr (ci, fs)) H) (hc : cl[ci]? = some (C, T, N)) (k : Nat) (hk : k < N) (hlink : va_Nw (.fieldLinkNest own index ref (T k).2.1 (T k).2.2.1 host) s) (hsame : ∀ x, s.fieldFound? (T k).1 (T k).2.1 (T k).2.2.1 = some x → s.fieldFound? ref (T k).2.1 (T k).2.2.1 = some x) (hfin : (T k).2.2.2 = false) {ty : FieldType} {v : Value} (hd : parseFieldDescriptor (T k).2.2.1 = some ty) (hn : narrow ty v = v) (hfit : fits ty v = true) (hl : k < fs.length) (hL : gx_L b locs) (hba : b ≤ a)
    (hdg : decode cc pc = .ok (.putfield index, 3)) (kk : ∀ (H1 : Heap) (locs1 : List Loc), gx_U a H H1 → va_at D cl (a, .inr (ci, fs.set k v)) H1 → gx_L b locs1 → W p l e R s m args below meth c H1 locs1 cells slots Q (F0 m (pc + 3) ls rest)) : W p l e R s m args below meth c H locs cells slots Q (F0 m pc ls (v :: .ref a :: rest)) := by
  have hap := va_apart (own := own) hts hin ty0 hty hnm hK hc
  obtain ⟨r, h1, cell, q1, q2, q3, q4⟩ := hA
  have hr : r = (C, T, N) := Option.some.inj (h1.symm.trans hc)
  subst hr
  obtain ⟨hS, hfc, kC, hkC, hkind⟩ := hK.1 ci _ hc
  obtain ⟨cf, kf, fi, f, hi, hsl⟩ := hS k hk
  have hlay := hts _ (hin _ (u_in_lay hk))
  unfold u_lay at hlay
  rw [if_neg (by rw [hfin]; decide)] at hlay
  have hst := (u_facts hfc hkC (u_lays hts hin hk) hi).1
  have h6 := u_store hfc hkC hkind hlay hi hd hn hfit
  refine va_WputK hexec hb (f := f) hown (va_Nw.use rfl hlink) (hsame _ hi) hst (by rw [q2]; exact h6) q1 q3 (by rw [hsl]; exact k2_hasslot (q4 k hk)) rfl rfl hdg fun H' e1 e2 e3 => ?_
  rw [hsl] at e1 ⊢
  exact kk H' _ ⟨e2, e3⟩ ⟨_, hc, t_OB.to (V := updV (vp_V fs) k v) ⟨_, e1, q2, q3, t_set q4 hap hk v⟩ (fun j _ => vp_updV_set hl v j)⟩ (gx_L1 hL hba)
theorem gx_putF (hexec : p.tables.exec = Jvm.exec) (hb : c.code = cc) {own ref C : String} {T : u_T} {N ci index : Nat} {Ts : List Cond} (hts : ∀ w ∈ Ts, w.before args s = true) (hin : ∀ w ∈ u_ws C T N, w ∈ Ts) (ty0 : Nat → FieldType) (hty : ∀ k, k < N → parseFieldDescriptor (T k).2.2.1 = some (ty0 k)) (hnm : ∀ a, a < N → ∀ b, b < N → a ≠ b → (T a).2.1 ≠ (T b).2.1) (hown : s.vm.findClass own = some m.cls) (hK : va_K D cl tys s) {fs : List Value} (hA : va_at D cl (a, .inr (ci, fs)) H) (hc : cl[ci]? = some (C, T, N)) (k : Nat) (hk : k < N) (hlink : (Cond.fieldLink own index ref (T k).2.1 (T k).2.2.1).before args s = true) (hsame : ∀ x, s.fieldFound? (T k).1 (T k).2.1 (T k).2.2.1 = some x → s.fieldFound? ref (T k).2.1 (T k).2.2.1 = some x) (hfin : (T k).2.2.2 = true) (hin2 : meth.name = "<init>") (hdecl : (T k).1 = own) {ty : FieldType} {v : Value} (hd : parseFieldDescriptor (T k).2.2.1 = some ty) (hn : narrow ty v = v) (hfit : fits ty v = true) (hl : k < fs.length) (hL : gx_L b locs) (hba : b ≤ a)
    (hdg : decode cc pc = .ok (.putfield index, 3)) (kk : ∀ (H1 : Heap) (locs1 : List Loc), gx_U a H H1 → va_at D cl (a, .inr (ci, fs.set k v)) H1 → gx_L b locs1 → W p l e R s m args below meth c H1 locs1 cells slots Q (F0 m (pc + 3) ls rest)) : W p l e R s m args below meth c H locs cells slots Q (F0 m pc ls (v :: .ref a :: rest)) := by
  have hap := va_apart (own := own) hts hin ty0 hty hnm hK hc
  obtain ⟨r, h1, cell, q1, q2, q3, q4⟩ := hA
  have hr : r = (C, T, N) := Option.some.inj (h1.symm.trans hc)
  subst hr
  obtain ⟨hS, hfc, kC, hkC, hkind⟩ := hK.1 ci _ hc
  obtain ⟨cf, kf, fi, f, hi, hsl⟩ := hS k hk
  have hlay := hts _ (hin _ (u_in_lay hk))
  unfold u_lay at hlay
  rw [if_pos hfin] at hlay
  have hst := (u_facts hfc hkC (u_lays hts hin hk) hi).1
  have hcf : m.cls = cf := by
    obtain ⟨_, _, c', _, _, _, -, -, hf', -, -, -, hown2, -⟩ := Cond.laysFinal_spec hlay
    have e1 : c' = cf := by have := hi.symm.trans hf'; simp at this; exact this.1.symm
    rw [hdecl] at hown2
    rw [← e1]; exact Option.some.inj (hown.symm.trans hown2)
  have h6 := u_fits hfc hkC hkind (Or.inr hlay) hi hd hn hfit
  refine W.putFinK hexec hb hown hlink (hsame _ hi) hst hcf hin2 (by rw [q2]; exact h6) q1 q3 (by rw [hsl]; exact k2_hasslot (q4 k hk)) rfl rfl hdg fun H' e1 e2 e3 => ?_
  rw [hsl] at e1 ⊢
  exact kk H' _ ⟨e2, e3⟩ ⟨_, hc, t_OB.to (V := updV (vp_V fs) k v) ⟨_, e1, q2, q3, t_set q4 hap hk v⟩ (fun j _ => vp_updV_set hl v j)⟩ (gx_L1 hL hba)
theorem gx_iald (hexec : p.tables.exec = Jvm.exec) (hb : c.code = cc) (hK : va_K D cl tys s) (t0 : Nat) {cA : ClassId} {n : Nat} {f : Nat → Int32} (hA : va_at D cl (a, .inl (cA, n, .inl f)) H) (ht : tys[t0]? = some (cA, .int)) {i : Int32} (k : Nat) (hi : i = nI k) (hk : k < n) (hn : n < 2 ^ 31) (hdg : decode cc pc = .ok (.iaload, 1))
    (kk : W p l e R s m args below meth c H locs cells slots Q (F0 m (pc + 1) ls (.int (f k) :: rest))) : W p l e R s m args below meth c H locs cells slots Q (F0 m pc ls (.int i :: .ref a :: rest)) := by
  subst hi
  refine va_iald hexec hb hK (gx_one hA) 0 t0 rfl ht (vp_in_nI hk hn) hdg ?_
  rw [nI_clamp (Nat.lt_trans hk hn)]
  exact kk
theorem gx_lald (hexec : p.tables.exec = Jvm.exec) (hb : c.code = cc) (hK : va_K D cl tys s) (t0 : Nat) {cA : ClassId} {n : Nat} {f : Nat → Int64} (hA : va_at D cl (a, .inl (cA, n, .inr (.inl f))) H) (ht : tys[t0]? = some (cA, .long)) {i : Int32} (k : Nat) (hi : i = nI k) (hk : k < n) (hn : n < 2 ^ 31) (hdg : decode cc pc = .ok (.laload, 1))
    (kk : W p l e R s m args below meth c H locs cells slots Q (F0 m (pc + 1) ls (.long (f k) :: rest))) : W p l e R s m args below meth c H locs cells slots Q (F0 m pc ls (.int i :: .ref a :: rest)) := by
  subst hi
  refine va_lald hexec hb hK (gx_one hA) 0 t0 rfl ht (vp_in_nI hk hn) hdg ?_
  rw [nI_clamp (Nat.lt_trans hk hn)]
  exact kk
theorem gx_aald (hexec : p.tables.exec = Jvm.exec) (hb : c.code = cc) (hK : va_K D cl tys s) (t0 : Nat) {cA : ClassId} {C : String} {n x : Nat} {f : Nat → Option Nat} (hA : va_at D cl (a, .inl (cA, n, .inr (.inr (.inr (.inr f))))) H) (ht : tys[t0]? = some (cA, .object C)) {i : Int32} (k : Nat) (hi : i = nI k) (hk : k < n) (hn : n < 2 ^ 31) (hf : f k = some x) (hdg : decode cc pc = .ok (.aaload, 1))
    (kk : W p l e R s m args below meth c H locs cells slots Q (F0 m (pc + 1) ls (.ref x :: rest))) : W p l e R s m args below meth c H locs cells slots Q (F0 m pc ls (.int i :: .ref a :: rest)) := by
  subst hi
  refine va_aldq hexec hb hK (gx_one hA) 0 t0 rfl ht (vp_in_nI hk hn) hdg ?_
  rw [nI_clamp (Nat.lt_trans hk hn), hf]
  exact kk
theorem gx_zald (hexec : p.tables.exec = Jvm.exec) (hb : c.code = cc) (hK : va_K D cl tys s) (t0 : Nat) {cA : ClassId} {n : Nat} {f : Nat → Int32} (hA : va_at D cl (a, .inl (cA, n, .inl f)) H) (ht : tys[t0]? = some (cA, .boolean)) {i : Int32} (k : Nat) (hi : i = nI k) (hk : k < n) (hn : n < 2 ^ 31) (hdg : decode cc pc = .ok (.baload, 1))
    (kk : W p l e R s m args below meth c H locs cells slots Q (F0 m (pc + 1) ls (.int (f k) :: rest))) : W p l e R s m args below meth c H locs cells slots Q (F0 m pc ls (.int i :: .ref a :: rest)) := by
  subst hi
  have hin := vp_in_nI hk hn
  have hcl := nI_clamp (Nat.lt_trans hk hn)
  exact W.zald (v := .int (f k)) hexec hb hA ((hK.2 t0 _ ht).1 n (fun j => .int (f j))) (fun q => by cases q) (by show ¬ (nI k < 0 ∨ (arrV _ _ _).slots.size ≤ _); rw [arrV_size]; exact hin) (by rw [hcl]; show (arrV _ _ _).slots[_]? = _; rw [arrV_read _ _ hk]) rfl rfl hdg kk
theorem gx_iast (hexec : p.tables.exec = Jvm.exec) (hb : c.code = cc) (hK : va_K D cl tys s) (t0 : Nat) {cA : ClassId} {n : Nat} {f : Nat → Int32} (hA : va_at D cl (a, .inl (cA, n, .inl f)) H) (ht : tys[t0]? = some (cA, .int)) {i x : Int32} (k : Nat) (hi : i = nI k) (hk : k < n) (hn : n < 2 ^ 31) (hL : gx_L b locs) (hba : b ≤ a) (hdg : decode cc pc = .ok (.iastore, 1))
    (kk : ∀ (H1 : Heap) (locs1 : List Loc), gx_U a H H1 → va_at D cl (a, .inl (cA, n, .inl (va_up f k x))) H1 → gx_L b locs1 → W p l e R s m args below meth c H1 locs1 cells slots Q (F0 m (pc + 1) ls rest)) : W p l e R s m args below meth c H locs cells slots Q (F0 m pc ls (.int x :: .int i :: .ref a :: rest)) := by
  subst hi
  have hin := vp_in_nI hk hn
  have hcl := nI_clamp (Nat.lt_trans hk hn)
  refine W.iast hexec hb hA ((hK.2 t0 _ ht).1 n (fun j => .int (f j))) (fun q => by cases q) (by show ¬ (nI k < 0 ∨ (arrV _ _ _).slots.size ≤ _); rw [arrV_size]; exact hin) rfl rfl hdg fun H1 e1 z oq => ?_
  refine kk H1 _ ⟨z, oq⟩ ?_ (gx_L1 hL hba)
  show H1[a]? = some (vp_cell _ _)
  rw [e1, hcl]
  show some ((arrV cA n (fun j => Value.int (f j))).setSlot k (.int x)) = some (arrV cA n (fun j => Value.int (va_up f k x j)))
  rw [arrV_store]
  congr 2
  funext q
  by_cases hq : q = k
  · subst hq
    simp [updV, va_up]
  · simp [updV, va_up, hq]
theorem gx_zast (hexec : p.tables.exec = Jvm.exec) (hb : c.code = cc) (hK : va_K D cl tys s) (t0 : Nat) {cA : ClassId} {n : Nat} {f : Nat → Int32} (hA : va_at D cl (a, .inl (cA, n, .inl f)) H) (ht : tys[t0]? = some (cA, .boolean)) {i x : Int32} (hx : narrow .boolean (.int x) = .int x) (k : Nat) (hi : i = nI k) (hk : k < n) (hn : n < 2 ^ 31) (hL : gx_L b locs) (hba : b ≤ a) (hdg : decode cc pc = .ok (.bastore, 1))
    (kk : ∀ (H1 : Heap) (locs1 : List Loc), gx_U a H H1 → va_at D cl (a, .inl (cA, n, .inl (va_up f k x))) H1 → gx_L b locs1 → W p l e R s m args below meth c H1 locs1 cells slots Q (F0 m (pc + 1) ls rest)) : W p l e R s m args below meth c H locs cells slots Q (F0 m pc ls (.int x :: .int i :: .ref a :: rest)) := by
  subst hi
  have hin := vp_in_nI hk hn
  have hcl := nI_clamp (Nat.lt_trans hk hn)
  refine W.zast hexec hb hA ((hK.2 t0 _ ht).1 n (fun j => .int (f j))) (fun q => by cases q) (by show ¬ (nI k < 0 ∨ (arrV _ _ _).slots.size ≤ _); rw [arrV_size]; exact hin) rfl rfl hdg fun H1 e1 z oq => ?_
  refine kk H1 _ ⟨z, oq⟩ ?_ (gx_L1 hL hba)
  show H1[a]? = some (vp_cell _ _)
  rw [e1, hcl, hx]
  show some ((arrV cA n (fun j => Value.int (f j))).setSlot k (.int x)) = some (arrV cA n (fun j => Value.int (va_up f k x j)))
  rw [arrV_store]
  congr 2
  funext q
  by_cases hq : q = k
  · subst hq
    simp [updV, va_up]
  · simp [updV, va_up, hq]
theorem gx_last (hexec : p.tables.exec = Jvm.exec) (hb : c.code = cc) (hK : va_K D cl tys s) (t0 : Nat) {cA : ClassId} {n : Nat} {f : Nat → Int64} (hA : va_at D cl (a, .inl (cA, n, .inr (.inl f))) H) (ht : tys[t0]? = some (cA, .long)) {i : Int32} {x : Int64} (k : Nat) (hi : i = nI k) (hk : k < n) (hn : n < 2 ^ 31) (hL : gx_L b locs) (hba : b ≤ a) (hdg : decode cc pc = .ok (.lastore, 1))
    (kk : ∀ (H1 : Heap) (locs1 : List Loc), gx_U a H H1 → va_at D cl (a, .inl (cA, n, .inr (.inl (va_up f k x)))) H1 → gx_L b locs1 → W p l e R s m args below meth c H1 locs1 cells slots Q (F0 m (pc + 1) ls rest)) : W p l e R s m args below meth c H locs cells slots Q (F0 m pc ls (.long x :: .int i :: .ref a :: rest)) := by
  subst hi
  have hin := vp_in_nI hk hn
  have hcl := nI_clamp (Nat.lt_trans hk hn)
  refine W.last hexec hb hA ((hK.2 t0 _ ht).1 n (fun j => .long (f j))) (fun q => by cases q) (by show ¬ (nI k < 0 ∨ (arrV _ _ _).slots.size ≤ _); rw [arrV_size]; exact hin) rfl rfl hdg fun H1 e1 z oq => ?_
  refine kk H1 _ ⟨z, oq⟩ ?_ (gx_L1 hL hba)
  show H1[a]? = some (vp_cell _ _)
  rw [e1, hcl]
  show some ((arrV cA n (fun j => Value.long (f j))).setSlot k (.long x)) = some (arrV cA n (fun j => Value.long (va_up f k x j)))
  rw [arrV_store]
  congr 2
  funext q
  by_cases hq : q = k
  · subst hq
    simp [updV, va_up]
  · simp [updV, va_up, hq]
/-- a reference into an array of references: what is stored is a cell of a class that goes there -/
theorem gx_aast (hexec : p.tables.exec = Jvm.exec) (hb : c.code = cc) (hK : va_K D cl tys s) (t0 : Nat) {cA : ClassId} {C : String} {n v : Nat} {f : Nat → Option Nat} (hA : va_at D cl (a, .inl (cA, n, .inr (.inr (.inr (.inr f))))) H) (ht : tys[t0]? = some (cA, .object C)) (hv : va_Any C s H v) {i : Int32} (k : Nat) (hi : i = nI k) (hk : k < n) (hn : n < 2 ^ 31) (hL : gx_L b locs) (hba : b ≤ a) (hdg : decode cc pc = .ok (.aastore, 1))
    (kk : ∀ (H1 : Heap) (locs1 : List Loc), gx_U a H H1 → va_at D cl (a, .inl (cA, n, .inr (.inr (.inr (.inr (va_up f k (some v))))))) H1 → gx_L b locs1 → W p l e R s m args below meth c H1 locs1 cells slots Q (F0 m (pc + 1) ls rest)) : W p l e R s m args below meth c H locs cells slots Q (F0 m pc ls (.ref v :: .int i :: .ref a :: rest)) := by
  subst hi
  have hcl := nI_clamp (Nat.lt_trans hk hn)
  obtain ⟨cellV, g1, g2, ⟨kC, hkC⟩, g4⟩ := hv
  obtain ⟨kA, comp, k1, k2, k3, -⟩ := (hK.2 t0 _ ht).2
  have hkk : ∃ kcomp : Class, s.vm.classes[comp]? = some kcomp := Vm.classAt_of_findClass k3
  obtain ⟨kcomp, hkcomp⟩ := hkk
  refine W.aast hexec hb hA (fun q h => by cases h) (fun h => by cases h) k1 k2 rfl hkcomp ⟨nI_pos (Nat.lt_trans hk hn), by rw [hcl]; show _ < (arrV _ _ _).slots.size; rw [arrV_size]; exact hk⟩ g1 (fun q h => by rw [h] at g2; cases g2) hkC (g4 comp k3) rfl rfl hdg fun H1 e1 z oq => ?_
  refine kk H1 _ ⟨z, oq⟩ ?_ (gx_L1 hL hba)
  show H1[a]? = some (vp_cell _ _)
  rw [e1, hcl]
  show some ((arrV cA n (fun j => va_rf (f j))).setSlot k (.ref v)) = some (arrV cA n (fun j => va_rf (va_up f k (some v) j)))
  rw [arrV_store]
  congr 2
  funext q
  by_cases hq : q = k
  · subst hq
    simp [updV, va_up, va_rf]
  · simp [updV, va_up, hq]
theorem gx_alen (hexec : p.tables.exec = Jvm.exec) (hb : c.code = cc) (hK : va_K D cl tys s) (t0 : Nat) {cA : ClassId} {x : vp_A} (hA : va_at D cl (a, .inl (cA, x)) H) {ty : FieldType} (ht : tys[t0]? = some (cA, ty)) (hdg : decode cc pc = .ok (.arraylength, 1))
    (kk : W p l e R s m args below meth c H locs cells slots Q (F0 m (pc + 1) ls (.int (nI x.1) :: rest))) : W p l e R s m args below meth c H locs cells slots Q (F0 m pc ls (.ref a :: rest)) :=
  va_alen (v := nI x.1) hexec hb hK (gx_one hA) 0 t0 rfl ht rfl hdg kk
theorem gx_new {c0 : Code} (hexec : p.tables.exec = Jvm.exec) (hb : c0.code = cc) {own C : String} {T : u_T} {N ci index : Nat} {Ts : List Cond} (hts : ∀ w ∈ Ts, w.before args s = true) (hin : ∀ w ∈ u_ws C T N, w ∈ Ts) (ty : Nat → FieldType) (hty : ∀ k, k < N → parseFieldDescriptor (T k).2.2.1 = some (ty k)) (hown : s.vm.findClass own = some m.cls) (hcl : (Cond.classLink own index C).before args s = true) (hinst : (Cond.instantiable C N).before args s = true) (hini : (Cond.initialized C).before args s = true)
    (hK : va_K D cl tys s) (hc : cl[ci]? = some (C, T, N)) {fs : List Value} (hfs : ∀ j, j < N → defaultValue (ty j) = vp_V fs j) (hcells : cells + 1 ≤ R.cells) (hslots : slots + N ≤ R.slots) (hdg : decode cc pc = .ok (.new index, 3))
    (kk : ∀ (H1 : Heap), gx_N H H1 → va_at D cl (H.size, .inr (ci, fs)) H1 →
      W p l e R s m args below meth c0 H1 locs (cells + 1) (slots + N) Q (F0 m (pc + 3) ls (.ref H.size :: rest))) : W p l e R s m args below meth c0 H locs cells slots Q (F0 m pc ls rest) := by
  have hKn := hK.1 ci _ hc
  refine W.newcK hexec hb hown hcl hinst hini rfl hdg hcells hslots hKn.2.1 rfl fun H1 kC hkC e1 z1 o1 => ?_
  exact kk H1 ⟨z1, o1⟩ ⟨_, hc, (u_born ty hts hin hKn hkC e1 hty).to hfs⟩
/-- an array made: its class is the one that the tables name -/
theorem gx_newa (hexec : p.tables.exec = Jvm.exec) (hb : c.code = cc) {atype : ArrayType} (harr : (Cond.arrayClass (newarray.typeOf atype)).before args s = true) {ty : FieldType} (hty : newarray.typeOf atype = ty) (hK : va_K D cl tys s) (t0 : Nat) {cA : ClassId} (ht : tys[t0]? = some (cA, ty)) (hobj : ∀ C, ty ≠ .object C)
    {n : Int32} {N' : Nat} {a0 : vp_A} (ha : ∀ cA : ClassId, vp_cell cA a0 = arrV cA N' (fun _ => defaultValue ty)) (hn : ¬ n < 0) (hN : n.toNatClampNeg = N') (hbytes : N' * componentBytes ty ≤ 536870912) (hcells : cells + 1 ≤ R.cells) (hslots : slots + N' ≤ R.slots) (hdg : decode cc pc = .ok (.newarray atype, 2))
    (kk : ∀ (H1 : Heap), gx_N H H1 → va_at D cl (H.size, .inl (cA, a0)) H1 →
      W p l e R s m args below meth c H1 locs (cells + 1) (slots + N') Q (F0 m (pc + 2) ls (.ref H.size :: rest))) : W p l e R s m args below meth c H locs cells slots Q (F0 m pc ls (.int n :: rest)) := by
  subst hty
  refine va_newaK hexec hb harr rfl hdg rfl hn hN hbytes hcells hslots rfl fun H1 cA' e1 z1 o1 hAr hNm => ?_
  have hra := (hK.2 t0 _ ht).2
  have he : cA = cA' := by
    have h2 : s.vm.findClass ("[" ++ (newarray.typeOf atype).toString) = some cA := by
      cases hz : newarray.typeOf atype <;> rw [hz] at hra <;> first | exact hra | exact absurd hz (hobj _)
    exact Option.some.inj (h2.symm.trans hNm)
  subst he
  refine kk H1 ⟨z1, o1⟩ ?_
  show H1[H.size]? = some (vp_cell _ _)
  rw [ha]
  exact e1
theorem gx_newq (hexec : p.tables.exec = Jvm.exec) (hb : c.code = cc) {own C : String} {index : Nat} (hown : s.vm.findClass own = some m.cls) (hclink : (Cond.classLink own index C).before args s = true) (hover : va_AO C s) (hK : va_K D cl tys s) (t0 : Nat) {cA : ClassId} (ht : tys[t0]? = some (cA, .object C))
    {n : Int32} {N' : Nat} (hn : ¬ n < 0) (hN : n.toNatClampNeg = N') (hbytes : N' * 4 ≤ 536870912) (hcells : cells + 1 ≤ R.cells) (hslots : slots + N' ≤ R.slots) (hdg : decode cc pc = .ok (.anewarray index, 3))
    (kk : ∀ (H1 : Heap), gx_N H H1 → va_at D cl (H.size, .inl (cA, N', .inr (.inr (.inr (.inr (fun _ => none)))))) H1 →
      W p l e R s m args below meth c H1 locs (cells + 1) (slots + N') Q (F0 m (pc + 3) ls (.ref H.size :: rest))) : W p l e R s m args below meth c H locs cells slots Q (F0 m pc ls (.int n :: rest)) := by
  subst hN
  refine W.anew hexec hb hown hclink (va_AO.use hover) rfl hdg rfl hn hbytes hcells hslots fun cA' kA comp f1 f2 f3 f4 => ?_
  have he : cA = cA' := by
    obtain ⟨_, _, _, _, _, k4⟩ := (hK.2 t0 _ ht).2
    exact Option.some.inj (k4.symm.trans f1)
  subst he
  refine kk _ ⟨Array.size_push .., fun q hq => by rw [Array.getElem?_push, if_neg (Nat.ne_of_lt hq)]⟩ ?_
  show _ = some (arrV cA n.toNatClampNeg (fun _ => Value.null))
  rw [Array.getElem?_push_size, ← arrV_new]
theorem gx_getN (hexec : p.tables.exec = Jvm.exec) (hb : c.code = cc) {own ref C host : String} {T : u_T} {N ci index : Nat} {Ts : List Cond} (hts : ∀ w ∈ Ts, w.before args s = true) (hin : ∀ w ∈ u_ws C T N, w ∈ Ts) (hown : s.vm.findClass own = some m.cls) (hK : va_K D cl tys s) {fs : List Value} (hA : va_at D cl (a, .inr (ci, fs)) H) (hc : cl[ci]? = some (C, T, N)) (k : Nat) (hk : k < N) (hlink : va_Nw (.fieldLinkNest own index ref (T k).2.1 (T k).2.2.1 host) s) (hsame : ∀ x, s.fieldFound? (T k).1 (T k).2.1 (T k).2.2.1 = some x → s.fieldFound? ref (T k).2.1 (T k).2.2.1 = some x) {v : Value} (hv : fs[k]? = some v) (hdg : decode cc pc = .ok (.getfield index, 3))
    (kk : W p l e R s m args below meth c H locs cells slots Q (F0 m (pc + 3) ls (v :: rest))) : W p l e R s m args below meth c H locs cells slots Q (F0 m pc ls (.ref a :: rest)) :=
  va_getN hexec hb hts hin hown hK (gx_one hA) 0 rfl hc k hk (va_Nw.use rfl hlink) hsame hv hdg kk
theorem gx_get (hexec : p.tables.exec = Jvm.exec) (hb : c.code = cc) {own ref C : String} {T : u_T} {N ci index : Nat} {Ts : List Cond} (hts : ∀ w ∈ Ts, w.before args s = true) (hin : ∀ w ∈ u_ws C T N, w ∈ Ts) (hown : s.vm.findClass own = some m.cls) (hK : va_K D cl tys s) {fs : List Value} (hA : va_at D cl (a, .inr (ci, fs)) H) (hc : cl[ci]? = some (C, T, N)) (k : Nat) (hk : k < N) (hlink : (Cond.fieldLink own index ref (T k).2.1 (T k).2.2.1).before args s = true) (hsame : ∀ x, s.fieldFound? (T k).1 (T k).2.1 (T k).2.2.1 = some x → s.fieldFound? ref (T k).2.1 (T k).2.2.1 = some x) {v : Value} (hv : fs[k]? = some v) (hdg : decode cc pc = .ok (.getfield index, 3))
    (kk : W p l e R s m args below meth c H locs cells slots Q (F0 m (pc + 3) ls (v :: rest))) : W p l e R s m args below meth c H locs cells slots Q (F0 m pc ls (.ref a :: rest)) :=
  va_get hexec hb hts hin hown hK (gx_one hA) 0 rfl hc k hk hlink hsame hv hdg kk
/-! calls -/
variable {st0 : List Value} {mc ms : Nat} {P : Heap → Prop} {av : Array Value} {s0 : State}
theorem cc_v {r : Value} (hr : va_Run p l e R s m args below meth c H locs cells slots mc ms (F0 m pc ls st0) rest (cQv r P av) (cF s0)) (hL : gx_L s0.heap.size locs) (kk : ∀ (H1 : Heap) (locs1 : List Loc), P H1 → gx_L s0.heap.size locs1 → W p l e R s m args below meth c H1 locs1 (cells + mc) (slots + ms) Q (F0 m (pc + 3) ls (r :: rest))) : W p l e R s m args below meth c H locs cells slots Q (F0 m pc ls st0) := by
  intro T hT X
  obtain ⟨v, st₀, t, T', L, h0, X', hLL, e1, e2, ⟨hv, hp⟩, st⟩ := hr T hT X
  cases hv
  obtain ⟨t2, a1, b1⟩ := kk T'.heap (locs ++ L) (by rw [e1]; exact hp) (gx_L2 hL hLL) T' rfl X'
  exact ⟨t2, st t2 a1, b1⟩
theorem cc_0 (hr : va_Run p l e R s m args below meth c H locs cells slots mc ms (F0 m pc ls st0) rest (cQ0 P av) (cF s0)) (hL : gx_L s0.heap.size locs) (kk : ∀ (H1 : Heap) (locs1 : List Loc), P H1 → gx_L s0.heap.size locs1 → W p l e R s m args below meth c H1 locs1 (cells + mc) (slots + ms) Q (F0 m (pc + 3) ls rest)) : W p l e R s m args below meth c H locs cells slots Q (F0 m pc ls st0) := by
  intro T hT X
  obtain ⟨v, st₀, t, T', L, h0, X', hLL, e1, e2, ⟨hv, hp⟩, st⟩ := hr T hT X
  cases hv
  obtain ⟨t2, a1, b1⟩ := kk T'.heap (locs ++ L) (by rw [e1]; exact hp) (gx_L2 hL hLL) T' rfl X'
  exact ⟨t2, st t2 a1, b1⟩
/-- a call's start by the contract's start -/
theorem cc_pS {As : List Value} (hW : s0.WarmedH s.vm) : PreS s H (cP s0 As H) As := ⟨cP.blind, fun U hU hW1 => ⟨rfl, hU, State.WarmedH.trans hW hW1⟩⟩
theorem cc_pV {C : String} {b : Addr} {As : List Value} (hW : s0.WarmedH s.vm) (hr : ∃ cellB : Cell, H[b]? = some cellB ∧ cellB.vm.isStatics = false ∧ s.vm.findClass C = some cellB.cls) : PreV s H C b (cP s0 (Value.ref b :: As) H) As := ⟨cP.blind, hr, fun U hU hW1 => ⟨rfl, hU, State.WarmedH.trans hW hW1⟩⟩
theorem cc_re {ci : Nat} {q : vw_C} {fs : List Value} (hK : va_K D cl tys s) (hA : va_at D cl (a, .inr (ci, fs)) H) (hc : cl[ci]? = some q) : ∃ cell : Cell, H[a]? = some cell ∧ cell.vm.isStatics = false ∧ s.vm.findClass q.1 = some cell.cls := va_recv hK (gx_one hA) hc (q0 := 0) rfl
end GX
