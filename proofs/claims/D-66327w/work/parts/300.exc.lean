/-! EXCEPTIONS: contracts of methods that throw; a throw that goes out of the method; a throw that is caught there -/
def MetT (l : Launch) (y : MethodName) (ws : List Cond) (rm : Room) (Pc : Array Value → State → Prop) (Qt : Array Value → State → Addr → State → Prop) (mc ms : Nat) (free : Addr → Prop) : Prop :=
  MetFree l y (headSpec ws rm) Pc (fun _ _ _ _ _ => True) (fun a st o t => ∃ x, o = .threw x ∧ Qt a st x t ∧ ∃ L, (st.WarmedH t.vm ∧ st.sameButNew ({ t with vm := st.vm } : State) L mc ms) ∧ ∀ q ∈ L, free q.base)
def MQT (below : List Frame) (Qt : Array Value → State → Addr → State → Prop) (a : Array Value) (s : State) (mc ms : Nat) (free : Addr → Prop) : State → Prop := fun t =>
  ∃ x, t.status = .running ∧ Ended t below (.threw x) ∧ Qt a s x t ∧ ∃ L, (s.WarmedH t.vm ∧ s.sameButNew ({ t with vm := s.vm } : State) L mc ms) ∧ ∀ q ∈ L, free q.base
theorem MetT.ofW {l : Launch} {y : MethodName} {ws ws' : List Cond} {rm : Room} {Pc : Array Value → State → Prop} {Qt : Array Value → State → Addr → State → Prop} {mc ms : Nat} {free : Addr → Prop} {cc : ByteArray} {maxL : Nat} {ret : Option FieldType}
    (hy : plainName y.cls = true) (hw : ws = Cond.code y cc maxL ret :: ws')
    (body : ∀ p e s m args below meth c s₁, BodyLoose p l y (headSpec ws rm) cc maxL ret e s m args below meth c s₁ → c.maxLocals = maxL → Pc args s →
      W p l e (headSpec ws rm).room s m args below meth c s.heap [] 0 0 (MQT below Qt args s mc ms free) (entryFrame m args maxL)) : MetT l y ws rm Pc Qt mc ms free := by
  refine MetFree.of_bodyS (code := cc) (maxLocals := maxL) (ret := ret) hy ?_ ?_
  · intro args s m h hn
    obtain ⟨meth, c, h1, h2, h3, h4, h5, h6, -, -⟩ := Cond.code_spec hn (atoms_spec (ws := ws) h _ (by rw [hw]; exact List.mem_cons_self))
    exact ⟨meth, c, h1, h2, h3, h4, h5, h6⟩
  · intro p e s m args below meth c s₁ B hml hP _
    have hh0 : s₁.heap = s.heap := by rw [B.state]; rfl
    obtain ⟨t, a1, x, b1, b2, b3⟩ := body p e s m args below meth c s₁ B hml hP s₁ hh0 (Stand.of_body B)
    exact ⟨t, .threw x, a1, b1, b2, x, rfl, b3⟩
section GTA
variable {p : Program} {l : Launch} {e : Env} {R : Room} {s : State} {m : MethodId} {args : Array Value} {below : List Frame} {meth : Method} {c : Code} {locs : List Loc} {cells slots : Nat}
variable {y : MethodName} {bytes cc : ByteArray} {maxL nL mc ms n index : Nat} {ret : Option FieldType} {ws : List Cond} {rm : Room} {Pc : Array Value → State → Prop} {Qt : Array Value → State → Addr → State → Prop} {free : Addr → Prop} {Ts : List Cond} {own C : String} {b : Addr} {As rest : List Value} {g : JFrame}
/-- a callee that throws, entered from the frame g: the caller stands with the note over g -/
theorem gt_call {U : State} (X : Stand p l e R s m args below meth c U locs cells slots) (cb : CallB R s args own index y bytes maxL ret ws rm mc ms n) (hM : MetT l y ws rm Pc Qt mc ms free) (hbl : FrameBlind Pc)
    {ig : Instr} {len : Nat} {mk : MethodId} {a : Array Value} (hg : g.method = m) (hsize : g.locals.size = c.maxLocals) (hdg : decode c.code g.pc = .ok (ig, len)) (hW : 2 * g.monitorRoom + (g.stack.map fun v => v.category).sum ≤ 8) (hn : U.methodNamed? y = some mk) (hf : cells + mc ≤ R.cells ∧ slots + ms ≤ R.slots) (hP : Pc a U) :
    ∃ (x : Addr) (st₀ t T' : State) (L : List Loc), st₀.heap = U.heap ∧ Stand p l e R s m args below meth c T' (locs ++ L) (cells + mc) (slots + ms) ∧ (∀ q ∈ L, free q.base) ∧ T'.heap = t.heap ∧ T'.vm = t.vm ∧ Qt a st₀ x t ∧
      Steps p.tables e below (doInvoke e (U.setTop g) [] mk a).1 ((T'.setTop g).pushFrame (.throwing x)) := by
  obtain ⟨hrc, hrs, hfr, hlo, hws, hcw, -, hini, -⟩ := cb
  have h1 : (headSpec ws rm).pre.before a U = true := atoms_intro fun w hw => hws w hw _ _ X.warmed
  have h2 : (Cond.code y bytes maxL ret).before a U = true := hws _ hcw _ _ X.warmed
  have h3 : (Cond.initialized y.cls).before a U = true := word_at X.warmed (Or.inl (by first | rfl | simp [Cond.onTables, Cond.keeps, Cond.steady])) hini
  obtain ⟨methY, cY, hmY, hcY, -, hlY, -, -, -, -⟩ := Cond.code_spec hn h2
  obtain ⟨kY, hkY, -⟩ := className_of_methodNamed hn
  have hinitY : kY.init = .initialized := Cond.initialized_spec (findClass_of_methodNamed hn) hkY h3
  have h : At U g.method c below := by rw [hg]; exact X.here
  have happ : (headSpec ws rm).appliesLoose y e.platform (U.calling g mk a) = true :=
    Spec.appliesLoose_calling (g := g) h hdg hn hkY hinitY
      (X.room_calling (g := g) (R' := (headSpec ws rm).room) hsize hmY hcY hfr (by rw [hlY]; show _ + (rm.locals) ≤ _; omega) (by show cells + rm.cells ≤ _; rw [hrc]; exact hf.1) (by show slots + rm.slots ≤ _; rw [hrs]; exact hf.2)) h1
  obtain ⟨mid, hmid⟩ := h.above
  have hfm : (U.setTop g).frames = (.java g :: mid) ++ below := by rw [State.frames_setTop' g h.top, hmid]; rfl
  obtain ⟨o, s₂, hsteps, -, hend, hq⟩ := Steps.callFree (show MetFree _ _ _ _ _ _ from hM) p X.admits X.cas X.clock (acts := []) hfm happ (hbl _ _ _ _ hP) trivial
  obtain ⟨v, ho, hq1, L, ⟨hW₂, hsm⟩, hL⟩ := hq
  subst ho
  obtain ⟨e2, q2, q3, q4, q5, q6⟩ := hsm
  rw [State.frames_setTop' g h.top] at hend
  have e3 : s₂ = ({ (U.calling g mk a).setFrames s₂.frames with heap := s₂.heap, slotsUsed := s₂.slotsUsed } : State).setVm s₂.vm := by
    have e2' : ({ s₂ with vm := (U.calling g mk a).vm } : State) = { (U.calling g mk a).setFrames s₂.frames with heap := s₂.heap, slotsUsed := s₂.slotsUsed } := e2
    have : s₂ = ({ s₂ with vm := (U.calling g mk a).vm } : State).setVm s₂.vm := rfl
    rw [e2'] at this
    exact this
  have hf₂ : s₂.frames = .throwing v :: .java g :: U.frames.tail := hend
  have hW' : U.WarmedH s₂.vm := hW₂
  obtain ⟨g₀, hg0⟩ := Option.isSome_iff_exists.mp h.top
  obtain ⟨r, hr⟩ := State.topJava?_eq_some.mp hg0
  have hs₂ : s₂ = ((({ U with heap := s₂.heap, slotsUsed := s₂.slotsUsed } : State).setVm s₂.vm).setTop g).pushFrame (.throwing v) := by
    have hr' : (({ U with heap := s₂.heap, slotsUsed := s₂.slotsUsed } : State).setVm s₂.vm).frames = .java g₀ :: r := hr
    refine e3.trans ?_
    rw [hf₂, State.calling_eq h.top, State.setFrames_setFrames, State.pushFrame, State.frames_setTop _ hr', State.setTop_of_frames _ hr', State.setFrames_setFrames, hr]
    rfl
  have hsame : U.sameButNew ({ U with heap := s₂.heap, slotsUsed := s₂.slotsUsed } : State) L mc ms := by
    refine ⟨?_, q2, q3, q4, q5, q6⟩
    obtain ⟨t, ht, -⟩ := State.frames_cons hr
    show ({ U with heap := s₂.heap, slotsUsed := s₂.slotsUsed } : State) = { U.setFrames U.frames with heap := s₂.heap, slotsUsed := s₂.slotsUsed }
    rw [State.setFrames_self ht]
  subst hg
  refine ⟨v, U.calling g mk a, s₂, (({ U with heap := s₂.heap, slotsUsed := s₂.slotsUsed } : State).setVm s₂.vm), L, rfl,
    ⟨X.admits, X.cas, X.clock, X.frames, X.room, X.hears, X.method, X.code, (X.here.setHeapUsed s₂.heap s₂.slotsUsed).setVm hW'.alike, X.tail, State.WarmedH.trans X.warmed hW', X.limits, X.bytes, X.same.trans (hsame.setVm s.vm)⟩, hL, rfl, rfl, hq1, ?_⟩
  rw [← hs₂]
  exact hsteps
/-- a call whose callee throws -/
def va_RunT (p : Program) (l : Launch) (e : Env) (R : Room) (s : State) (m : MethodId) (args : Array Value) (below : List Frame) (meth : Method) (c : Code) (H : Heap) (locs : List Loc) (cells slots mc ms : Nat) (g : JFrame) (rest : List Value) (Qa : State → Addr → State → Prop) (free : Addr → Prop) : Prop :=
  ∀ T : State, T.heap = H → Stand p l e R s m args below meth c T locs cells slots → ∃ (x : Addr) (st₀ t T' : State) (L : List Loc), st₀.heap = H ∧ Stand p l e R s m args below meth c T' (locs ++ L) (cells + mc) (slots + ms) ∧ (∀ q ∈ L, free q.base) ∧ T'.heap = t.heap ∧ T'.vm = t.vm ∧ Qa st₀ x t ∧
    ∀ tg, Steps p.tables e below ((T'.setTop { g with stack := rest }).pushFrame (.throwing x)) tg → Steps p.tables e below (T.setTop g) tg
variable {H : Heap}
theorem va_runTV (S : CallFix p m c cc nL s args Ts own) (hM : MetT l y ws rm Pc Qt mc ms free) (cw : CallW R s args own C index y bytes maxL ret ws rm mc ms n) (hp : PreV s H C b Pc As)
    (hg : g.method = m) (hn : As.length = n) (hsize : g.locals.size = nL) (hstack : g.stack = As.reverse ++ .ref b :: rest) (hW : 2 * g.monitorRoom + (rest.map fun v => v.category).sum ≤ 8) (hdg : decode cc g.pc = .ok (.invokevirtual index, 3)) (hf : cells + mc ≤ R.cells ∧ slots + ms ≤ R.slots) :
    va_RunT p l e R s m args below meth c H locs cells slots mc ms g rest (Qt (Value.ref b :: As).toArray) free := by
  have cb := cw.1
  obtain ⟨⟨-, -, -, -, -, -, hcode, -, hy, hlen, hl⟩, hin, hse⟩ := cw
  obtain ⟨hx, hb, hml, ho, -⟩ := S
  obtain ⟨hbl, ⟨cellB, hcB, hoB, hclB⟩, hPc⟩ := hp
  intro T hT X
  obtain ⟨mk, methM, hnamed, hmethM, hstM, habM⟩ := Cond.instanceMethod_spec hin
  obtain ⟨methM', cM, hmethM', -, -, -, -, -, -, hsigM⟩ := Cond.code_spec hnamed hcode
  cases hmethM.symm.trans hmethM'
  obtain ⟨c2, r2, m2, q1, q2, q3, q4, kP, hkP, hkPi⟩ := Cond.selects_spec hse
  cases hclB.symm.trans q1
  cases (State.methodFound?_of_named hnamed hy).symm.trans q2
  cases hnamed.symm.trans q3
  have hselP : selectMethod e.platform s.vm cellB.cls mk = .method mk := by rw [Launch.admits_selectMethod X.admits]; exact q4
  obtain ⟨vm₁, X₁, hstep₁⟩ := X.invokevirtual hx ho hl hnamed hmethM hstM hkP hkPi hy (a := b) (cell := cellB) (by rw [hT]; exact hcB)
    (fun z h => by rw [h] at hoB; cases hoB) hselP hmethM habM hkP hkPi (g := g) hg (argsL := As) (rest := rest) (hn.trans (hlen _ hsigM)) hstack (by rw [hb]; exact hdg)
  obtain ⟨x, st₀, t, T', L, h0, X', hL, e1, e2, hq, hst⟩ := gt_call X₁ cb hM hbl (g := { g with stack := rest }) (ig := .invokevirtual index) (len := 3) (mk := mk) (a := (Value.ref b :: As).toArray) hg (hsize.trans hml.symm) (by rw [hb]; exact hdg) hW (X₁.named hnamed) hf (hPc (T.setVm vm₁) hT X₁.warmed)
  exact ⟨x, st₀, t, T', L, h0.trans hT, X', hL, e1, e2, hq, fun tg h => hstep₁ _ fun acts => by rw [doInvoke_state]; exact hst.trans h⟩
theorem va_runTS (S : CallFix p m c cc nL s args Ts own) (hM : MetT l y ws rm Pc Qt mc ms free) (cw : CallB R s args own index y bytes maxL ret ws rm mc ms n ∧ (Cond.static y).before args s = true) (hp : PreS s H Pc As)
    (hg : g.method = m) (hn : As.length = n) (hsize : g.locals.size = nL) (hstack : g.stack = As.reverse ++ rest) (hW : 2 * g.monitorRoom + (rest.map fun v => v.category).sum ≤ 8) (hdg : decode cc g.pc = .ok (.invokestatic index, 3)) (hf : cells + mc ≤ R.cells ∧ slots + ms ≤ R.slots) :
    va_RunT p l e R s m args below meth c H locs cells slots mc ms g rest (Qt As.toArray) free := by
  have cb := cw.1
  obtain ⟨⟨-, -, -, -, -, -, hcode, hini, hy, hlen, hl⟩, hstt⟩ := cw
  obtain ⟨hx, hb, hml, ho, -⟩ := S
  intro T hT X
  obtain ⟨mk, hnamed⟩ := Cond.code_named hcode
  obtain ⟨methM, cM, hmethM, -, -, -, -, -, -, hsigM⟩ := Cond.code_spec hnamed hcode
  have hstatic : methM.isStatic = true := Cond.static_spec hnamed hmethM hstt
  obtain ⟨kP, hkP, -⟩ := className_of_methodNamed hnamed
  have hinitP : kP.init = .initialized := Cond.initialized_spec (findClass_of_methodNamed hnamed) hkP hini
  obtain ⟨vm₁, X₁, hstep₁⟩ := X.invokestatic hx ho hl hnamed hmethM hstatic hkP hinitP hy (g := g) hg (argsL := As) (rest := rest) (hn.trans (hlen _ hsigM)) hstack (by rw [hb]; exact hdg)
  obtain ⟨x, st₀, t, T', L, h0, X', hL, e1, e2, hq, hst⟩ := gt_call X₁ cb hM hp.1 (g := { g with stack := rest }) (ig := .invokestatic index) (len := 3) (mk := mk) (a := As.toArray) hg (hsize.trans hml.symm) (by rw [hb]; exact hdg) hW (X₁.named hnamed) hf (hp.2 (T.setVm vm₁) hT X₁.warmed)
  exact ⟨x, st₀, t, T', L, h0.trans hT, X', hL, e1, e2, hq, fun tg h => hstep₁ _ fun acts => by rw [doInvoke_state]; exact hst.trans h⟩
/-- the throw goes out of this method too -/
theorem gt_leave {Qa : State → Addr → State → Prop} {Qt' : Array Value → State → Addr → State → Prop} {free' : Addr → Prop} {pc : Nat} {ls : Array Slot} {st0 : List Value} (hr : va_RunT p l e R s m args below meth c H locs cells slots mc ms (F0 m pc ls st0) rest Qa free) (hno : c.exceptionTable.isEmpty = true)
    (hq : ∀ (st₀ t u : State) (x : Addr), Qa st₀ x t → u.heap = t.heap → u.vm = t.vm → s.WarmedH u.vm → Qt' args s x u) (hf : ∀ q ∈ locs, free' q.base) (hff : ∀ q, free q → free' q) (hlocks : meth.locks = false) :
    W p l e R s m args below meth c H locs cells slots (MQT below Qt' args s (cells + mc) (slots + ms) free') (F0 m pc ls st0) := by
  intro T hT X
  obtain ⟨x, st₀, t, T', L, h0, X', hL, e1, e2, hqa, hst⟩ := hr T hT X
  have hout : ∀ y ∈ c.exceptionTable.toList, covers y pc = false := by
    have h0 : c.exceptionTable.size = 0 := by simpa [Array.isEmpty] using hno
    have h1 : c.exceptionTable.toList = [] := List.eq_nil_of_length_eq_zero (by simpa using h0)
    intro y hy
    rw [h1] at hy
    cases hy
  obtain ⟨hwalk, hrun, hended, hWU, hsame⟩ := X'.leaveThrown x (g := { (F0 m pc ls st0) with stack := rest }) rfl rfl rfl hout hlocks
  refine ⟨_, hst _ hwalk, x, hrun, hended, hq st₀ t _ x hqa e1 e2 hWU, locs ++ L, ⟨hWU, hsame⟩, fun q h => ?_⟩
  rcases List.mem_append.mp h with h | h
  · exact hf q h
  · exact hff _ (hL q h)
end GTA
section GTB
variable {p : Program} {l : Launch} {e : Env} {R : Room} {s : State} {m : MethodId} {args : Array Value} {below : List Frame} {meth : Method} {c : Code} {locs : List Loc} {cells slots : Nat} {H : Heap} {Q : State → Prop}
/-- a row of the table whose catch type is resolved now: the search as from the warmer tables -/
theorem gt_go {E : CtlPost} {d : Bool} {acts : List Action} {u : State} {f : JFrame} {a : Addr} {Q : Handler → Pre} {x : ExceptionTableEntry} {t : List ExceptionTableEntry} {cC : ClassId} {cell : Cell} {vm' : Vm} (hx : covers x f.pc = true) (h0 : x.catchType ≠ 0)
    (hg : (Jvm.resolveClass f.method.cls x.catchType).Gives e.toSetting u.vm (.ok cC) vm') (hsz : vm'.classes.size ≤ u.vm.classes.size) (hcell : u.heap[a]? = some cell) (hobj : ∀ k, cell.vm ≠ .statics k) (hk : ∃ k, vm'.classes[cell.cls]? = some k) (hc : ∃ k, vm'.classes[cC]? = some k) :
    wp (findHandler.go f a (x :: t)) Q E e d acts u ↔ if vm'.assignable cell.cls cC = true then Q (.found x.handlerPc) d acts (u.setVm vm') else wp (findHandler.go f a t) Q E e d acts (u.setVm vm') := by
  simp only [covers] at hx
  obtain ⟨ha, ht⟩ := hg.op (op := VmOp.resolveClass f.method.cls x.catchType) rfl
  cases hfit : vm'.assignable cell.cls cC <;> simp [findHandler.go, hx, h0, ha, ht, hsz, hcell, hobj, hk, hc, hfit, VmOp.dirties, VmOp.acts]
/-- one row: its class by its word -/
theorem gt_row {own C : String} (hown : s.vm.findClass own = some m.cls) (hpl : e.platform.magicAccessors = ({} : Platform).magicAccessors) {f : JFrame} (hf : f.method = m) {a : Addr} {cell : Cell} {cE : ClassId} (hobj : cell.vm.isStatics = false) {nE : String} (hcE : s.vm.findClass nE = some cell.cls) {x : ExceptionTableEntry} {t : List ExceptionTableEntry} {u : State} (hW : s.WarmedH u.vm) (hcell : u.heap[a]? = some cell) (hx : covers x f.pc = true) (h0 : x.catchType ≠ 0) (hl : (Cond.classLink own x.catchType C).before args s = true) :
    ∃ (vm' : Vm) (cC : ClassId), s.WarmedH vm' ∧ s.vm.findClass C = some cC ∧ ∀ (Q : Handler → Pre) (E : CtlPost) (d : Bool) (acts : List Action), wp (findHandler.go f a (x :: t)) Q E e d acts u ↔ if s.vm.assignable cell.cls cC = true then Q (.found x.handlerPc) d acts (u.setVm vm') else wp (findHandler.go f a t) Q E e d acts (u.setVm vm') := by
  subst hf
  obtain ⟨cC, hfc, hcl⟩ := Cond.classLink_spec hown hl e.platform hpl
  obtain ⟨hg₁, hwarm₁, -⟩ := State.classEntry (e := e) hW hcl
  have hsz : (u.vm.noted f.method.cls x.catchType (.cls cC)).classes.size ≤ u.vm.classes.size := by no_record
  generalize u.vm.noted f.method.cls x.catchType (.cls cC) = vm₁ at hg₁ hwarm₁ hsz
  obtain ⟨k1, hk1⟩ := Vm.classAt_of_findClass hcE
  obtain ⟨k2, hk2⟩ := Vm.classAt_of_findClass hfc
  obtain ⟨k1', hk1', -⟩ := hwarm₁.alike.2.2 _ _ hk1
  obtain ⟨k2', hk2', -⟩ := hwarm₁.alike.2.2 _ _ hk2
  refine ⟨vm₁, cC, hwarm₁, hfc, fun Q E d acts => ?_⟩
  rw [gt_go hx h0 hg₁ hsz hcell (fun k => VmData.ne_statics_of hobj k) ⟨_, hk1'⟩ ⟨_, hk2'⟩, hwarm₁.alike.assignable]
/-- the search ends at the row h, behind rows that are passed -/
theorem gt_seek {own : String} (hown : s.vm.findClass own = some m.cls) (hpl : e.platform.magicAccessors = ({} : Platform).magicAccessors) {f : JFrame} (hf : f.method = m) {a : Addr} {cell : Cell} (hobj : cell.vm.isStatics = false) {nE : String} (hcE : s.vm.findClass nE = some cell.cls) {h : ExceptionTableEntry} {post : List ExceptionTableEntry} (hh : covers h f.pc = true ∧ h.catchType ≠ 0 ∧ ∃ C, (Cond.classLink own h.catchType C).before args s = true ∧ ∀ cC, s.vm.findClass C = some cC → s.vm.assignable cell.cls cC = true) :
    ∀ (pre : List ExceptionTableEntry) (u : State), s.WarmedH u.vm → u.heap[a]? = some cell → (∀ y ∈ pre, covers y f.pc = true ∧ y.catchType ≠ 0 ∧ ∃ C, (Cond.classLink own y.catchType C).before args s = true ∧ ∀ cC, s.vm.findClass C = some cC → s.vm.assignable cell.cls cC = false) →
      ∃ vm', s.WarmedH vm' ∧ ∀ (Q : Handler → Pre) (E : CtlPost) (d : Bool) (acts : List Action), wp (findHandler.go f a (pre ++ h :: post)) Q E e d acts u ↔ Q (.found h.handlerPc) d acts (u.setVm vm') := by
  intro pre
  induction pre with
  | nil =>
    intro u hW hcell _
    obtain ⟨h1, h2, C, h3, h4⟩ := hh
    obtain ⟨vm', cC, w1, w2, w3⟩ := gt_row (t := post) hown hpl hf (cE := cell.cls) hobj hcE hW hcell h1 h2 h3
    refine ⟨vm', w1, fun Q E d acts => ?_⟩
    rw [List.nil_append, w3, if_pos (h4 cC w2)]
  | cons y r ih =>
    intro u hW hcell hp
    obtain ⟨h1, h2, C, h3, h4⟩ := hp y List.mem_cons_self
    obtain ⟨vm1, cC, w1, w2, w3⟩ := gt_row (t := r ++ h :: post) hown hpl hf (cE := cell.cls) hobj hcE hW hcell h1 h2 h3
    obtain ⟨vm', v1, v2⟩ := ih (u.setVm vm1) w1 hcell (fun z hz => hp z (List.mem_cons_of_mem _ hz))
    refine ⟨vm', v1, fun Q E d acts => ?_⟩
    rw [List.cons_append, w3, if_neg (by rw [h4 cC w2]; decide), v2]
    rfl
theorem gt_step {s : State} {a : Addr} {f : JFrame} {r : List Frame} {pc : Nat} {vm' : Vm} (hfind : ∀ (Q : Handler → Pre) (E : CtlPost) (d : Bool) (acts : List Action), wp (findHandler f a) Q E e d acts s ↔ Q (.found pc) d acts (s.setVm vm')) :
    (stepThrowing e s a (.java f :: r)).Is ((s.setVm vm').setFrames (.java { f with pc := pc, stack := [.ref a] } :: r)) [] := by
  simp only [stepThrowing, searchFrame, vmDo]
  generalize hr : Sem.go _ e false [] s = res
  obtain ⟨as, rfl, ha⟩ := Sem.eq_ok_of hr (a := Handler.found pc) (s' := s.setVm vm') (acts' := []) (by simp [hfind _ _ _ _])
  exact ⟨rfl, ha⟩
theorem gt_caught {tb : Tables} {s target : State} {g : JFrame} {c : Code} {a : Addr} (h : At s g.method c below) {pc : Nat} {vm' : Vm} (hfind : ∀ (Q : Handler → Pre) (E : CtlPost) (d : Bool) (acts : List Action), wp (findHandler g a) Q E e d acts ((s.setTop g).pushFrame (.throwing a)) ↔ Q (.found pc) d acts (((s.setTop g).pushFrame (.throwing a)).setVm vm'))
    (hrest : Steps tb e below ((s.setVm vm').setTop { g with pc := pc, stack := [.ref a] }) target) :
    Steps tb e below ((s.setTop g).pushFrame (.throwing a)) target := by
  obtain ⟨hgo, hw⟩ := h.throwing a
  refine Steps.head hgo hw ?_
  rw [stepThread_throwing (frames_entered h.top _), (gt_step (s := (s.setTop g).pushFrame (.throwing a)) hfind).1]
  obtain ⟨g₀, hg⟩ := Option.isSome_iff_exists.mp h.top
  obtain ⟨r, hr⟩ := State.topJava?_eq_some.mp hg
  have hr' : (s.setVm vm').frames = .java g₀ :: r := hr
  rw [State.setTop_of_frames _ hr'] at hrest
  have e1 : (((s.setTop g).pushFrame (.throwing a)).setVm vm').setFrames (.java { g with pc := pc, stack := [.ref a] } :: s.frames.tail) = (s.setVm vm').setFrames (.java { g with pc := pc, stack := [.ref a] } :: r) := by
    rw [hr]
    show (((s.setTop g).pushFrame (.throwing a)).setFrames _).setVm vm' = (s.setFrames _).setVm vm'
    rw [State.pushFrame, State.setFrames_setFrames, State.setTop_of_frames _ hr, State.setFrames_setFrames]
    rfl
  rw [e1]
  exact hrest
/-- the throw is caught at the row h: the walk goes on there, the exception alone on the stack -/
theorem gt_catch {Qa : State → Addr → State → Prop} {free : Addr → Prop} {mc ms pc : Nat} {ls : Array Slot} {st0 rest : List Value} (hr : va_RunT p l e R s m args below meth c H locs cells slots mc ms (F0 m pc ls st0) rest Qa free) {own : String} (hown : s.vm.findClass own = some m.cls)
    {nE : String} (hE : ∀ (st₀ t : State) (x : Addr), Qa st₀ x t → ∃ cell : Cell, t.heap[x]? = some cell ∧ cell.vm.isStatics = false ∧ s.vm.findClass nE = some cell.cls)
    {pre post : List ExceptionTableEntry} {h : ExceptionTableEntry} (htab : c.exceptionTable.toList = pre ++ h :: post)
    (hh : covers h pc = true ∧ h.catchType ≠ 0 ∧ ∃ C, (Cond.classLink own h.catchType C).before args s = true ∧ ∀ cE cC, s.vm.findClass nE = some cE → s.vm.findClass C = some cC → s.vm.assignable cE cC = true)
    (hp : ∀ y ∈ pre, covers y pc = true ∧ y.catchType ≠ 0 ∧ ∃ C, (Cond.classLink own y.catchType C).before args s = true ∧ ∀ cE cC, s.vm.findClass nE = some cE → s.vm.findClass C = some cC → s.vm.assignable cE cC = false) {hpc : Nat} (hhp : h.handlerPc = hpc)
    (kk : ∀ (H1 : Heap) (locs1 : List Loc) (x : Addr) (st₀ t : State), st₀.heap = H → Qa st₀ x t → t.heap = H1 → (∃ L, locs1 = locs ++ L ∧ ∀ q ∈ L, free q.base) → W p l e R s m args below meth c H1 locs1 (cells + mc) (slots + ms) Q (F0 m hpc ls [.ref x])) :
    W p l e R s m args below meth c H locs cells slots Q (F0 m pc ls st0) := by
  subst hhp
  intro T hT X
  obtain ⟨x, st₀, t, T', L, h0, X', hL, e1, e2, hqa, hst⟩ := hr T hT X
  obtain ⟨cell, k1, k2, k3⟩ := hE _ _ _ hqa
  have hpl : e.platform.magicAccessors = ({} : Platform).magicAccessors := by rw [X.admits.platform]
  have hW' : s.WarmedH (((T'.setTop { (F0 m pc ls st0) with stack := rest }).pushFrame (.throwing x))).vm := by rw [Stand.throwing_vm]; exact X'.warmed
  have hcell : (((T'.setTop { (F0 m pc ls st0) with stack := rest }).pushFrame (.throwing x))).heap[x]? = some cell := by rw [Stand.throwing_heap, e1]; exact k1
  obtain ⟨vm', w1, w2⟩ := gt_seek (f := { (F0 m pc ls st0) with stack := rest }) (post := post) hown hpl rfl k2 k3 (by obtain ⟨a1, a2, C, a3, a4⟩ := hh; exact ⟨a1, a2, C, a3, fun cC hc => a4 _ _ k3 hc⟩) pre _ hW' hcell (fun y hy => by obtain ⟨a1, a2, C, a3, a4⟩ := hp y hy; exact ⟨a1, a2, C, a3, fun cC hc => a4 _ _ k3 hc⟩)
  obtain ⟨t2, a1, b1⟩ := kk (T'.setVm vm').heap (locs ++ L) x st₀ t h0 hqa (by rw [← e1]; rfl) ⟨L, rfl, hL⟩ (T'.setVm vm') rfl (X'.noted w1)
  refine ⟨t2, hst _ (gt_caught (g := { (F0 m pc ls st0) with stack := rest }) (pc := h.handlerPc) (vm' := vm') X'.here (fun Q E d acts => ?_) a1), b1⟩
  have hm : (((T'.setTop { (F0 m pc ls st0) with stack := rest }).pushFrame (.throwing x))).vm.method? m = some meth := by rw [Stand.throwing_vm]; exact X'.method'
  rw [W.findHandler_eq (f := { (F0 m pc ls st0) with stack := rest }) hm X'.code, htab, w2]
end GTB
