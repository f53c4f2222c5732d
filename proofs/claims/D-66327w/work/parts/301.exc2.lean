theorem fm_ {args : Array Value} {s : State} {x : Cond} {r : List Cond} (h : x.before args s = true) (t : ∀ a ∈ r, a.before args s = true) : ∀ a ∈ x :: r, a.before args s = true := fun a ha => by
  rcases List.mem_cons.mp ha with e | e
  · rw [e]; exact h
  · exact t a e
theorem fn_ {args : Array Value} {s : State} : ∀ a ∈ ([] : List Cond), a.before args s = true := fun a h => by cases h
theorem fa_ {args : Array Value} {s : State} {x y : List Cond} (h : ∀ a ∈ x, a.before args s = true) (t : ∀ a ∈ y, a.before args s = true) : ∀ a ∈ x ++ y, a.before args s = true := fun a ha => by
  rcases List.mem_append.mp ha with e | e
  · exact h a e
  · exact t a e
/-- words that look at static cells, in a heap whose old cells are as they were -/
theorem gt_ls {a0 args : Array Value} {s0 s : State} {o f d : String} (h : (Cond.laysStatic o f d).before a0 s0 = true) (hW : s0.WarmedH s.vm) (hH : ∀ q, q < s0.heap.size → s.heap[q]? = s0.heap[q]?) : (Cond.laysStatic o f d).before args s = true := by
  obtain ⟨c, k, i, fd, a, cell, hc, hi, hst, ha, hcell, hs, hcls, hlt, hty⟩ := Cond.laysStatic_spec h
  obtain ⟨k', hi', hek⟩ := State.fieldFound?_setVm hW.alike hi
  have hi2 : s.fieldFound? o f d = some (c, k', i, fd) := hi'
  exact Cond.laysStatic_of (s := s) (by rw [hW.alike.findClass]; exact hc) hi2 hst (by rw [hek]; exact ha) (by rw [hH a (Array.getElem?_eq_some_iff.mp hcell).1]; exact hcell) hs hcls hlt (by rw [hek]; exact hty)
theorem gt_is {a0 args : Array Value} {s0 s : State} {o f d : String} (h : (Cond.isRef (.static o f d)).before a0 s0 = true) (hW : s0.WarmedH s.vm) (hH : ∀ q, q < s0.heap.size → s.heap[q]? = s0.heap[q]?) : (Cond.isRef (.static o f d)).before args s = true := by
  obtain ⟨v, hv, hr⟩ := Cond.isRef_spec h
  cases hi : s0.fieldFound? o f d with
  | none => simp [Term.eval, State.fieldNamed?, hi] at hv
  | some w =>
    obtain ⟨c, k, i, fd⟩ := w
    obtain ⟨hst, a, cell, ha, hcell, -, hslot⟩ := Term.static_spec hi hv
    have hs : cell.vm.isStatics = true := by
      simp only [Term.eval, State.fieldNamed?, hi, Option.bind_eq_bind, Option.bind_some, hst, beq_self_eq_true, if_true, Option.pure_def, ha, hcell] at hv
      by_cases h' : cell.vm.isStatics = true
      · exact h'
      · simp [h'] at hv
    obtain ⟨k', hi', hek⟩ := State.fieldFound?_setVm hW.alike hi
    have hi2 : s.fieldFound? o f d = some (c, k', i, fd) := hi'
    have he := Term.static_eval (s := s) (args := args) (first := s) (o := none) (idx := []) hi2 hst (by rw [hek]; exact ha) (by rw [hH a (Array.getElem?_eq_some_iff.mp hcell).1]; exact hcell) hs hslot
    show (Cond.isRef _).holds args s none s [] = true
    cases v <;> first | (simp [Cond.holds, Cond.value, he]; done) | (simp [Value.isRef] at hr; done)
theorem G0.nar {l : Launch} {s0 : State} {D : va_G} {DA : Nat → ClassId} {z0 : Nat} (h : G0 l s0 D DA z0) : ∃ a0 : Array Value, (∀ w ∈ lw_tbl, w.before a0 s0 = true) ∧ (Jvm.Cond.and given_1 narrow_1).before a0 s0 = true := h.2.1
theorem G0.tr {l : Launch} {s0 : State} {D : va_G} {DA : Nat → ClassId} {z0 : Nat} (h : G0 l s0 D DA z0) : l.stackTraces = false := h.2.2.1
theorem ga_1 {a b : Cond} {x : Array Value} {s : State} (h : (Cond.and a b).before x s = true) : a.before x s = true := by
  rw [Cond.before_and, Bool.and_eq_true] at h; exact h.1
theorem ga_2 {a b : Cond} {x : Array Value} {s : State} (h : (Cond.and a b).before x s = true) : b.before x s = true := by
  rw [Cond.before_and, Bool.and_eq_true] at h; exact h.2
theorem G0.isU {l : Launch} {s0 : State} {D : va_G} {DA : Nat → ClassId} {z0 : Nat} (h : G0 l s0 D DA z0) : ∃ a0, (Cond.isRef (.static "java/lang/Throwable" "UNASSIGNED_STACK" "[Ljava/lang/StackTraceElement;")).before a0 s0 = true := by
  obtain ⟨a0, -, hN⟩ := h.nar
  exact ⟨a0, (ga_1 (ga_1 (ga_2 (ga_1 (ga_1 (ga_2 hN))))))⟩
theorem G0.isS {l : Launch} {s0 : State} {D : va_G} {DA : Nat → ClassId} {z0 : Nat} (h : G0 l s0 D DA z0) : ∃ a0, (Cond.isRef (.static "java/lang/Throwable" "SUPPRESSED_SENTINEL" "Ljava/util/List;")).before a0 s0 = true := by
  obtain ⟨a0, -, hN⟩ := h.nar
  exact ⟨a0, (ga_1 (ga_2 (ga_1 (ga_2 (ga_1 (ga_1 (ga_2 hN)))))))⟩
theorem G0.nc_IA {l : Launch} {s0 : State} {D : va_G} {DA : Nat → ClassId} {z0 : Nat} (h : G0 l s0 D DA z0) : ∃ a0, (Cond.not (.castable "java/lang/IndexOutOfBoundsException" "java/lang/IllegalArgumentException")).before a0 s0 = true := by
  obtain ⟨a0, -, hN⟩ := h.nar
  exact ⟨a0, (ga_1 (ga_2 (ga_1 (ga_2 (ga_1 (ga_2 (ga_2 hN)))))))⟩
theorem G0.nc_IS {l : Launch} {s0 : State} {D : va_G} {DA : Nat → ClassId} {z0 : Nat} (h : G0 l s0 D DA z0) : ∃ a0, (Cond.not (.castable "java/lang/IndexOutOfBoundsException" "java/lang/IllegalStateException")).before a0 s0 = true := by
  obtain ⟨a0, -, hN⟩ := h.nar
  exact ⟨a0, (ga_2 (ga_2 (ga_1 (ga_2 (ga_2 (ga_2 (ga_2 hN)))))))⟩
theorem G0.nc_AI {l : Launch} {s0 : State} {D : va_G} {DA : Nat → ClassId} {z0 : Nat} (h : G0 l s0 D DA z0) : ∃ a0, (Cond.not (.castable "java/lang/IllegalArgumentException" "java/lang/IndexOutOfBoundsException")).before a0 s0 = true := by
  obtain ⟨a0, -, hN⟩ := h.nar
  exact ⟨a0, (ga_2 (ga_2 (ga_2 (ga_1 (ga_2 (ga_1 (ga_2 hN)))))))⟩
theorem G0.nc_AS {l : Launch} {s0 : State} {D : va_G} {DA : Nat → ClassId} {z0 : Nat} (h : G0 l s0 D DA z0) : ∃ a0, (Cond.not (.castable "java/lang/IllegalArgumentException" "java/lang/IllegalStateException")).before a0 s0 = true := by
  obtain ⟨a0, -, hN⟩ := h.nar
  exact ⟨a0, (ga_1 (ga_1 (ga_2 (ga_2 (ga_2 (ga_2 (ga_2 hN)))))))⟩
theorem G0.nc_SI {l : Launch} {s0 : State} {D : va_G} {DA : Nat → ClassId} {z0 : Nat} (h : G0 l s0 D DA z0) : ∃ a0, (Cond.not (.castable "java/lang/IllegalStateException" "java/lang/IndexOutOfBoundsException")).before a0 s0 = true := by
  obtain ⟨a0, -, hN⟩ := h.nar
  exact ⟨a0, (ga_1 (ga_1 (ga_2 (ga_2 (ga_1 (ga_2 hN))))))⟩
theorem G0.nc_SA {l : Launch} {s0 : State} {D : va_G} {DA : Nat → ClassId} {z0 : Nat} (h : G0 l s0 D DA z0) : ∃ a0, (Cond.not (.castable "java/lang/IllegalStateException" "java/lang/IllegalArgumentException")).before a0 s0 = true := by
  obtain ⟨a0, -, hN⟩ := h.nar
  exact ⟨a0, (ga_2 (ga_2 (ga_1 (ga_2 (ga_1 (ga_2 (ga_2 hN)))))))⟩
set_option maxRecDepth 100000 in
theorem G0.at_I {l : Launch} {s0 s : State} {D : va_G} {DA : Nat → ClassId} {z0 : Nat} {args : Array Value} (hE : G0 l s0 D DA z0) (hts : ∀ w ∈ lw_all, w.before args s = true) (hW : s0.WarmedH s.vm) (hH : ∀ q, q < s0.heap.size → s.heap[q]? = s0.heap[q]?) : ∀ a ∈ Bundle.ownAtoms0 "NettedPlans" 82 "java/lang/IndexOutOfBoundsException" ["java/lang/RuntimeException", "java/lang/Exception"], a.before args s = true := by
  obtain ⟨a0, hq, -⟩ := hE.nar
  obtain ⟨a1, hU⟩ := hE.isU
  obtain ⟨a2, hV⟩ := hE.isS
  refine fa_ (fa_ ?_ ?_) ?_
  · exact fm_ (hts _ q62) (fm_ (hts _ q568) (fm_ (hts _ q577) (fm_ (hts _ q581) (fm_ (hts _ q584) (fm_ (hts _ q586) (fm_ (hts _ q569) (fm_ (hts _ q570) (fm_ (hts _ q82) (fm_ (hts _ q83) (fm_ (hts _ q571) (fm_ (hts _ q576) (fm_ (hts _ q582) (fm_ (hts _ q598) (fm_ (hts _ q558) (fm_ (hts _ q599) (fm_ (hts _ q560) (fm_ (hts _ q600) (fm_ (hts _ q562) (fm_ (hts _ q572) (fm_ (gt_ls (hq _ q573) hW hH) (fm_ (hts _ q574) (fm_ (gt_ls (hq _ q575) hW hH) (fm_ (hts _ q564) (fn_))))))))))))))))))))))))
  · exact fa_ (fm_ (hts _ q588) (fm_ (hts _ q589) (fm_ (hts _ q590) (fm_ (hts _ q591) (fm_ (va_Nw.use rfl (va_Nw.warmD hW (hE.nw rfl q549))) (fn_)))))) (fa_ (fm_ (hts _ q591) (fm_ (hts _ q592) (fm_ (hts _ q593) (fm_ (hts _ q594) (fm_ (va_Nw.use rfl (va_Nw.warmD hW (hE.nw rfl q551))) (fn_)))))) (fm_ (hts _ q594) (fm_ (hts _ q595) (fm_ (hts _ q596) (fm_ (hts _ q569) (fm_ (va_Nw.use rfl (va_Nw.warmD hW (hE.nw rfl q553))) (fn_)))))))
  · exact fm_ (hts _ q587) (fm_ (hts _ q547) (fm_ (va_Nw.use rfl (va_Nw.warmC hW (hE.nw rfl q548))) (fm_ (hts _ q555) (fm_ (hts _ q556) (fm_ (hts _ q557) (fm_ (hts _ q559) (fm_ (hts _ q561) (fm_ (hts _ q563) (fm_ (gt_is hU hW hH) (fm_ (gt_is hV hW hH) (fm_ (hts _ q597) (fm_ (hts _ q566) (fm_ (hts _ q565) (fn_))))))))))))))
set_option maxRecDepth 100000 in
theorem G0.at_A {l : Launch} {s0 s : State} {D : va_G} {DA : Nat → ClassId} {z0 : Nat} {args : Array Value} (hE : G0 l s0 D DA z0) (hts : ∀ w ∈ lw_all, w.before args s = true) (hW : s0.WarmedH s.vm) (hH : ∀ q, q < s0.heap.size → s.heap[q]? = s0.heap[q]?) : ∀ a ∈ Bundle.ownAtoms0 "NettedPlans" 85 "java/lang/IllegalArgumentException" ["java/lang/RuntimeException", "java/lang/Exception"], a.before args s = true := by
  obtain ⟨a0, hq, -⟩ := hE.nar
  obtain ⟨a1, hU⟩ := hE.isU
  obtain ⟨a2, hV⟩ := hE.isS
  refine fa_ (fa_ ?_ ?_) ?_
  · exact fm_ (hts _ q62) (fm_ (hts _ q568) (fm_ (hts _ q577) (fm_ (hts _ q581) (fm_ (hts _ q584) (fm_ (hts _ q586) (fm_ (hts _ q569) (fm_ (hts _ q570) (fm_ (hts _ q82) (fm_ (hts _ q83) (fm_ (hts _ q571) (fm_ (hts _ q576) (fm_ (hts _ q582) (fm_ (hts _ q598) (fm_ (hts _ q558) (fm_ (hts _ q599) (fm_ (hts _ q560) (fm_ (hts _ q600) (fm_ (hts _ q562) (fm_ (hts _ q572) (fm_ (gt_ls (hq _ q573) hW hH) (fm_ (hts _ q574) (fm_ (gt_ls (hq _ q575) hW hH) (fm_ (hts _ q564) (fn_))))))))))))))))))))))))
  · exact fa_ (fm_ (hts _ q622) (fm_ (hts _ q623) (fm_ (hts _ q624) (fm_ (hts _ q591) (fm_ (va_Nw.use rfl (va_Nw.warmD hW (hE.nw rfl q549))) (fn_)))))) (fa_ (fm_ (hts _ q591) (fm_ (hts _ q592) (fm_ (hts _ q593) (fm_ (hts _ q594) (fm_ (va_Nw.use rfl (va_Nw.warmD hW (hE.nw rfl q551))) (fn_)))))) (fm_ (hts _ q594) (fm_ (hts _ q595) (fm_ (hts _ q596) (fm_ (hts _ q569) (fm_ (va_Nw.use rfl (va_Nw.warmD hW (hE.nw rfl q553))) (fn_)))))))
  · exact fm_ (hts _ q621) (fm_ (hts _ q613) (fm_ (va_Nw.use rfl (va_Nw.warmC hW (hE.nw rfl q614))) (fm_ (hts _ q615) (fm_ (hts _ q579) (fm_ (hts _ q616) (fm_ (hts _ q617) (fm_ (hts _ q618) (fm_ (hts _ q619) (fm_ (gt_is hU hW hH) (fm_ (gt_is hV hW hH) (fm_ (hts _ q597) (fm_ (hts _ q566) (fm_ (hts _ q620) (fn_))))))))))))))
set_option maxRecDepth 100000 in
theorem G0.at_S {l : Launch} {s0 s : State} {D : va_G} {DA : Nat → ClassId} {z0 : Nat} {args : Array Value} (hE : G0 l s0 D DA z0) (hts : ∀ w ∈ lw_all, w.before args s = true) (hW : s0.WarmedH s.vm) (hH : ∀ q, q < s0.heap.size → s.heap[q]? = s0.heap[q]?) : ∀ a ∈ Bundle.ownAtoms0 "NettedPlans" 88 "java/lang/IllegalStateException" ["java/lang/RuntimeException", "java/lang/Exception"], a.before args s = true := by
  obtain ⟨a0, hq, -⟩ := hE.nar
  obtain ⟨a1, hU⟩ := hE.isU
  obtain ⟨a2, hV⟩ := hE.isS
  refine fa_ (fa_ ?_ ?_) ?_
  · exact fm_ (hts _ q62) (fm_ (hts _ q568) (fm_ (hts _ q577) (fm_ (hts _ q581) (fm_ (hts _ q584) (fm_ (hts _ q586) (fm_ (hts _ q569) (fm_ (hts _ q570) (fm_ (hts _ q82) (fm_ (hts _ q83) (fm_ (hts _ q571) (fm_ (hts _ q576) (fm_ (hts _ q582) (fm_ (hts _ q598) (fm_ (hts _ q558) (fm_ (hts _ q599) (fm_ (hts _ q560) (fm_ (hts _ q600) (fm_ (hts _ q562) (fm_ (hts _ q572) (fm_ (gt_ls (hq _ q573) hW hH) (fm_ (hts _ q574) (fm_ (gt_ls (hq _ q575) hW hH) (fm_ (hts _ q564) (fn_))))))))))))))))))))))))
  · exact fa_ (fm_ (hts _ q679) (fm_ (hts _ q680) (fm_ (hts _ q681) (fm_ (hts _ q591) (fm_ (va_Nw.use rfl (va_Nw.warmD hW (hE.nw rfl q549))) (fn_)))))) (fa_ (fm_ (hts _ q591) (fm_ (hts _ q592) (fm_ (hts _ q593) (fm_ (hts _ q594) (fm_ (va_Nw.use rfl (va_Nw.warmD hW (hE.nw rfl q551))) (fn_)))))) (fm_ (hts _ q594) (fm_ (hts _ q595) (fm_ (hts _ q596) (fm_ (hts _ q569) (fm_ (va_Nw.use rfl (va_Nw.warmD hW (hE.nw rfl q553))) (fn_)))))))
  · exact fm_ (hts _ q678) (fm_ (hts _ q670) (fm_ (va_Nw.use rfl (va_Nw.warmC hW (hE.nw rfl q671))) (fm_ (hts _ q672) (fm_ (hts _ q580) (fm_ (hts _ q673) (fm_ (hts _ q674) (fm_ (hts _ q675) (fm_ (hts _ q676) (fm_ (gt_is hU hW hH) (fm_ (gt_is hV hW hH) (fm_ (hts _ q597) (fm_ (hts _ q566) (fm_ (hts _ q677) (fn_))))))))))))))
theorem GRb.ext {B : Nat} {h0 : Heap} {D : va_G} {DA : Nat → ClassId} {z0 : Nat} {Y : YS} {C : CS} {M : MS} {o : Int64} {H : Heap} {H1 : Heap} (h : GRb B h0 D DA z0 Y C M o H) (hs : H.size ≤ H1.size) (hX : ∀ q, q < H.size → H1[q]? = H[q]?) : GRb B h0 D DA z0 Y C M o H1 := by
  have hz := h.sz
  refine ⟨fun q hq => (hX q (by omega)).trans (h.old q hq), Nat.le_trans h.sz hs, h.lay, ?_, ?_, ?_, ?_, ?_, ?_, ?_, ?_, ?_, ?_, ?_, ?_, ?_, ?_, ?_, ?_, ?_, ?_, ?_, ?_, ?_, ?_, ?_, ?_, ?_⟩
  · exact (h.np ).kept (hX _ (h.np ).lt)
  · exact (h.its ).kept (hX _ (h.its ).lt)
  · exact (h.trn ).kept (hX _ (h.trn ).lt)
  · exact (h.rul ).kept (hX _ (h.rul ).lt)
  · exact (h.an ).kept (hX _ (h.an ).lt)
  · exact (h.mu ).kept (hX _ (h.mu ).lt)
  · exact (h.co ).kept (hX _ (h.co ).lt)
  · exact (h.lc ).kept (hX _ (h.lc ).lt)
  · exact (h.bes ).kept (hX _ (h.bes ).lt)
  · exact (h.las ).kept (hX _ (h.las ).lt)
  · exact (h.wai ).kept (hX _ (h.wai ).lt)
  · exact (h.lev ).kept (hX _ (h.lev ).lt)
  · intro j q0 q1; exact (h.bok j q0 q1).kept (hX _ (h.bok j q0 q1).lt)
  · intro k q0; exact (h.itm k q0).kept (hX _ (h.itm k q0).lt)
  · intro j k q0 q1; exact (h.arr j k q0 q1).kept (hX _ (h.arr j k q0 q1).lt)
  · intro k q0; exact (h.tur k q0).kept (hX _ (h.tur k q0).lt)
  · exact (h.mo ).kept (hX _ (h.mo ).lt)
  · intro j q0; exact (h.mia j q0).kept (hX _ (h.mia j q0).lt)
  · exact (h.mza ).kept (hX _ (h.mza ).lt)
  · intro j q0 q1; exact (h.mla j q0 q1).kept (hX _ (h.mla j q0 q1).lt)
  · exact (h.out ).kept (hX _ (h.out ).lt)
  · intro j q0; exact (h.lob j q0).kept (hX _ (h.lob j q0).lt)
  · intro j q0 q1; exact (h.lda j q0 q1).kept (hX _ (h.lda j q0 q1).lt)
  · intro i q0; exact (h.lin i q0).kept (hX _ (h.lin i q0).lt)
  · intro j i q0 q1 q2; exact (h.ent j i q0 q1 q2).kept (hX _ (h.ent j i q0 q1 q2).lt)
theorem RR.ext {s0 : State} {D : va_G} {DA : Nat → ClassId} {z0 : Nat} {C : CS} {M : MS} {o : Int64} {H H1 : Heap} (h : RR s0 D DA z0 C M o H) (hs : H.size ≤ H1.size) (hX : ∀ q, q < H.size → H1[q]? = H[q]?) : RR s0 D DA z0 C M o H1 := by
  obtain ⟨Y, h⟩ := h
  exact ⟨Y, h.ext hs hX⟩
/-- the cell at x is an object of class E -/
def xEx (s0 : State) (E : String) (H : Heap) (x : Addr) : Prop := ∃ ce : Cell, H[x]? = some ce ∧ ce.vm.isStatics = false ∧ s0.vm.findClass E = some ce.cls
def cQT (s0 : State) (E : String) (P : Heap → Prop) : Array Value → State → Addr → State → Prop := fun _ _ x t => xEx s0 E t.heap x ∧ P t.heap
theorem sbn_old {s t : State} {k n : Nat} (h : s.sameButNew t [] k n) : s.heap.size ≤ t.heap.size ∧ ∀ q, q < s.heap.size → t.heap[q]? = s.heap[q]? := by
  refine ⟨h.2.1, fun q hq => ?_⟩
  obtain ⟨c, hc⟩ : ∃ c, s.heap[q]? = some c := ⟨_, Array.getElem?_eq_getElem hq⟩
  obtain ⟨c', h1, h2, h3, h4⟩ := h.2.2.2.2.2 q c hc
  have e : c'.slots = c.slots := by
    apply Array.ext_getElem?
    intro i
    exact h4 i (by simp)
  rw [h1, hc, h2, e]
section GTC
variable {p : Program} {l : Launch} {e : Env} {R : Room} {s : State} {m : MethodId} {args : Array Value} {below : List Frame} {meth : Method} {c : Code} {H : Heap} {locs : List Loc} {cells slots : Nat} {Q : State → Prop}
/-- new X(); throw: from the constructor's call on -/
theorem gt_throw {cc : ByteArray} (hexec : p.tables.exec = Jvm.exec) (hb : c.code = cc) (hst : l.stackTraces = false) {own cls : String} {names : List String} {ic : Nat} (hown : s.vm.findClass own = some m.cls) (hcls : Bundle.fit cls = true) (hnames : ∀ n ∈ names, Bundle.fit n = true) (h : ∀ a ∈ Bundle.ownAtoms0 own ic cls names, a.before args s = true)
    {a pc : Nat} {ls : Array Slot} {cX : ClassId} {kX : Class} (hfX : s.vm.findClass cls = some cX) (hkX : s.vm.classes[cX]? = some kX) (hcell : H[a]? = some (freshCell cX kX)) (hnew : s.heap.size ≤ a) (hsize : ls.size = c.maxLocals) {rest : List Value}
    (hd6 : decode cc pc = .ok (.invokespecial ic, 3)) (hd9 : decode cc (pc + 3) = .ok (.athrow, 1)) (hno : c.exceptionTable.isEmpty = true) (hfr : names.length + 3 < R.frames) (hlo : 2 * 0 + ((Value.ref a :: rest).map fun v => v.category).sum + (13 * (names.length + 1) + 41) ≤ R.locals) (hlocks : meth.locks = false)
    {Qt : Array Value → State → Addr → State → Prop} {free : Addr → Prop} (hq : ∀ (t : State) (ce : Cell), s.heap.size ≤ t.heap.size → (∀ q, q < s.heap.size → t.heap[q]? = s.heap[q]?) → t.heap[a]? = some ce → ce.vm = .none → s.vm.findClass cls = some ce.cls → Qt args s a t) :
    W p l e R s m args below meth c H [] cells slots (MQT below Qt args s cells slots free) (F0 m pc ls (.ref a :: .ref a :: rest)) := by
  intro T hT X
  have hout : ∀ y ∈ c.exceptionTable.toList, covers y (pc + 3) = false := by
    have h0 : c.exceptionTable.size = 0 := by simpa [Array.isEmpty] using hno
    have h1 : c.exceptionTable.toList = [] := List.eq_nil_of_length_eq_zero (by simpa using h0)
    intro y hy
    rw [h1] at hy
    cases hy
  obtain ⟨U, hs, hrun, hend, hWU, hsame, ce, hce, hO⟩ := X.ctorThrow0 hexec (by rw [X.admits.platform]; exact hst) hown hcls hnames h (fun x hx => by cases hx) hfX hkX (by rw [hT]; exact hcell) hnew (g := F0 m pc ls (.ref a :: .ref a :: rest)) rfl hsize rfl rfl rfl (by rw [hb]; exact hd6) (by rw [hb]; exact hd9) hout hfr hlo hlocks
  obtain ⟨z1, z2⟩ := sbn_old hsame
  exact ⟨U, hs, a, hrun, hend, hq U ce z1 z2 hce hO.vm hO.cls, [], ⟨hWU, hsame⟩, fun q hq => by cases hq⟩
end GTC
set_option maxHeartbeats 4000000 in
set_option maxRecDepth 100000 in
/-- there of what isn't so: throws -/
theorem ct_X1_there_T {l : Launch} {s0 : State} {D : va_G} {DA : Nat → ClassId} {z0 : Nat} {C : CS} {M : MS} {o : Int64} {H : Heap} (hE : G0 l s0 D DA z0) (hR : RR s0 D DA z0 C M o H) {x : Int32} (hx0 : x = 0) : MetT l yX1_there (ws_ yX1_there cX1_there 1 none) ({ frames := 6, cells := 1, slots := 6, locals := 82 }) (cP s0 [.int x] H) (cQT s0 "java/lang/IndexOutOfBoundsException" (fun H1 => RR s0 D DA z0 C M o H1)) 1 6 (cF s0) := by
  refine MetT.ofW (cc := cX1_there) (maxL := 1) (ret := none) (by decide) rfl ?_
  intro p e s m args below meth c s₁ Bd hml hv
  obtain ⟨rfl, rfl, hW0⟩ := hv
  have hx := Bd.exec
  have hb := Bd.bytes
  have hcw := atoms_spec (ws := (ws_ yX1_there cX1_there 1 none)) Bd.pre
  have hts : ∀ w ∈ lw_all, w.before _ s = true := fun w h => hcw w (List.mem_cons_of_mem _ h)
  have hown : s.vm.findClass RX1 = some m.cls := findClass_of_methodNamed Bd.named
  have hno := BodyLoose.noHandlers Bd (hcw _ List.mem_cons_self)
  obtain ⟨Y, hR⟩ := hR
  have hl := lv_entry ([.int x]) (n := 1) (Nat.le_of_ble_eq_true rfl)
  rw [lg_entry_eq]
  generalize (lg_sl ([.int x]) ++ List.replicate (1 - (lg_sl ([.int x])).length) Slot.unset).toArray = ls at hl ⊢
  have hl : lv_has ls 1 [(0, .int x)] := hl
  refine lv_iload_n hx hb dX1_there_0 rfl (lv_at hl 0 rfl) ?_
  refine lv_if_ne (tgt := 12) hx hb dX1_there_1 (by decide) (fun c1 => absurd hx0 c1) (fun c1 => ?_)
  refine W.newc hx hb hown (hts _ q546) (hts _ q547) (hts _ q65) rfl dX1_there_4 (Nat.le_refl _) (Nat.le_refl _) (fun cC kC h1 h2 h3 h4 => ?_)
  refine lv_dup hx hb dX1_there_7 rfl ?_
  exact gt_throw (own := "NettedPlans") (names := ["java/lang/RuntimeException", "java/lang/Exception"]) hx hb hE.tr hown (by decide) (by decide) (hE.at_I hts hW0 hR.old) h1 h2 (by simp) (Nat.le_refl _) (by rw [hml]; exact hl.1) dX1_there_8 dX1_there_11 hno (by decide) (Nat.le_of_ble_eq_true rfl) Bd.notSynchronized (fun t ce z1 z2 z3 z4 z5 => ⟨⟨ce, z3, by rw [z4]; rfl, by rw [← hW0.alike.findClass]; exact z5⟩, ⟨Y, hR.ext z1 z2⟩⟩)
set_option maxHeartbeats 4000000 in
set_option maxRecDepth 100000 in
/-- argue of what isn't so: throws -/
theorem ct_X1_argue_T {l : Launch} {s0 : State} {D : va_G} {DA : Nat → ClassId} {z0 : Nat} {C : CS} {M : MS} {o : Int64} {H : Heap} (hE : G0 l s0 D DA z0) (hR : RR s0 D DA z0 C M o H) {x : Int32} (hx0 : x = 0) : MetT l yX1_argue (ws_ yX1_argue cX1_argue 1 none) ({ frames := 6, cells := 1, slots := 6, locals := 82 }) (cP s0 [.int x] H) (cQT s0 "java/lang/IllegalArgumentException" (fun H1 => RR s0 D DA z0 C M o H1)) 1 6 (cF s0) := by
  refine MetT.ofW (cc := cX1_argue) (maxL := 1) (ret := none) (by decide) rfl ?_
  intro p e s m args below meth c s₁ Bd hml hv
  obtain ⟨rfl, rfl, hW0⟩ := hv
  have hx := Bd.exec
  have hb := Bd.bytes
  have hcw := atoms_spec (ws := (ws_ yX1_argue cX1_argue 1 none)) Bd.pre
  have hts : ∀ w ∈ lw_all, w.before _ s = true := fun w h => hcw w (List.mem_cons_of_mem _ h)
  have hown : s.vm.findClass RX1 = some m.cls := findClass_of_methodNamed Bd.named
  have hno := BodyLoose.noHandlers Bd (hcw _ List.mem_cons_self)
  obtain ⟨Y, hR⟩ := hR
  have hl := lv_entry ([.int x]) (n := 1) (Nat.le_of_ble_eq_true rfl)
  rw [lg_entry_eq]
  generalize (lg_sl ([.int x]) ++ List.replicate (1 - (lg_sl ([.int x])).length) Slot.unset).toArray = ls at hl ⊢
  have hl : lv_has ls 1 [(0, .int x)] := hl
  refine lv_iload_n hx hb dX1_argue_0 rfl (lv_at hl 0 rfl) ?_
  refine lv_if_ne (tgt := 12) hx hb dX1_argue_1 (by decide) (fun c1 => absurd hx0 c1) (fun c1 => ?_)
  refine W.newc hx hb hown (hts _ q612) (hts _ q613) (hts _ q66) rfl dX1_argue_4 (Nat.le_refl _) (Nat.le_refl _) (fun cC kC h1 h2 h3 h4 => ?_)
  refine lv_dup hx hb dX1_argue_7 rfl ?_
  exact gt_throw (own := "NettedPlans") (names := ["java/lang/RuntimeException", "java/lang/Exception"]) hx hb hE.tr hown (by decide) (by decide) (hE.at_A hts hW0 hR.old) h1 h2 (by simp) (Nat.le_refl _) (by rw [hml]; exact hl.1) dX1_argue_8 dX1_argue_11 hno (by decide) (Nat.le_of_ble_eq_true rfl) Bd.notSynchronized (fun t ce z1 z2 z3 z4 z5 => ⟨⟨ce, z3, by rw [z4]; rfl, by rw [← hW0.alike.findClass]; exact z5⟩, ⟨Y, hR.ext z1 z2⟩⟩)
set_option maxHeartbeats 4000000 in
set_option maxRecDepth 100000 in
/-- allow of what isn't so: throws -/
theorem ct_X1_allow_T {l : Launch} {s0 : State} {D : va_G} {DA : Nat → ClassId} {z0 : Nat} {C : CS} {M : MS} {o : Int64} {H : Heap} (hE : G0 l s0 D DA z0) (hR : RR s0 D DA z0 C M o H) {x : Int32} (hx0 : x = 0) : MetT l yX1_allow (ws_ yX1_allow cX1_allow 1 none) ({ frames := 6, cells := 1, slots := 6, locals := 82 }) (cP s0 [.int x] H) (cQT s0 "java/lang/IllegalStateException" (fun H1 => RR s0 D DA z0 C M o H1)) 1 6 (cF s0) := by
  refine MetT.ofW (cc := cX1_allow) (maxL := 1) (ret := none) (by decide) rfl ?_
  intro p e s m args below meth c s₁ Bd hml hv
  obtain ⟨rfl, rfl, hW0⟩ := hv
  have hx := Bd.exec
  have hb := Bd.bytes
  have hcw := atoms_spec (ws := (ws_ yX1_allow cX1_allow 1 none)) Bd.pre
  have hts : ∀ w ∈ lw_all, w.before _ s = true := fun w h => hcw w (List.mem_cons_of_mem _ h)
  have hown : s.vm.findClass RX1 = some m.cls := findClass_of_methodNamed Bd.named
  have hno := BodyLoose.noHandlers Bd (hcw _ List.mem_cons_self)
  obtain ⟨Y, hR⟩ := hR
  have hl := lv_entry ([.int x]) (n := 1) (Nat.le_of_ble_eq_true rfl)
  rw [lg_entry_eq]
  generalize (lg_sl ([.int x]) ++ List.replicate (1 - (lg_sl ([.int x])).length) Slot.unset).toArray = ls at hl ⊢
  have hl : lv_has ls 1 [(0, .int x)] := hl
  refine lv_iload_n hx hb dX1_allow_0 rfl (lv_at hl 0 rfl) ?_
  refine lv_if_ne (tgt := 12) hx hb dX1_allow_1 (by decide) (fun c1 => absurd hx0 c1) (fun c1 => ?_)
  refine W.newc hx hb hown (hts _ q669) (hts _ q670) (hts _ q69) rfl dX1_allow_4 (Nat.le_refl _) (Nat.le_refl _) (fun cC kC h1 h2 h3 h4 => ?_)
  refine lv_dup hx hb dX1_allow_7 rfl ?_
  exact gt_throw (own := "NettedPlans") (names := ["java/lang/RuntimeException", "java/lang/Exception"]) hx hb hE.tr hown (by decide) (by decide) (hE.at_S hts hW0 hR.old) h1 h2 (by simp) (Nat.le_refl _) (by rw [hml]; exact hl.1) dX1_allow_8 dX1_allow_11 hno (by decide) (Nat.le_of_ble_eq_true rfl) Bd.notSynchronized (fun t ce z1 z2 z3 z4 z5 => ⟨⟨ce, z3, by rw [z4]; rfl, by rw [← hW0.alike.findClass]; exact z5⟩, ⟨Y, hR.ext z1 z2⟩⟩)
