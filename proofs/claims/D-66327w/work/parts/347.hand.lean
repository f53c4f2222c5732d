/-! HANDLERS: a throw that is caught, by the words of the tables -/
theorem nc_use {E C : String} {s0 s : State} (h : ∃ a0, (Cond.not (.castable E C)).before a0 s0 = true) (hW : s0.WarmedH s.vm) {cE cC : ClassId} (h1 : s.vm.findClass E = some cE) (h2 : s.vm.findClass C = some cC) : s.vm.assignable cE cC = false := by
  obtain ⟨a0, h⟩ := h
  rw [hW.alike.findClass] at h1 h2
  rw [hW.alike.assignable]
  simp only [Cond.before, Cond.holds, Cond.value, h1, h2] at h
  simpa using h
section GTC
variable {p : Program} {l : Launch} {e : Env} {R : Room} {s s0 : State} {m : MethodId} {args av : Array Value} {below : List Frame} {meth : Method} {c : Code} {locs : List Loc} {cells slots : Nat} {H : Heap} {Q : State → Prop}
theorem gt_hand {P : Heap → Prop} {nE own : String} {mc ms pc : Nat} {ls : Array Slot} {st0 rest : List Value} {hh pre post : List (Nat × Nat × Nat × Nat)} {h : Nat × Nat × Nat × Nat} (hr : va_RunT p l e R s m args below meth c H locs cells slots mc ms (F0 m pc ls st0) rest (cQT s0 nE P av) (cF s0)) (hL : gx_L s0.heap.size locs) (hW0 : s0.WarmedH s.vm) (hown : s.vm.findClass own = some m.cls)
    (htab : c.exceptionTable.toList.map (fun h => (h.startPc, h.endPc, h.handlerPc, h.catchType)) = hh) (he : hh = pre ++ h :: post) (hc : h.1 ≤ pc ∧ pc < h.2.1 ∧ h.2.2.2 ≠ 0) (hl : (Cond.classLink own h.2.2.2 nE).before args s = true)
    (hp : ∀ y ∈ pre, (y.1 ≤ pc ∧ pc < y.2.1 ∧ y.2.2.2 ≠ 0) ∧ ∃ C, (Cond.classLink own y.2.2.2 C).before args s = true ∧ ∃ a0, (Cond.not (.castable nE C)).before a0 s0 = true)
    (kk : ∀ (H1 : Heap) (locs1 : List Loc) (x : Addr), P H1 → gx_L s0.heap.size locs1 → W p l e R s m args below meth c H1 locs1 (cells + mc) (slots + ms) Q (F0 m h.2.2.1 ls [.ref x])) : W p l e R s m args below meth c H locs cells slots Q (F0 m pc ls st0) := by
  rw [he] at htab
  obtain ⟨l1, l2, e1, e2, e3⟩ := List.map_eq_append_iff.mp htab
  obtain ⟨h', l3, e4, e5, e6⟩ := List.map_eq_cons_iff.mp e3
  subst e4
  refine gt_catch (nE := nE) hr hown (fun st₀ t x hq => ?_) e1 ?_ (fun y hy => ?_) (hpc := h.2.2.1) (by rw [← e5]) (fun H1 locs1 x st₀ t h0 hq ht hLL => ?_)
  · obtain ⟨⟨ce, k1, k2, k3⟩, -⟩ := hq
    exact ⟨ce, k1, k2, by rw [hW0.alike.findClass]; exact k3⟩
  · rw [← e5] at hc hl
    exact ⟨by simp only [covers, Bool.and_eq_true, decide_eq_true_eq]; exact ⟨hc.1, hc.2.1⟩, hc.2.2, nE, hl, fun cE cC q1 q2 => vb_asgS cC cE q2 q1⟩
  · obtain ⟨a1, C, a2, a3⟩ := hp (y.startPc, y.endPc, y.handlerPc, y.catchType) (by rw [← e2]; exact List.mem_map.mpr ⟨y, hy, rfl⟩)
    exact ⟨by simp only [covers, Bool.and_eq_true, decide_eq_true_eq]; exact ⟨a1.1, a1.2.1⟩, a1.2.2, C, a2, fun cE cC q1 q2 => nc_use a3 hW0 q1 q2⟩
  · obtain ⟨L, e7, hLf⟩ := hLL
    subst e7
    exact kk H1 _ x (by rw [← ht]; exact hq.2) (gx_L2 hL hLf)
end GTC
theorem at_cg_l {D : va_G} {cl : List vw_C} {q n : Nat} {cA : ClassId} {f g : Nat → Int64} {H : Heap} (h : ∀ k, k < n → f k = g k) (hA : va_at D cl (q, .inl (cA, n, .inr (.inl f))) H) : va_at D cl (q, .inl (cA, n, .inr (.inl g))) H := by
  have e : vp_cell cA (n, .inr (.inl f)) = vp_cell cA (n, .inr (.inl g)) := by
    rw [vp_cell_l, vp_cell_l]
    unfold arrV
    congr 1
    exact congrArg Array.ofFn (funext fun j => by show Value.long (f j.val) = Value.long (g j.val); rw [h j.val j.isLt])
  have hA : H[q]? = some (vp_cell cA (n, .inr (.inl f))) := hA
  show H[q]? = some (vp_cell cA (n, .inr (.inl g)))
  rw [← e]; exact hA
theorem GRb.pO1 {B : Nat} {h0 : Heap} {D : va_G} {DA : Nat → ClassId} {z0 : Nat} {Y : YS} {C : CS} {M : MS} {o : Int64} {H H1 : Heap} {v : Int64} (h : GRb B h0 D DA z0 Y C M o H) (hU : gx_U (B + 128) H H1) (hA : va_at D gcl (B + 128, .inl (DA 0, 1, .inr (.inl (va_up (fun _ => o) 0 v)))) H1) : GRb B h0 D DA z0 Y C M v H1 :=
  h.pO hU (at_cg_l (n := 1) (fun k hk => by rw [show k = 0 by omega]; exact va_up_self _ _ _) hA)
theorem RR_CO {s0 : State} {D : va_G} {DA : Nat → ClassId} {z0 : Nat} {C C' : CS} {M : MS} {o o' : Int64} {H : Heap} (h : C' = C) (h2 : o' = o) (hR : RR s0 D DA z0 C M o H) : RR s0 D DA z0 C' M o' H := by subst h; subst h2; exact hR
