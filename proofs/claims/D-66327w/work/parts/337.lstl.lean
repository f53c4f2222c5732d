/-! THE LINES' LIST in the world -/
def cL (C : CS) (n : Nat) (P K : Nat → Nat) (L : Nat → Nat → Int32) : CS := rL (rC (rP (rN C (va_up (kN C) 0 n)) P) K) L
theorem GRb.lstL {B : Nat} {h0 : Heap} {D : va_G} {DA : Nat → ClassId} {z0 : Nat} {Y : YS} {C : CS} {M : MS} {o : Int64} {H H1 : Heap} {d' cap' n' : Nat} {g' : Nat → Option Nat} {E' P' K' O' : Nat → Nat} {L' : Nat → Nat → Int32} {mcn : Int32} (h : GRb B h0 D DA z0 Y C M o H) (hF : gF (lP B Y 0) H H1)
    (hO : va_at D gcl (aL B 0, oL mcn d' n') H1) (hA : va_at D gcl (d', oA (DA 6) cap' g') H1) (hd129 : B + 129 ≤ d') (hc0 : 0 < cap') (hc : n' ≤ cap') (h36 : cap' ≤ 36) (h24 : n' ≤ 24) (hg : ∀ i, i < n' → g' i = some (E' i) ∧ B + 129 ≤ E' i ∧ P' i < 12 ∧ K' i < 12)
    (o1 : O' d' = 1000) (o2 : ∀ i, i < n' → O' (E' i) = 1) (o3 : ∀ k, k < 5 → k ≠ 0 → O' (yD Y k) = yO Y (yD Y k)) (o4 : ∀ k, 1 ≤ k → k ≤ 3 → ∀ i, i < kN C k → O' (yE Y k i) = yO Y (yE Y k i))
    (hlin : ∀ i, i < n' → va_at D gcl (E' i, .inr (11, [.ref (aI B (P' i)), .ref (aI B (K' i)), .int (L' 0 i), .int (L' 1 i), .int (L' 2 i)])) H1) : ∃ Y', GRb B h0 D DA z0 Y' (cL C n' P' K' L') M o H1 := by
  have hl := h.lay
  have hj : (0 : Nat) < 5 := by omega
  have hz := h.sz
  refine ⟨ySet Y 0 d' cap' mcn g' E' O', ?_⟩
  have hOO : yO (ySet Y 0 d' cap' mcn g' E' O') = O' := rfl
  have hn' : ∀ {k}, k ≠ 0 → yD (ySet Y 0 d' cap' mcn g' E' O') k = yD Y k ∧ yC (ySet Y 0 d' cap' mcn g' E' O') k = yC Y k ∧ yM (ySet Y 0 d' cap' mcn g' E' O') k = yM Y k ∧ yG (ySet Y 0 d' cap' mcn g' E' O') k = yG Y k ∧ yE (ySet Y 0 d' cap' mcn g' E' O') k = yE Y k := fun hk => ySet_n hk
  have hs' : yD (ySet Y 0 d' cap' mcn g' E' O') 0 = d' ∧ yC (ySet Y 0 d' cap' mcn g' E' O') 0 = cap' ∧ yM (ySet Y 0 d' cap' mcn g' E' O') 0 = mcn ∧ yG (ySet Y 0 d' cap' mcn g' E' O') 0 = g' ∧ yE (ySet Y 0 d' cap' mcn g' E' O') 0 = E' := ySet_s
  generalize ySet Y 0 d' cap' mcn g' E' O' = Y' at hOO hn' hs' ⊢
  obtain ⟨s1, s2, s3, s4, s5⟩ := hs'
  have N0 : ∀ k, k ≠ 0 → kN (cL C n' P' K' L') k = kN C k := fun k hk => va_up_ne _ _ hk
  have Nj : kN (cL C n' P' K' L') 0 = n' := va_up_self (kN C) 0 n'
  refine GRb.lst (Y' := Y') (C' := cL C n' P' K' L') hj h hF (by rw [s1, s3, Nj]; exact hO) (by rw [s1, s2, s4]; exact hA) (fun k hk => ⟨(hn' hk).1, (hn' hk).2.1, (hn' hk).2.2.1, (hn' hk).2.2.2.1, N0 k hk⟩) ⟨rfl, rfl, rfl, rfl, rfl, rfl⟩ ⟨fun k hk => ?_, fun k hk i hi => ?_, fun k hk => ?_, fun i hi => ?_, fun k k1 k3 i hi => ?_, fun i hi => ?_, ?_, hl.2.2.2.2.2.2.2⟩ (fun i hi => ?_) (fun k i k1 k3 hi => ?_)
  · by_cases e : k = 0
    · subst e; rw [s2, Nj]; omega
    · rw [(hn' e).2.1, N0 k e]; exact hl.1 k hk
  · by_cases e : k = 0
    · subst e
      rw [s4, s5]
      rw [Nj] at hi
      exact (hg i hi).1
    · rw [(hn' e).2.2.2.1, (hn' e).2.2.2.2]; rw [N0 k e] at hi; exact hl.2.1 k hk i hi
  · by_cases e : k = 0
    · subst e; rw [s1, s2, hOO]; exact Or.inr ⟨hc0, hd129, o1⟩
    · rw [(hn' e).1, (hn' e).2.1, hOO]
      rcases hl.2.2.1 k hk with z | ⟨z9, z1, z2⟩
      · exact Or.inl z
      · exact Or.inr ⟨z9, z1, by rw [o3 k hk e]; exact z2⟩
  · rw [s5, hOO]
    rw [Nj] at hi
    obtain ⟨z1, z2, z3, z4⟩ := hg i hi
    exact ⟨z2, o2 i hi, z3, z4⟩
  · rw [(hn' (by omega)).2.2.2.2, hOO]
    rw [N0 k (by omega)] at hi
    obtain ⟨z1, z2⟩ := hl.2.2.2.2.1 k k1 k3 i hi
    exact ⟨z1, by rw [o4 k k1 k3 i hi]; exact z2⟩
  · rw [(hn' (by decide)).2.2.2.2]
    rw [N0 4 (by decide)] at hi
    exact hl.2.2.2.2.2.1 i hi
  · have hcc := hl.2.2.2.2.2.2.1
    rw [Nj, N0 1 (by decide), N0 2 (by decide), N0 3 (by decide), N0 4 (by decide)]
    omega
  · rw [s5]
    rw [Nj] at hi
    exact hlin i hi
  · rw [(hn' (by omega)).2.2.2.2]
    rw [N0 k (by omega)] at hi
    exact hF.at (lP_ent hl hj k1 k3 hi) (h.ent k i k1 k3 hi)
/-- a line more -/
def cAddL (C : CS) (pa ch : Nat) (x y z : Int32) : CS := cL C (kN C 0 + 1) (va_up (kP C) (kN C 0) pa) (va_up (kC C) (kN C 0) ch) (fun f i => if i = kN C 0 then (if f = 0 then x else if f = 1 then y else z) else kL C f i)
theorem GRb.addL {B : Nat} {h0 : Heap} {D : va_G} {DA : Nat → ClassId} {z0 : Nat} {Y : YS} {C : CS} {M : MS} {o : Int64} {H H1 : Heap} {v pa ch : Nat} {x y z : Int32} (h : GRb B h0 D DA z0 Y C M o H) (hpa : pa < 12) (hch : ch < 12) (hv : va_at D gcl (v, .inr (11, [.ref (aI B pa), .ref (aI B ch), .int x, .int y, .int z])) H) (hfr : yFr B Y C v) (h24 : kN C 0 < 24) {mcn : Int32} (hA : lAdd D (DA 6) (aL B 0) (yD Y 0) (yC Y 0) (kN C 0) (yG Y 0) mcn v H H1) : ∃ Y', GRb B h0 D DA z0 Y' (cAddL C pa ch x y z) M o H1 := by
  have hl := h.lay
  have hj : (0 : Nat) < 5 := by omega
  have hz := h.sz
  have hvl : v < H.size := hv.lt
  obtain ⟨d', cap', g', hF, q2, q3, q4, q5, q6, q7, hd⟩ := lAdd_F hl hA
  obtain ⟨f1, f2, f3, f4⟩ := hfr
  have hvd : v ≠ d' := by
    rcases hd with ⟨e, -⟩ | e
    · rw [e]; exact (f2 0 hj).symm
    · omega
  have hdf : ∀ k, k < 5 → k ≠ 0 → yD Y k ≠ d' := by
    intro k hk hn
    rcases hd with ⟨e, hc⟩ | e
    · rw [e]; intro z; exact lP_dat hl hj hk hn (Or.inr ⟨z, hc⟩)
    · have : yD Y k < H.size := h.dlt hk
      omega
  have hdl : ∀ i, i < kN C 0 → yE Y 0 i ≠ d' := by
    intro i hi
    rcases hd with ⟨e, hc⟩ | e
    · rw [e]; intro z; exact lP_lin hl hj hi (Or.inr ⟨z, hc⟩)
    · have : yE Y 0 i < H.size := (h.lin i hi).lt
      omega
  have hde : ∀ k, 1 ≤ k → k ≤ 3 → ∀ i, i < kN C k → yE Y k i ≠ d' := by
    intro k k1 k3 i hi
    rcases hd with ⟨e, hc⟩ | e
    · rw [e]; intro z; exact lP_ent hl hj k1 k3 hi (Or.inr ⟨z, hc⟩)
    · have : yE Y k i < H.size := (h.ent k i k1 k3 hi).lt
      omega
  have hd129 : B + 129 ≤ d' := by
    rcases hd with ⟨e, hc⟩ | e
    · rw [e]; exact (yD_far hl hj hc).1
    · omega
  have hvo : ¬ lP B Y 0 v := by
    rintro (e | ⟨e, -⟩)
    · have := aL_in B hj; omega
    · exact f2 0 hj e.symm
  have oO : ∀ q, q ≠ v → q ≠ d' → va_up (va_up (yO Y) d' 1000) v 1 q = yO Y q := fun q z1 z2 => by rw [va_up_ne _ _ z1, va_up_ne _ _ z2]
  refine h.lstL (E' := va_up (yE Y 0) (kN C 0) v) (O' := va_up (va_up (yO Y) d' 1000) v 1) hF q2 q3 hd129 (by omega) (by omega) q5 (by omega) (fun i hi => ?_) (by rw [va_up_ne _ _ hvd.symm, va_up_self]) (fun i hi => ?_) (fun k hk hn => oO _ (f2 k hk) (hdf k hk hn)) (fun k k1 k3 i hi => oO _ (f4 k k1 k3 i hi) (hde k k1 k3 i hi)) (fun i hi => ?_)
  · by_cases e : i = kN C 0
    · subst e; rw [q7, va_up_self, va_up_self, va_up_self]; exact ⟨rfl, f1, hpa, hch⟩
    · have hi2 : i < kN C 0 := by omega
      obtain ⟨z1, z2, z3, z4⟩ := hl.2.2.2.1 i hi2
      rw [q6 i hi2, va_up_ne _ _ e, va_up_ne _ _ e, va_up_ne _ _ e]; exact ⟨hl.2.1 0 hj i hi2, z1, z3, z4⟩
  · by_cases e : i = kN C 0
    · subst e; rw [va_up_self, va_up_self]
    · have hi2 : i < kN C 0 := by omega
      rw [va_up_ne _ _ e, oO _ (f3 i hi2) (hdl i hi2)]
      exact (hl.2.2.2.1 i hi2).2.1
  · by_cases e : i = kN C 0
    · subst e
      rw [va_up_self, va_up_self, va_up_self]
      simp only [if_pos rfl, if_true]
      exact hF.at hvo hv
    · have hi2 : i < kN C 0 := by omega
      rw [va_up_ne _ _ e, va_up_ne _ _ e, va_up_ne _ _ e]
      simp only [if_neg e]
      exact hF.at (lP_lin hl hj hi2) (h.lin i hi2)
/-- line i out -/
def sh1 {α : Type} (i : Nat) (f : Nat → α) : Nat → α := fun k => if k < i then f k else f (k + 1)
def cRemL (C : CS) (i : Nat) : CS := cL C (kN C 0 - 1) (sh1 i (kP C)) (sh1 i (kC C)) (fun f => sh1 i (kL C f))
theorem GRb.remL {B : Nat} {h0 : Heap} {D : va_G} {DA : Nat → ClassId} {z0 : Nat} {Y : YS} {C : CS} {M : MS} {o : Int64} {H H1 : Heap} {i : Nat} {mcn : Int32} (h : GRb B h0 D DA z0 Y C M o H) (hi : i < kN C 0) (hA : lRem D (DA 6) (aL B 0) (yD Y 0) (yC Y 0) (kN C 0) i (yG Y 0) mcn H H1) : ∃ Y', GRb B h0 D DA z0 Y' (cRemL C i) M o H1 := by
  have hl := h.lay
  have hj : (0 : Nat) < 5 := by omega
  obtain ⟨g', hF, -, q2, q3, q4⟩ := hA
  have h36 := h.lay.1 0 (by omega)
  have h24 := h.lay.2.2.2.2.2.2.1.1
  have hcap : 0 < yC Y 0 := by omega
  have hF2 : gF (lP B Y 0) H H1 := ⟨hF.1, fun q hq hp => hF.2 q hq (fun z => hp (z.elim Or.inl (fun e => Or.inr ⟨e, hcap⟩)))⟩
  have hy := yD_far hl hj hcap
  have sb : ∀ k, k < kN C 0 - 1 → ∃ k', k' < kN C 0 ∧ (if k < i then k else k + 1) = k' := fun k hk => ⟨_, by split <;> omega, rfl⟩
  have ss : ∀ {α : Type} (f : Nat → α) (k : Nat), sh1 i f k = f (if k < i then k else k + 1) := fun f k => by unfold sh1; split <;> rfl
  refine h.lstL (E' := sh1 i (yE Y 0)) (O' := yO Y) hF2 q2 q3 hy.1 hcap (by omega) h36.2 (by omega) (fun k hk => ?_) hy.2 (fun k hk => ?_) (fun _ _ _ => rfl) (fun _ _ _ _ _ => rfl) (fun k hk => ?_)
  · obtain ⟨k', hk', e⟩ := sb k hk
    obtain ⟨z1, z2, z3, z4⟩ := hl.2.2.2.1 k' hk'
    rw [q4 k hk, ss, ss, ss, e]
    refine ⟨?_, z1, z3, z4⟩
    rw [← hl.2.1 0 hj k' hk', ← e]
    split <;> rfl
  · obtain ⟨k', hk', e⟩ := sb k hk
    rw [ss, e]
    exact (hl.2.2.2.1 k' hk').2.1
  · obtain ⟨k', hk', e⟩ := sb k hk
    rw [ss, ss, ss, ss, ss, ss, e]
    exact hF2.at (lP_lin hl hj hk') (h.lin k' hk')
