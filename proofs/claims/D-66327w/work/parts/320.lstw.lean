/-! LISTS IN THE WORLD -/
/-- which cells a change of list j may touch -/
def lP (B : Nat) (Y : YS) (j : Nat) : Nat → Prop := fun q => q = aL B j ∨ (q = yD Y j ∧ 0 < yC Y j)
/-- the class's state but for its lists is the same -/
def cSame (C C' : CS) : Prop := kI C' = kI C ∧ kA C' = kA C ∧ kT C' = kT C ∧ kV C' = kV C ∧ kB C' = kB C ∧ kW C' = kW C
theorem aL_in (B : Nat) {j : Nat} (h : j < 5) : B ≤ aL B j ∧ aL B j < B + 129 := by simp only [aL]; omega
theorem yD_far {B z0 : Nat} {Y : YS} {C : CS} (h : yLay B z0 Y C) {j : Nat} (hj : j < 5) (hc : 0 < yC Y j) : B + 129 ≤ yD Y j ∧ yO Y (yD Y j) = 1000 + j := by
  rcases h.2.2.1 j hj with ⟨h1, -⟩ | ⟨-, h1⟩
  · omega
  · exact h1
theorem GRb.dlt {B : Nat} {h0 : Heap} {D : va_G} {DA : Nat → ClassId} {z0 : Nat} {Y : YS} {C : CS} {M : MS} {o : Int64} {H : Heap} (h : GRb B h0 D DA z0 Y C M o H) {j : Nat} (hj : j < 5) : yD Y j < H.size := by
  have hz := h.sz
  rcases h.lay.2.2.1 j hj with ⟨-, e⟩ | ⟨hc, -, -⟩
  · have := h.lay.2.2.2.2.2.2.2; omega
  · exact (h.lda j hj hc).lt
/-- a fixed cell that isn't the list's object stays -/
theorem lP_fix {B z0 : Nat} {Y : YS} {C : CS} (h : yLay B z0 Y C) {j q : Nat} (hj : j < 5) (hq : q < B + 129) (hn : q ≠ aL B j) : ¬ lP B Y j q := by
  rintro (e | ⟨e, hc⟩)
  · exact hn e
  · have := (yD_far h hj hc).1
    omega
theorem lP_dat {B z0 : Nat} {Y : YS} {C : CS} (h : yLay B z0 Y C) {j k : Nat} (hj : j < 5) (hk : k < 5) (hn : k ≠ j) : ¬ lP B Y j (yD Y k) := by
  have ha := aL_in B hj
  rintro (e | ⟨e, hc⟩)
  · rcases h.2.2.1 k hk with ⟨-, h1⟩ | ⟨-, h1, -⟩
    · have := h.2.2.2.2.2.2.2; omega
    · omega
  · have h1 := yD_far h hj hc
    rcases h.2.2.1 k hk with ⟨-, h2⟩ | ⟨-, h2, h3⟩
    · have := h.2.2.2.2.2.2.2; omega
    · rw [e] at h3; omega
theorem lP_own {B z0 : Nat} {Y : YS} {C : CS} (h : yLay B z0 Y C) {j q : Nat} (hj : j < 5) (hq : B + 129 ≤ q) (ho : yO Y q < 1000 ∨ 2000 ≤ yO Y q) : ¬ lP B Y j q := by
  have ha := aL_in B hj
  rintro (e | ⟨e, hc⟩)
  · omega
  · have h1 := yD_far h hj hc
    rw [← e] at h1
    omega
theorem lP_lin {B z0 : Nat} {Y : YS} {C : CS} (h : yLay B z0 Y C) {j i : Nat} (hj : j < 5) (hi : i < kN C 0) : ¬ lP B Y j (yE Y 0 i) := by
  have h1 := h.2.2.2.1 i hi
  exact lP_own h hj h1.1 (by omega)
theorem lP_ent {B z0 : Nat} {Y : YS} {C : CS} (h : yLay B z0 Y C) {j k i : Nat} (hj : j < 5) (h1 : 1 ≤ k) (h3 : k ≤ 3) (hi : i < kN C k) : ¬ lP B Y j (yE Y k i) := by
  have h1 := h.2.2.2.2.1 k h1 h3 i hi
  exact lP_own h hj h1.1 (by omega)
theorem GRb.lst {B : Nat} {h0 : Heap} {D : va_G} {DA : Nat → ClassId} {z0 : Nat} {Y : YS} {C : CS} {M : MS} {o : Int64} {H : Heap} {H1 : Heap} {Y' : YS} {C' : CS} {j : Nat} (hj : j < 5) (h : GRb B h0 D DA z0 Y C M o H) (hF : gF (lP B Y j) H H1)
    (hO : va_at D gcl (aL B j, oL (yM Y' j) (yD Y' j) (kN C' j)) H1) (hA : va_at D gcl (yD Y' j, oA (DA 6) (yC Y' j) (yG Y' j)) H1)
    (hY : ∀ k, k ≠ j → yD Y' k = yD Y k ∧ yC Y' k = yC Y k ∧ yM Y' k = yM Y k ∧ yG Y' k = yG Y k ∧ kN C' k = kN C k) (hC : cSame C C') (hlay : yLay B z0 Y' C')
    (hlin : ∀ i, i < kN C' 0 → va_at D gcl (yE Y' 0 i, .inr (11, [.ref (aI B (kP C' i)), .ref (aI B (kC C' i)), .int (kL C' 0 i), .int (kL C' 1 i), .int (kL C' 2 i)])) H1)
    (hent : ∀ k i, 1 ≤ k → k ≤ 3 → i < kN C' k → va_at D gcl (yE Y' k i, .inr (12, [.int (kE C' k i 0), .int (kE C' k i 1), .int (kE C' k i 2)])) H1) : GRb B h0 D DA z0 Y' C' M o H1 := by
  obtain ⟨e1, e2, e3, e4, e5, e6⟩ := hC
  have hl := h.lay
  have ha := aL_in B hj
  have hz := h.sz
  have hfix : ∀ (q : Nat) (x : va_E), va_at D gcl (q, x) H → q < B + 129 → q ≠ aL B j → va_at D gcl (q, x) H1 := fun q x hq h1 h2 => hF.at (lP_fix hl hj h1 h2) hq
  refine ⟨fun q hq => (hF.2 q (by omega) (lP_fix hl hj (by omega) (by omega))).trans (h.old q hq), Nat.le_trans h.sz hF.1, hlay, ?_, ?_, ?_, ?_, ?_, ?_, ?_, ?_, ?_, ?_, ?_, ?_, ?_, ?_, ?_, ?_, ?_, ?_, ?_, ?_, ?_, ?_, ?_, ?_, ?_⟩
  · show va_at D gcl (B, .inr (0, npF B C')) H1; have e9 : npF B C' = npF B C := by simp only [npF, e3]
    rw [e9]; exact hfix _ _ h.np (by simp only [aI, aA, aT, aB, aL, mad, miOk] at *; omega) (by simp only [aI, aA, aT, aB, aL, mad, miOk] at *; omega)
  · exact hfix _ _ h.its (by simp only [aI, aA, aT, aB, aL, mad, miOk] at *; omega) (by simp only [aI, aA, aT, aB, aL, mad, miOk] at *; omega)
  · exact hfix _ _ h.trn (by simp only [aI, aA, aT, aB, aL, mad, miOk] at *; omega) (by simp only [aI, aA, aT, aB, aL, mad, miOk] at *; omega)
  · exact hfix _ _ h.rul (by simp only [aI, aA, aT, aB, aL, mad, miOk] at *; omega) (by simp only [aI, aA, aT, aB, aL, mad, miOk] at *; omega)
  · exact hfix _ _ h.an (by simp only [aI, aA, aT, aB, aL, mad, miOk] at *; omega) (by simp only [aI, aA, aT, aB, aL, mad, miOk] at *; omega)
  · exact hfix _ _ h.mu (by simp only [aI, aA, aT, aB, aL, mad, miOk] at *; omega) (by simp only [aI, aA, aT, aB, aL, mad, miOk] at *; omega)
  · exact hfix _ _ h.co (by simp only [aI, aA, aT, aB, aL, mad, miOk] at *; omega) (by simp only [aI, aA, aT, aB, aL, mad, miOk] at *; omega)
  · exact hfix _ _ h.lc (by simp only [aI, aA, aT, aB, aL, mad, miOk] at *; omega) (by simp only [aI, aA, aT, aB, aL, mad, miOk] at *; omega)
  · rw [e5]; exact hfix _ _ h.bes (by simp only [aI, aA, aT, aB, aL, mad, miOk] at *; omega) (by simp only [aI, aA, aT, aB, aL, mad, miOk] at *; omega)
  · rw [e6]; exact hfix _ _ h.las (by simp only [aI, aA, aT, aB, aL, mad, miOk] at *; omega) (by simp only [aI, aA, aT, aB, aL, mad, miOk] at *; omega)
  · exact hfix _ _ h.wai (by simp only [aI, aA, aT, aB, aL, mad, miOk] at *; omega) (by simp only [aI, aA, aT, aB, aL, mad, miOk] at *; omega)
  · rw [e4]; exact hfix _ _ h.lev (by simp only [aI, aA, aT, aB, aL, mad, miOk] at *; omega) (by simp only [aI, aA, aT, aB, aL, mad, miOk] at *; omega)
  · intro j q0 q1
    exact hfix _ _ (h.bok j q0 q1) (by simp only [aI, aA, aT, aB, aL, mad, miOk] at *; omega) (by simp only [aI, aA, aT, aB, aL, mad, miOk] at *; omega)
  · intro k q0
    show va_at D gcl (aI B k, .inr (8, itF B C' k)) H1; have e9 : itF B C' k = itF B C k := by simp only [itF, e1]
    rw [e9]; exact hfix _ _ (h.itm k q0) (by simp only [aI, aA, aT, aB, aL, mad, miOk] at *; omega) (by simp only [aI, aA, aT, aB, aL, mad, miOk] at *; omega)
  · intro j k q0 q1
    rw [e2]; exact hfix _ _ (h.arr j k q0 q1) (by simp only [aI, aA, aT, aB, aL, mad, miOk] at *; omega) (by simp only [aI, aA, aT, aB, aL, mad, miOk] at *; omega)
  · intro k q0
    exact hfix _ _ (h.tur k q0) (by simp only [aI, aA, aT, aB, aL, mad, miOk] at *; omega) (by simp only [aI, aA, aT, aB, aL, mad, miOk] at *; omega)
  · exact hfix _ _ h.mo (by simp only [aI, aA, aT, aB, aL, mad, miOk] at *; omega) (by simp only [aI, aA, aT, aB, aL, mad, miOk] at *; omega)
  · intro j q0
    exact hfix _ _ (h.mia j q0) (by simp only [aI, aA, aT, aB, aL, mad, miOk] at *; omega) (by simp only [aI, aA, aT, aB, aL, mad, miOk] at *; omega)
  · exact hfix _ _ h.mza (by simp only [aI, aA, aT, aB, aL, mad, miOk] at *; omega) (by simp only [aI, aA, aT, aB, aL, mad, miOk] at *; omega)
  · intro j q0 q1
    exact hfix _ _ (h.mla j q0 q1) (by simp only [aI, aA, aT, aB, aL, mad, miOk] at *; omega) (by simp only [aI, aA, aT, aB, aL, mad, miOk] at *; omega)
  · exact hfix _ _ h.out (by simp only [aI, aA, aT, aB, aL, mad, miOk] at *; omega) (by simp only [aI, aA, aT, aB, aL, mad, miOk] at *; omega)
  · intro k q0
    by_cases e : k = j
    · subst e; exact hO
    · obtain ⟨y1, y2, y3, y4, y5⟩ := hY k e
      rw [y1, y3, y5]
      exact hfix _ _ (h.lob k q0) (aL_in B q0).2 (by simp only [aL]; omega)
  · intro k q0 q1
    by_cases e : k = j
    · subst e; exact hA
    · obtain ⟨y1, y2, y3, y4, y5⟩ := hY k e
      rw [y1, y2, y4]
      rw [y2] at q1
      exact hF.at (lP_dat hl hj q0 e) (h.lda k q0 q1)
  · exact hlin
  · exact hent
/-- an address that no list's cell has -/
def yFr (B : Nat) (Y : YS) (C : CS) (v : Nat) : Prop := B + 129 ≤ v ∧ (∀ j, j < 5 → yD Y j ≠ v) ∧ (∀ i, i < kN C 0 → yE Y 0 i ≠ v) ∧ ∀ j, 1 ≤ j → j ≤ 3 → ∀ i, i < kN C j → yE Y j i ≠ v
theorem GRb.fr {B : Nat} {h0 : Heap} {D : va_G} {DA : Nat → ClassId} {z0 : Nat} {Y : YS} {C : CS} {M : MS} {o : Int64} {H : Heap} (h : GRb B h0 D DA z0 Y C M o H) {v : Nat} (hv : H.size ≤ v) : yFr B Y C v := by
  refine ⟨Nat.le_trans h.sz hv, fun j hj e => ?_, fun i hi e => ?_, fun j h1 h3 i hi e => ?_⟩
  · have : yD Y j < H.size := h.dlt hj
    omega
  · have : yE Y 0 i < H.size := (h.lin i hi).lt
    omega
  · have : yE Y j i < H.size := (h.ent j i h1 h3 hi).lt
    omega
/-- list j's row, length and elements by new words; owners of two addresses -/
def ySet (Y : YS) (j d cap : Nat) (mcn : Int32) (g : Nat → Option Nat) (E : Nat → Nat) (O : Nat → Nat) : YS := (va_up (yD Y) j d, va_up (yC Y) j cap, va_up (yM Y) j mcn, va_up (yG Y) j g, va_up (yE Y) j E, O)
theorem ySet_n {Y : YS} {j d cap : Nat} {mcn : Int32} {g : Nat → Option Nat} {E O : Nat → Nat} {k : Nat} (h : k ≠ j) : yD (ySet Y j d cap mcn g E O) k = yD Y k ∧ yC (ySet Y j d cap mcn g E O) k = yC Y k ∧ yM (ySet Y j d cap mcn g E O) k = yM Y k ∧ yG (ySet Y j d cap mcn g E O) k = yG Y k ∧ yE (ySet Y j d cap mcn g E O) k = yE Y k :=
  ⟨va_up_ne _ _ h, va_up_ne _ _ h, va_up_ne _ _ h, va_up_ne _ _ h, va_up_ne _ _ h⟩
theorem ySet_s {Y : YS} {j d cap : Nat} {mcn : Int32} {g : Nat → Option Nat} {E O : Nat → Nat} : yD (ySet Y j d cap mcn g E O) j = d ∧ yC (ySet Y j d cap mcn g E O) j = cap ∧ yM (ySet Y j d cap mcn g E O) j = mcn ∧ yG (ySet Y j d cap mcn g E O) j = g ∧ yE (ySet Y j d cap mcn g E O) j = E :=
  ⟨va_up_self _ _ _, va_up_self _ _ _, va_up_self _ _ _, va_up_self _ _ _, va_up_self _ _ _⟩
/-- lAdd's frame, as the lists' cells lie -/
theorem lAdd_F {B z0 : Nat} {D : va_G} {c6 : ClassId} {Y : YS} {C : CS} {H H1 : Heap} (hl : yLay B z0 Y C) {j v : Nat} {mcn : Int32} (h : lAdd D c6 (aL B j) (yD Y j) (yC Y j) (kN C j) (yG Y j) mcn v H H1) :
    ∃ (d' cap' : Nat) (g' : Nat → Option Nat), gF (lP B Y j) H H1 ∧ va_at D gcl (aL B j, oL mcn d' (kN C j + 1)) H1 ∧ va_at D gcl (d', oA c6 cap' g') H1 ∧ kN C j < cap' ∧ cap' ≤ 36 ∧ (∀ i, i < kN C j → g' i = yG Y j i) ∧ g' (kN C j) = some v ∧ ((d' = yD Y j ∧ 0 < yC Y j) ∨ d' = H.size) := by
  obtain ⟨d', cap', g', h1, h2, h3, h4, h5, h6, h7, h8⟩ := h
  refine ⟨d', cap', g', ⟨h1.1, fun q hq hp => ?_⟩, h2, h3, h4, h5, h6, h7, ?_⟩
  · by_cases e : q = yD Y j
    · rcases h8 with ⟨z1, z2⟩ | ⟨z1, z2, z3⟩
      · exact absurd (Or.inr ⟨e, by omega⟩) hp
      · rw [e]; exact z3
    · exact h1.2 q hq (fun z => z.elim (fun z => hp (Or.inl z)) e)
  · rcases h8 with ⟨z1, z2⟩ | ⟨z1, z2, z3⟩
    · exact Or.inl ⟨z1, by omega⟩
    · exact Or.inr z1
/-- an entry more in book j -/
def cAddE (C : CS) (j : Nat) (a b n : Int32) : CS := rE (rN C (va_up (kN C) j (kN C j + 1))) (fun k i f => if k = j ∧ i = kN C j then (if f = 0 then a else if f = 1 then b else n) else kE C k i f)
theorem cAddE_N (C : CS) (j : Nat) (a b n : Int32) : kN (cAddE C j a b n) = va_up (kN C) j (kN C j + 1) := rfl
theorem cAddE_E {C : CS} {j : Nat} {a b n : Int32} : kE (cAddE C j a b n) j (kN C j) 0 = a ∧ kE (cAddE C j a b n) j (kN C j) 1 = b ∧ kE (cAddE C j a b n) j (kN C j) 2 = n := by
  refine ⟨?_, ?_, ?_⟩ <;> simp [cAddE, rE, rN, kE]
theorem cAddE_n {C : CS} {j k i f : Nat} {a b n : Int32} (h : ¬ (k = j ∧ i = kN C j)) : kE (cAddE C j a b n) k i f = kE C k i f := by
  show (if k = j ∧ i = kN C j then _ else _) = _
  rw [if_neg h]
theorem GRb.addE {B : Nat} {h0 : Heap} {D : va_G} {DA : Nat → ClassId} {z0 : Nat} {Y : YS} {C : CS} {M : MS} {o : Int64} {H : Heap} {H1 : Heap} {j v : Nat} {a b n : Int32} (h1 : 1 ≤ j) (h3 : j ≤ 3) (h : GRb B h0 D DA z0 Y C M o H) (hv : va_at D gcl (v, .inr (12, [.int a, .int b, .int n])) H) (hfr : yFr B Y C v) (h24 : kN C j < 24) {mcn : Int32} (hA : lAdd D (DA 6) (aL B j) (yD Y j) (yC Y j) (kN C j) (yG Y j) mcn v H H1) : ∃ Y', GRb B h0 D DA z0 Y' (cAddE C j a b n) M o H1 := by
  have hl := h.lay
  have hj : j < 5 := by omega
  have hvl : v < H.size := hv.lt
  obtain ⟨d', cap', g', hF, q2, q3, q4, q5, q6, q7, q8⟩ := lAdd_F hl hA
  obtain ⟨f1, f2, f3, f4⟩ := hfr
  have hz := h.sz
  have hvd : v ≠ d' := by
    rcases q8 with ⟨e, -⟩ | e
    · rw [e]; exact (f2 j hj).symm
    · omega
  have hdf : ∀ k, k < 5 → k ≠ j → yD Y k ≠ d' := by
    intro k hk hn
    rcases q8 with ⟨e, hc⟩ | e
    · rw [e]; intro z; exact lP_dat hl hj hk hn (Or.inr ⟨z, hc⟩)
    · have : yD Y k < H.size := h.dlt hk
      omega
  have hdl : ∀ i, i < kN C 0 → yE Y 0 i ≠ d' := by
    intro i hi
    rcases q8 with ⟨e, hc⟩ | e
    · rw [e]; intro z; exact lP_lin hl hj hi (Or.inr ⟨z, hc⟩)
    · have : yE Y 0 i < H.size := (h.lin i hi).lt
      omega
  have hde : ∀ k, 1 ≤ k → k ≤ 3 → ∀ i, i < kN C k → yE Y k i ≠ d' := by
    intro k k1 k3 i hi
    rcases q8 with ⟨e, hc⟩ | e
    · rw [e]; intro z; exact lP_ent hl hj k1 k3 hi (Or.inr ⟨z, hc⟩)
    · have : yE Y k i < H.size := (h.ent k i k1 k3 hi).lt
      omega
  have hd129 : B + 129 ≤ d' := by
    rcases q8 with ⟨e, hc⟩ | e
    · rw [e]; exact (yD_far hl hj hc).1
    · omega
  have hvo : ¬ lP B Y j v := by
    rintro (e | ⟨e, -⟩)
    · have := aL_in B hj; omega
    · exact f2 j hj e.symm
  refine ⟨ySet Y j d' cap' mcn g' (va_up (yE Y j) (kN C j) v) (va_up (va_up (yO Y) d' (1000 + j)) v (2000 + 100 * j + kN C j)), ?_⟩
  have oO : ∀ q, q ≠ v → q ≠ d' → yO (ySet Y j d' cap' mcn g' (va_up (yE Y j) (kN C j) v) (va_up (va_up (yO Y) d' (1000 + j)) v (2000 + 100 * j + kN C j))) q = yO Y q := fun q z1 z2 => by
    show va_up (va_up (yO Y) d' (1000 + j)) v _ q = _
    rw [va_up_ne _ _ z1, va_up_ne _ _ z2]
  generalize hYe : ySet Y j d' cap' mcn g' (va_up (yE Y j) (kN C j) v) (va_up (va_up (yO Y) d' (1000 + j)) v (2000 + 100 * j + kN C j)) = Y' at oO ⊢
  have hn' : ∀ {k}, k ≠ j → yD Y' k = yD Y k ∧ yC Y' k = yC Y k ∧ yM Y' k = yM Y k ∧ yG Y' k = yG Y k ∧ yE Y' k = yE Y k := fun hk => by rw [← hYe]; exact ySet_n hk
  have hs' : yD Y' j = d' ∧ yC Y' j = cap' ∧ yM Y' j = mcn ∧ yG Y' j = g' ∧ yE Y' j = va_up (yE Y j) (kN C j) v := by rw [← hYe]; exact ySet_s
  have ov : yO Y' v = 2000 + 100 * j + kN C j := by rw [← hYe]; exact va_up_self _ _ _
  have od : yO Y' d' = 1000 + j := by rw [← hYe]; show va_up _ _ _ _ = _; rw [va_up_ne _ _ hvd.symm, va_up_self]
  clear hYe
  obtain ⟨s1, s2, s3, s4, s5⟩ := hs'
  have N0 : ∀ k, k ≠ j → kN (cAddE C j a b n) k = kN C k := fun k hk => va_up_ne _ _ hk
  have Nj : kN (cAddE C j a b n) j = kN C j + 1 := va_up_self _ _ _
  have j0 : (0 : Nat) ≠ j := by omega
  have j4 : (4 : Nat) ≠ j := by omega
  have hP : kP (cAddE C j a b n) = kP C := rfl
  have hKC : kC (cAddE C j a b n) = kC C := rfl
  have hQ : kQ (cAddE C j a b n) = kQ C := rfl
  have hLL : kL (cAddE C j a b n) = kL C := rfl
  refine GRb.lst (Y' := Y') (C' := cAddE C j a b n) hj h hF (by rw [s1, s3, Nj]; exact q2) (by rw [s1, s2, s4]; exact q3) (fun k hk => ⟨(hn' hk).1, (hn' hk).2.1, (hn' hk).2.2.1, (hn' hk).2.2.2.1, N0 k hk⟩) ⟨rfl, rfl, rfl, rfl, rfl, rfl⟩ ⟨fun k hk => ?_, fun k hk i hi => ?_, fun k hk => ?_, fun i hi => ?_, fun k k1 k3 i hi => ?_, fun i hi => ?_, ?_, hl.2.2.2.2.2.2.2⟩ (fun i hi => ?_) (fun k i k1 k3 hi => ?_)
  · by_cases e : k = j
    · subst e; rw [s2, Nj]; omega
    · rw [(hn' e).2.1, N0 k e]; exact hl.1 k hk
  · by_cases e : k = j
    · subst e
      rw [s4, s5]
      rw [Nj] at hi
      by_cases e2 : i = kN C k
      · subst e2; rw [q7, va_up_self]
      · rw [q6 i (by omega), va_up_ne _ _ e2]; exact hl.2.1 k hk i (by omega)
    · rw [(hn' e).2.2.2.1, (hn' e).2.2.2.2]; rw [N0 k e] at hi; exact hl.2.1 k hk i hi
  · by_cases e : k = j
    · subst e; rw [s1, s2]; exact Or.inr ⟨by omega, hd129, od⟩
    · rw [(hn' e).1, (hn' e).2.1]
      rcases hl.2.2.1 k hk with z | ⟨z9, z1, z2⟩
      · exact Or.inl z
      · exact Or.inr ⟨z9, z1, by rw [oO _ (f2 k hk) (hdf k hk e)]; exact z2⟩
  · rw [(hn' j0).2.2.2.2, hP, hKC]
    rw [N0 0 j0] at hi
    obtain ⟨z1, z2, z3⟩ := hl.2.2.2.1 i hi
    exact ⟨z1, by rw [oO _ (f3 i hi) (hdl i hi)]; exact z2, z3⟩
  · by_cases e : k = j
    · subst e
      rw [s5]
      rw [Nj] at hi
      by_cases e2 : i = kN C k
      · subst e2; rw [va_up_self]; exact ⟨f1, ov⟩
      · rw [va_up_ne _ _ e2]
        have hi2 : i < kN C k := by omega
        obtain ⟨z1, z2⟩ := hl.2.2.2.2.1 k k1 k3 i hi2
        exact ⟨z1, by rw [oO _ (f4 k k1 k3 i hi2) (hde k k1 k3 i hi2)]; exact z2⟩
    · rw [(hn' e).2.2.2.2]
      rw [N0 k e] at hi
      obtain ⟨z1, z2⟩ := hl.2.2.2.2.1 k k1 k3 i hi
      exact ⟨z1, by rw [oO _ (f4 k k1 k3 i hi) (hde k k1 k3 i hi)]; exact z2⟩
  · rw [(hn' j4).2.2.2.2, hQ]
    rw [N0 4 j4] at hi
    exact hl.2.2.2.2.2.1 i hi
  · have hc := hl.2.2.2.2.2.2.1
    have hb : ∀ k, kN (cAddE C j a b n) k ≤ if k = j then kN C j + 1 else kN C k := fun k => by
      by_cases e : k = j
      · rw [if_pos e, e, Nj]; exact Nat.le_refl _
      · rw [if_neg e, N0 k e]; exact Nat.le_refl _
    have b0 := hb 0; have b1 := hb 1; have b2 := hb 2; have b3 := hb 3; have b4 := hb 4
    rcases (show j = 1 ∨ j = 2 ∨ j = 3 by omega) with e | e | e <;> subst e <;> simp at b0 b1 b2 b3 b4 <;> omega
  · rw [(hn' j0).2.2.2.2, hP, hKC, hLL]
    rw [N0 0 j0] at hi
    exact hF.at (lP_lin hl hj hi) (h.lin i hi)
  · by_cases e : k = j
    · subst e
      rw [s5]
      rw [Nj] at hi
      by_cases e2 : i = kN C k
      · subst e2
        rw [va_up_self, cAddE_E.1, cAddE_E.2.1, cAddE_E.2.2]
        exact hF.at hvo hv
      · rw [va_up_ne _ _ e2, cAddE_n (fun z => e2 z.2), cAddE_n (fun z => e2 z.2), cAddE_n (fun z => e2 z.2)]
        exact hF.at (lP_ent hl hj k1 k3 (by omega)) (h.ent k i k1 k3 (by omega))
    · rw [(hn' e).2.2.2.2, cAddE_n (fun z => e z.1), cAddE_n (fun z => e z.1), cAddE_n (fun z => e z.1)]
      rw [N0 k e] at hi
      exact hF.at (lP_ent hl hj k1 k3 hi) (h.ent k i k1 k3 hi)
