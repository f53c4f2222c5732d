/-! THE QUEUE'S LIST in the world -/
def cQ (C : CS) (n : Nat) (Q : Nat → Nat) : CS := rQ (rN C (va_up (kN C) 4 n)) Q
theorem cQ_N (C : CS) (n : Nat) (Q : Nat → Nat) : kN (cQ C n Q) 4 = n := va_up_self (kN C) 4 n
theorem cQ_n (C : CS) (n : Nat) (Q : Nat → Nat) {k : Nat} (h : k ≠ 4) : kN (cQ C n Q) k = kN C k := va_up_ne _ _ h
theorem cQ_s (C : CS) : cQ C (kN C 4) (kQ C) = C := by
  unfold cQ rQ rN
  refine Prod.ext rfl (Prod.ext rfl (Prod.ext rfl (Prod.ext rfl (Prod.ext rfl (Prod.ext rfl (Prod.ext ?_ rfl))))))
  funext k
  show va_up (kN C) 4 (kN C 4) k = kN C k
  unfold va_up
  split
  · rename_i e; rw [e]
  · rfl
theorem cQ_cQ (C : CS) (n m : Nat) (P Q : Nat → Nat) : cQ (cQ C n P) m Q = cQ C m Q := by
  unfold cQ
  show rQ (rN C (va_up (va_up (kN C) 4 n) 4 m)) Q = _
  rw [bx_uu]
theorem GRb.lstQ {B : Nat} {h0 : Heap} {D : va_G} {DA : Nat → ClassId} {z0 : Nat} {Y : YS} {C : CS} {M : MS} {o : Int64} {H H1 : Heap} {d' cap' n' : Nat} {g' : Nat → Option Nat} {Q' : Nat → Nat} {mcn : Int32} (h : GRb B h0 D DA z0 Y C M o H) (hF : gF (lP B Y 4) H H1)
    (hO : va_at D gcl (aL B 4, oL mcn d' n') H1) (hA : va_at D gcl (d', oA (DA 6) cap' g') H1) (hd : (d' = yD Y 4 ∧ 0 < yC Y 4) ∨ d' = H.size) (hc0 : 0 < cap') (hc : n' ≤ cap') (h36 : cap' ≤ 36) (h12 : n' ≤ 12) (hg : ∀ i, i < n' → g' i = some (aT B (Q' i)) ∧ Q' i < 12) : ∃ Y', GRb B h0 D DA z0 Y' (cQ C n' Q') M o H1 := by
  have hl := h.lay
  have hj : (4 : Nat) < 5 := by omega
  have hz := h.sz
  have hdf : ∀ k, k < 5 → k ≠ 4 → yD Y k ≠ d' := by
    intro k hk hn
    rcases hd with ⟨e, hc⟩ | e
    · rw [e]; intro z; exact lP_dat hl hj hk hn (Or.inr ⟨z, hc⟩)
    · have : yD Y k < H.size := h.dlt hk
      omega
  have hdl : ∀ i, i < kN C 0 → yE Y 0 i ≠ d' := by
    intro i hi
    rcases hd with ⟨e, hc⟩ | e
    · rw [e]; intro z; exact lP_lin hl hj hi (Or.inr ⟨z, hc⟩)
    · have : yE Y 0 i < H.size := (h.lin i hi).lt
      omega
  have hde : ∀ k, 1 ≤ k → k ≤ 3 → ∀ i, i < kN C k → yE Y k i ≠ d' := by
    intro k k1 k3 i hi
    rcases hd with ⟨e, hc⟩ | e
    · rw [e]; intro z; exact lP_ent hl hj k1 k3 hi (Or.inr ⟨z, hc⟩)
    · have : yE Y k i < H.size := (h.ent k i k1 k3 hi).lt
      omega
  have hd129 : B + 129 ≤ d' := by
    rcases hd with ⟨e, hc⟩ | e
    · rw [e]; exact (yD_far hl hj hc).1
    · omega
  refine ⟨ySet Y 4 d' cap' mcn g' (fun i => aT B (Q' i)) (va_up (yO Y) d' 1004), ?_⟩
  have oO : ∀ q, q ≠ d' → yO (ySet Y 4 d' cap' mcn g' (fun i => aT B (Q' i)) (va_up (yO Y) d' 1004)) q = yO Y q := fun q z2 => va_up_ne _ _ z2
  have od : yO (ySet Y 4 d' cap' mcn g' (fun i => aT B (Q' i)) (va_up (yO Y) d' 1004)) d' = 1004 := va_up_self _ _ _
  have hn' : ∀ {k}, k ≠ 4 → yD (ySet Y 4 d' cap' mcn g' (fun i => aT B (Q' i)) (va_up (yO Y) d' 1004)) k = yD Y k ∧ yC (ySet Y 4 d' cap' mcn g' (fun i => aT B (Q' i)) (va_up (yO Y) d' 1004)) k = yC Y k ∧ yM (ySet Y 4 d' cap' mcn g' (fun i => aT B (Q' i)) (va_up (yO Y) d' 1004)) k = yM Y k ∧ yG (ySet Y 4 d' cap' mcn g' (fun i => aT B (Q' i)) (va_up (yO Y) d' 1004)) k = yG Y k ∧ yE (ySet Y 4 d' cap' mcn g' (fun i => aT B (Q' i)) (va_up (yO Y) d' 1004)) k = yE Y k := fun hk => ySet_n hk
  have hs' : yD (ySet Y 4 d' cap' mcn g' (fun i => aT B (Q' i)) (va_up (yO Y) d' 1004)) 4 = d' ∧ yC (ySet Y 4 d' cap' mcn g' (fun i => aT B (Q' i)) (va_up (yO Y) d' 1004)) 4 = cap' ∧ yM (ySet Y 4 d' cap' mcn g' (fun i => aT B (Q' i)) (va_up (yO Y) d' 1004)) 4 = mcn ∧ yG (ySet Y 4 d' cap' mcn g' (fun i => aT B (Q' i)) (va_up (yO Y) d' 1004)) 4 = g' ∧ yE (ySet Y 4 d' cap' mcn g' (fun i => aT B (Q' i)) (va_up (yO Y) d' 1004)) 4 = (fun i => aT B (Q' i)) := ySet_s
  generalize ySet Y 4 d' cap' mcn g' (fun i => aT B (Q' i)) (va_up (yO Y) d' 1004) = Y' at oO od hn' hs' ⊢
  obtain ⟨s1, s2, s3, s4, s5⟩ := hs'
  have N0 : ∀ k, k ≠ 4 → kN (cQ C n' Q') k = kN C k := fun k hk => va_up_ne _ _ hk
  have Nj : kN (cQ C n' Q') 4 = n' := va_up_self (kN C) 4 n'
  refine GRb.lst (Y' := Y') (C' := cQ C n' Q') hj h hF (by rw [s1, s3, Nj]; exact hO) (by rw [s1, s2, s4]; exact hA) (fun k hk => ⟨(hn' hk).1, (hn' hk).2.1, (hn' hk).2.2.1, (hn' hk).2.2.2.1, N0 k hk⟩) ⟨rfl, rfl, rfl, rfl, rfl, rfl⟩ ⟨fun k hk => ?_, fun k hk i hi => ?_, fun k hk => ?_, fun i hi => ?_, fun k k1 k3 i hi => ?_, fun i hi => ?_, ?_, hl.2.2.2.2.2.2.2⟩ (fun i hi => ?_) (fun k i k1 k3 hi => ?_)
  · by_cases e : k = 4
    · subst e; rw [s2, Nj]; omega
    · rw [(hn' e).2.1, N0 k e]; exact hl.1 k hk
  · by_cases e : k = 4
    · subst e
      rw [s4, s5]
      rw [Nj] at hi
      exact (hg i hi).1
    · rw [(hn' e).2.2.2.1, (hn' e).2.2.2.2]; rw [N0 k e] at hi; exact hl.2.1 k hk i hi
  · by_cases e : k = 4
    · subst e; rw [s1, s2]; exact Or.inr ⟨hc0, hd129, od⟩
    · rw [(hn' e).1, (hn' e).2.1]
      rcases hl.2.2.1 k hk with z | ⟨z9, z1, z2⟩
      · exact Or.inl z
      · exact Or.inr ⟨z9, z1, by rw [oO _ (hdf k hk e)]; exact z2⟩
  · rw [(hn' (by decide)).2.2.2.2]
    rw [N0 0 (by decide)] at hi
    obtain ⟨z1, z2, z3⟩ := hl.2.2.2.1 i hi
    exact ⟨z1, by rw [oO _ (hdl i hi)]; exact z2, z3⟩
  · rw [(hn' (by omega)).2.2.2.2]
    rw [N0 k (by omega)] at hi
    obtain ⟨z1, z2⟩ := hl.2.2.2.2.1 k k1 k3 i hi
    exact ⟨z1, by rw [oO _ (hde k k1 k3 i hi)]; exact z2⟩
  · rw [s5]
    rw [Nj] at hi
    exact ⟨rfl, (hg i hi).2⟩
  · have hcc := hl.2.2.2.2.2.2.1
    rw [Nj, N0 0 (by decide), N0 1 (by decide), N0 2 (by decide), N0 3 (by decide)]
    omega
  · rw [(hn' (by decide)).2.2.2.2]
    rw [N0 0 (by decide)] at hi
    exact hF.at (lP_lin hl hj hi) (h.lin i hi)
  · rw [(hn' (by omega)).2.2.2.2]
    rw [N0 k (by omega)] at hi
    exact hF.at (lP_ent hl hj k1 k3 hi) (h.ent k i k1 k3 hi)
theorem GRb.gQ {B : Nat} {h0 : Heap} {D : va_G} {DA : Nat → ClassId} {z0 : Nat} {Y : YS} {C : CS} {M : MS} {o : Int64} {H : Heap} (h : GRb B h0 D DA z0 Y C M o H) {i : Nat} (hi : i < kN C 4) : yG Y 4 i = some (aT B (kQ C i)) ∧ kQ C i < 12 := by
  obtain ⟨e1, e2⟩ := h.lay.2.2.2.2.2.1 i hi
  rw [h.lay.2.1 4 (by omega) i hi, e1]
  exact ⟨rfl, e2⟩
theorem GRb.addQ {B : Nat} {h0 : Heap} {D : va_G} {DA : Nat → ClassId} {z0 : Nat} {Y : YS} {C : CS} {M : MS} {o : Int64} {H H1 : Heap} {k : Nat} {mcn : Int32} (h : GRb B h0 D DA z0 Y C M o H) (hk : k < 12) (h12 : kN C 4 < 12) (hA : lAdd D (DA 6) (aL B 4) (yD Y 4) (yC Y 4) (kN C 4) (yG Y 4) mcn (aT B k) H H1) : ∃ Y', GRb B h0 D DA z0 Y' (cQ C (kN C 4 + 1) (va_up (kQ C) (kN C 4) k)) M o H1 := by
  obtain ⟨d', cap', g', hF, q2, q3, q4, q5, q6, q7, q8⟩ := lAdd_F h.lay hA
  refine h.lstQ hF q2 q3 q8 (by omega) (by omega) q5 (by omega) (fun i hi => ?_)
  by_cases e : i = kN C 4
  · subst e; rw [q7, va_up_self]; exact ⟨rfl, hk⟩
  · rw [q6 i (by omega), va_up_ne _ _ e]; exact h.gQ (by omega)
theorem GRb.setQ {B : Nat} {h0 : Heap} {D : va_G} {DA : Nat → ClassId} {z0 : Nat} {Y : YS} {C : CS} {M : MS} {o : Int64} {H H1 : Heap} {i k : Nat} (h : GRb B h0 D DA z0 Y C M o H) (hi : i < kN C 4) (hk : k < 12) (hU : gx_U (yD Y 4) H H1) (hA : va_at D gcl (yD Y 4, oA (DA 6) (yC Y 4) (va_up (yG Y 4) i (some (aT B k)))) H1) : ∃ Y', GRb B h0 D DA z0 Y' (cQ C (kN C 4) (va_up (kQ C) i k)) M o H1 := by
  have h36 := h.lay.1 4 (by omega)
  have hcap : 0 < yC Y 4 := by omega
  refine h.lstQ (gF.rf.U hU (fun _ => Or.inr ⟨rfl, hcap⟩)) (hU.at (aL_ne_yD h.lay (by omega)).symm (h.lob 4 (by omega))) hA (Or.inl ⟨rfl, hcap⟩) hcap h36.1 h36.2 h.lay.2.2.2.2.2.2.1.2.2.2.2 (fun q hq => ?_)
  by_cases e : q = i
  · subst e; rw [va_up_self, va_up_self]; exact ⟨rfl, hk⟩
  · rw [va_up_ne _ _ e, va_up_ne _ _ e]; exact h.gQ hq
theorem GRb.remQ {B : Nat} {h0 : Heap} {D : va_G} {DA : Nat → ClassId} {z0 : Nat} {Y : YS} {C : CS} {M : MS} {o : Int64} {H H1 : Heap} {mcn : Int32} (h : GRb B h0 D DA z0 Y C M o H) (h1 : 0 < kN C 4) (hA : lRem D (DA 6) (aL B 4) (yD Y 4) (yC Y 4) (kN C 4) (kN C 4 - 1) (yG Y 4) mcn H H1) : ∃ Y', GRb B h0 D DA z0 Y' (cQ C (kN C 4 - 1) (kQ C)) M o H1 := by
  obtain ⟨g', hF, -, q2, q3, q4⟩ := hA
  have h36 := h.lay.1 4 (by omega)
  have h12 := h.lay.2.2.2.2.2.2.1.2.2.2.2
  have hcap : 0 < yC Y 4 := by omega
  refine h.lstQ ⟨hF.1, fun q hq hp => hF.2 q hq (fun z => hp (z.elim Or.inl (fun e => Or.inr ⟨e, hcap⟩)))⟩ q2 q3 (Or.inl ⟨rfl, hcap⟩) hcap (by omega) h36.2 (by omega) (fun i hi => ?_)
  rw [q4 i hi, if_pos hi]
  exact h.gQ (by omega)
