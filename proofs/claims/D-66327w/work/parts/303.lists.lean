/-! LISTS as cells: what their members do -/
/-- nothing but the cells P changed -/
def gF (P : Nat → Prop) (H H1 : Heap) : Prop := H.size ≤ H1.size ∧ ∀ q, q < H.size → ¬ P q → H1[q]? = H[q]?
theorem gF.rf {P : Nat → Prop} {H : Heap} : gF P H H := ⟨Nat.le_refl _, fun _ _ _ => rfl⟩
theorem gF.U {P : Nat → Prop} {H0 H H1 : Heap} {a : Nat} (h : gF P H0 H) (hU : gx_U a H H1) (ha : a < H0.size → P a) : gF P H0 H1 :=
  ⟨by rw [hU.1]; exact h.1, fun q hq hp => (hU.2 q (fun e => hp (by rw [e]; exact ha (by rw [← e]; exact hq)))).trans (h.2 q hq hp)⟩
theorem gF.N {P : Nat → Prop} {H0 H H1 : Heap} (h : gF P H0 H) (hN : gx_N H H1) : gF P H0 H1 :=
  ⟨by rw [hN.1]; exact Nat.le_succ_of_le h.1, fun q hq hp => (hN.2 q (Nat.lt_of_lt_of_le hq h.1)).trans (h.2 q hq hp)⟩
theorem gF.tr {P Q : Nat → Prop} {H0 H H1 : Heap} (h : gF P H0 H) (h2 : gF Q H H1) (hq : ∀ q, q < H0.size → Q q → P q) : gF P H0 H1 :=
  ⟨Nat.le_trans h.1 h2.1, fun q hl hp => (h2.2 q (Nat.lt_of_lt_of_le hl h.1) (fun z => hp (hq q hl z))).trans (h.2 q hl hp)⟩
theorem gF.at {P : Nat → Prop} {D : va_G} {cl : List vw_C} {b : Nat} {x : va_E} {H H1 : Heap} (h : gF P H H1) (hp : ¬ P b) (hA : va_at D cl (b, x) H) : va_at D cl (b, x) H1 := hA.kept (h.2 b hA.lt hp)
def oL (mcn : Int32) (d n : Nat) : va_E := .inr (1, [.int mcn, .ref d, .int (nI n)])
def oA (c6 : ClassId) (cap : Nat) (g : Nat → Option Nat) : va_E := .inl (c6, cap, .inr (.inr (.inr (.inr g))))
def gr (n : Nat) : Nat := if n / 2 = 0 then 1 else n / 2
theorem gr_b (n : Nat) : 1 ≤ gr n ∧ gr n ≤ n / 2 + 1 ∧ (2 ≤ n → gr n = n / 2) := by
  unfold gr; split <;> omega
def ncap (cap : Nat) : Nat := if cap = 0 then 10 else cap + gr cap
theorem ncap_b {c : Nat} (h : c ≤ 24) : c < ncap c ∧ ncap c ≤ 36 := by
  have := gr_b c
  unfold ncap; split <;> omega
theorem ncap_0 : ncap 0 = 10 := rfl
theorem ncap_p {c : Nat} (h : 0 < c) : ncap c = c + gr c := if_neg (by omega)
/-- behind add: v at the end; the row where it was, or a new one -/
def lAdd (D : va_G) (c6 : ClassId) (a d cap n : Nat) (g : Nat → Option Nat) (mcn : Int32) (v : Nat) (H H1 : Heap) : Prop :=
  ∃ (d' cap' : Nat) (g' : Nat → Option Nat), gF (fun q => q = a ∨ q = d) H H1 ∧ va_at D gcl (a, oL mcn d' (n + 1)) H1 ∧ va_at D gcl (d', oA c6 cap' g') H1 ∧ n < cap' ∧ cap' ≤ 36 ∧ (∀ i, i < n → g' i = g i) ∧ g' n = some v ∧ ((d' = d ∧ n < cap) ∨ (d' = H.size ∧ cap = n ∧ H1[d]? = H[d]?))
theorem G0.mir {l : Launch} {s0 : State} {D : va_G} {DA : Nat → ClassId} {z0 : Nat} (h : G0 l s0 D DA z0) : ∃ mi, va_Mi "[Ljava/lang/Object;" mi s0 := by
  obtain ⟨a0, -, hN⟩ := h.nar
  exact va_Mi.of (ga_2 (ga_2 (ga_2 (ga_2 (ga_2 (ga_2 (ga_2 hN)))))))
theorem G0.fw {l : Launch} {s0 s : State} {D : va_G} {DA : Nat → ClassId} {z0 : Nat} (h : G0 l s0 D DA z0) (hW : s0.WarmedH s.vm) : va_Fw "NettedPlans$Turn" ⟨"NettedPlans$Ranked", "rank", "()I"⟩ ⟨"NettedPlans$Turn", "rank", "()I"⟩ s := by
  obtain ⟨a0, h1, -⟩ := h.nar
  exact va_Fw.moved (by decide) hW.alike (va_Fw.of (h1 _ q400) (h1 _ q399) (h1 _ q405) (h1 _ q403) (h1 _ q401))
theorem nl_max {n : Nat} (h2 : n / 2 < 2 ^ 31) : (if (1 : Int32) < nI (n / 2) then nI (n / 2) else 1) = nI (gr n) := by
  unfold gr
  by_cases h3 : 1 < n / 2
  · rw [if_neg (show ¬ n / 2 = 0 by omega)]
    exact if_pos (show nI 1 < nI (n / 2) from nI_lt h3 h2)
  · rcases (show n / 2 = 0 ∨ n / 2 = 1 by omega) with e | e <;> rw [e] <;> decide
