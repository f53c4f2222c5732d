/-! NETTING: what asks, grows, net compute -/
theorem aI_inj {B a b : Nat} : aI B a = aI B b ↔ a = b := by simp only [aI]; omega
/-- what the first n lines ask of an item in a week -/
def c_as1 (C : CS) (i w u : Nat) : Int64 := if kC C u = i ∧ inR (nI w) (kL C 1 u) (kL C 2 u) = true ∧ w + cLd C (kP C u) < 12 then c_of C u (kA C 3 (kP C u) (w + cLd C (kP C u))) else 0
def c_as (C : CS) (i w : Nat) : Nat → Int64
  | 0 => 0
  | n + 1 => c_as C i w n + c_as1 C i w n
/-- c_as reads lines, plans, leads and scrap -/
theorem c_as_of {C C' : CS} (e1 : kI C' = kI C) (e2 : kA C' 3 = kA C 3) (e3 : kC C' = kC C) (e4 : kP C' = kP C) (e5 : kL C' = kL C) (i w n : Nat) : c_as C' i w n = c_as C i w n := by
  induction n with
  | zero => rfl
  | succ n ih => rw [c_as, c_as, ih]; congr 1; unfold c_as1 c_of cLd; rw [e1, e2, e3, e4, e5]
theorem c_sum_of {C C' : CS} {j : Nat} (e : kE C' = kE C) (i w : Int32) (n : Nat) : c_sum C' j i w n = c_sum C j i w n := by
  induction n with
  | zero => rfl
  | succ n ih => rw [c_sum, c_sum, ih, e]
/-- an item's gross need in a week -/
def c_g (C : CS) (k w : Nat) : Int64 := c_sum C 1 (nI k) (nI w) (kN C 1) + c_as C k w (kN C 0)
/-- whether one of the first n gross needs is another one -/
def c_df (C : CS) (k : Nat) : Nat → Bool
  | 0 => false
  | n + 1 => c_df C k n || decide (¬ c_g C k n = kA C 0 k n)
def c_gr (C : CS) (k : Nat) : CS := c_wr C 0 k 12 (c_g C k)
/-- what is there of an item ahead of week n, unplanned -/
def c_ba (C : CS) (k : Nat) : Nat → Int64
  | 0 => (kI C 8 k).toInt64
  | n + 1 => c_ba C k n + (c_sum C 2 (nI k) (nI n) (kN C 2) - kA C 0 k n)
def c_la (C : CS) (k w : Nat) : Int64 := (kI C 4 k).toInt64 - c_ba C k (w + 1)
/-- balances and needs of the first n weeks -/
def c_n1 (C : CS) (k n : Nat) : CS := rA C (fun j' k' w => if j' = 4 ∧ k' = k ∧ w < n then c_ba C k (w + 1) else if j' = 2 ∧ k' = k ∧ 0 < w ∧ w ≤ n then p_nd (c_la C k) (cLd C k) w else kA C j' k' w)
theorem c_n1_0 (C : CS) (k : Nat) : c_n1 C k 0 = C := by
  unfold c_n1 rA
  refine Prod.ext rfl (Prod.ext ?_ rfl)
  funext j' k' w
  show (if j' = 4 ∧ k' = k ∧ w < 0 then _ else if j' = 2 ∧ k' = k ∧ 0 < w ∧ w ≤ 0 then _ else _) = _
  rw [if_neg (by omega), if_neg (by omega)]
theorem c_n1_s (C : CS) (k n : Nat) : rA (rA (c_n1 C k n) (up3 (kA (c_n1 C k n)) 4 k n (c_ba C k (n + 1)))) (up3 (kA (rA (c_n1 C k n) (up3 (kA (c_n1 C k n)) 4 k n (c_ba C k (n + 1))))) 2 k (n + 1) (p_nd (c_la C k) (cLd C k) (n + 1))) = c_n1 C k (n + 1) := by
  unfold c_n1 rA
  refine Prod.ext rfl (Prod.ext ?_ rfl)
  funext j' k' w
  show (if j' = 2 ∧ k' = k ∧ w = n + 1 then _ else if j' = 4 ∧ k' = k ∧ w = n then _ else if j' = 4 ∧ k' = k ∧ w < n then _ else if j' = 2 ∧ k' = k ∧ 0 < w ∧ w ≤ n then _ else kA C j' k' w) = if j' = 4 ∧ k' = k ∧ w < n + 1 then _ else if j' = 2 ∧ k' = k ∧ 0 < w ∧ w ≤ n + 1 then _ else _
  by_cases h : k' = k
  · subst h
    by_cases h4 : j' = 4
    · subst h4
      by_cases e : w = n
      · subst e; simp
      · by_cases e2 : w < n
        · rw [if_neg (by omega), if_neg (by omega), if_pos ⟨rfl, rfl, e2⟩, if_pos ⟨rfl, rfl, by omega⟩]
        · rw [if_neg (by omega), if_neg (by omega), if_neg (by omega), if_neg (by omega), if_neg (by omega), if_neg (by omega)]
    · by_cases h2 : j' = 2
      · subst h2
        by_cases e : w = n + 1
        · subst e; simp
        · by_cases e2 : 0 < w ∧ w ≤ n
          · rw [if_neg (by omega), if_neg (by omega), if_neg (by omega), if_pos ⟨rfl, rfl, e2⟩, if_neg (by omega), if_pos ⟨rfl, rfl, by omega⟩]
          · rw [if_neg (by omega), if_neg (by omega), if_neg (by omega), if_neg (by omega), if_neg (by omega), if_neg (by omega)]
      · rw [if_neg (by omega), if_neg (by omega), if_neg (by omega), if_neg (by omega), if_neg (by omega), if_neg (by omega)]
  · rw [if_neg (by omega), if_neg (by omega), if_neg (by omega), if_neg (by omega), if_neg (by omega), if_neg (by omega)]
theorem c_n1_g (C : CS) (k n : Nat) : kA (c_n1 C k n) 0 = kA C 0 := by
  funext k' w
  show (if (0 : Nat) = 4 ∧ k' = k ∧ w < n then c_ba C k (w + 1) else if (0 : Nat) = 2 ∧ k' = k ∧ 0 < w ∧ w ≤ n then p_nd (c_la C k) (cLd C k) w else kA C 0 k' w) = kA C 0 k' w
  rw [if_neg (by omega), if_neg (by omega)]
/-- the plan by the item's rule -/
def c_pr (C : CS) (k : Nat) : CS := if cRu C k = 3 then c_plc C k else c_pl C (cRu C k) k
/-- what is planned ahead of week n -/
def c_gt (C : CS) (k : Nat) : Nat → Int64
  | 0 => 0
  | n + 1 => c_gt C k n + kA C 3 k n
def c_n2 (C : CS) (k n : Nat) : CS := c_wr C 4 k n (fun w => kA C 4 k w + c_gt C k (w + 1))
theorem c_gt_of {C C' : CS} (e : kA C' 3 = kA C 3) (k n : Nat) : c_gt C' k n = c_gt C k n := by
  induction n with
  | zero => rfl
  | succ n ih => rw [c_gt, c_gt, ih, e]
def c_net (C : CS) (k : Nat) : CS := c_n2 (c_pr (c_n1 C k 12) k) k 12
/-- an item waits -/
def c_aw (C : CS) (k : Nat) : CS := if kI C 13 k = 0 then c_put (ci C 13 k 1) k else C
