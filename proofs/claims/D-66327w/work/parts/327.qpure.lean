/-! PLAIN WORDS: the queue -/
def qsw (Q : Nat → Nat) (a b : Nat) : Nat → Nat := va_up (va_up Q a (Q b)) b (Q a)
def q_l1 (r : Nat → Int32) (n k : Nat) : Nat := if 2 * k + 1 < n ∧ r (2 * k + 1) < r k then 2 * k + 1 else k
def q_ls (r : Nat → Int32) (n k : Nat) : Nat := if 2 * k + 2 < n ∧ r (2 * k + 2) < r (q_l1 r n k) then 2 * k + 2 else q_l1 r n k
def q_up (R : Nat → Int32) : Nat → Nat → (Nat → Nat) → Nat → Nat
  | 0, _, Q => Q
  | f + 1, k, Q => if 0 < k ∧ R (Q k) < R (Q ((k - 1) / 2)) then q_up R f ((k - 1) / 2) (qsw Q k ((k - 1) / 2)) else Q
def q_dn (R : Nat → Int32) (n : Nat) : Nat → Nat → (Nat → Nat) → Nat → Nat
  | 0, _, Q => Q
  | f + 1, k, Q => if q_ls (fun i => R (Q i)) n k = k then Q else q_dn R n f (q_ls (fun i => R (Q i)) n k) (qsw Q k (q_ls (fun i => R (Q i)) n k))
theorem q_l1_b (r : Nat → Int32) {n k : Nat} (h : k < n) : q_l1 r n k < n ∧ (q_l1 r n k = k ∨ k < q_l1 r n k) := by
  unfold q_l1; split <;> omega
theorem q_ls_b (r : Nat → Int32) {n k : Nat} (h : k < n) : q_ls r n k < n ∧ (q_ls r n k = k ∨ k < q_ls r n k) := by
  have := q_l1_b r h
  unfold q_ls; split <;> omega
def c_put (C : CS) (k : Nat) : CS := cQ C (kN C 4 + 1) (q_up (q_rank C) (kN C 4 + 1) (kN C 4) (va_up (kQ C) (kN C 4) k))
def c_tk (C : CS) : CS := if kN C 4 = 1 then cQ C 0 (kQ C) else cQ C (kN C 4 - 1) (q_dn (q_rank C) (kN C 4 - 1) (kN C 4 - 1) 0 (va_up (kQ C) 0 (kQ C (kN C 4 - 1))))
theorem lw_F {own : String} {idx : Nat} {C : String} {x y : MethodName} {b : ByteArray} {L : Nat} {r : Option FieldType} (h1 : Cond.methodLink own idx x ∈ lw_all) (h3 : Cond.selects C x y ∈ lw_all) (h4 : Cond.instanceMethod y ∈ lw_all) (h5 : Cond.initialized y.cls ∈ lw_all) (h6 : Cond.code y b L r ∈ lw_all) : GoodIn lw_all (va_wsF own idx C x y (ws_ y b L r)) := by
  refine lw_app ?_ (lw_meth h6)
  intro w hw
  simp only [List.mem_cons, List.not_mem_nil, or_false] at hw
  rcases hw with e | e | e | e
  · rw [e]; exact h1
  · rw [e]; exact h3
  · rw [e]; exact h4
  · rw [e]; exact h5
