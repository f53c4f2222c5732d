/-! PLAIN WORDS: rules -/
theorem lw_U {own : String} {idx : Nat} {C owner : String} {x y : MethodName} {b : ByteArray} {L : Nat} {r : Option FieldType} (h1 : Cond.methodLink own idx x ∈ lw_all) (h2 : Cond.sameMethod x.cls owner x.name x.desc ∈ lw_all) (h3 : Cond.selects C x y ∈ lw_all) (h4 : Cond.instanceMethod y ∈ lw_all) (h5 : Cond.initialized y.cls ∈ lw_all) (h6 : Cond.code y b L r ∈ lw_all) : GoodIn lw_all (va_wsU own idx C owner x y (ws_ y b L r)) := by
  refine lw_app ?_ (lw_meth h6)
  intro w hw
  simp only [List.mem_cons, List.not_mem_nil, or_false] at hw
  rcases hw with e | e | e | e | e
  · rw [e]; exact h1
  · rw [e]; exact h2
  · rw [e]; exact h3
  · rw [e]; exact h4
  · rw [e]; exact h5
theorem lw_O {own : String} {idx : Nat} {C owner : String} {x y : MethodName} {b : ByteArray} {L : Nat} {r : Option FieldType} (h1 : Cond.methodLink own idx x ∈ lw_all) (h2 : Cond.sameMethod x.cls owner x.name x.desc ∈ lw_all) (h7 : Cond.instanceMethod ⟨owner, x.name, x.desc⟩ ∈ lw_all) (h3 : Cond.selects C x y ∈ lw_all) (h4 : Cond.instanceMethod y ∈ lw_all) (h5 : Cond.initialized y.cls ∈ lw_all) (h6 : Cond.code y b L r ∈ lw_all) : GoodIn lw_all (va_wsO own idx C owner x y (ws_ y b L r)) := by
  refine lw_app ?_ (lw_meth h6)
  intro w hw
  simp only [List.mem_cons, List.not_mem_nil, or_false] at hw
  rcases hw with e | e | e | e | e | e
  · rw [e]; exact h1
  · rw [e]; exact h2
  · rw [e]; exact h7
  · rw [e]; exact h3
  · rw [e]; exact h4
  · rw [e]; exact h5
theorem lw_SU {own : String} {idx : Nat} {y : MethodName} {b : ByteArray} {L : Nat} {r : Option FieldType} (h1 : Cond.methodLink own idx y ∈ lw_all) (h2 : Cond.sameMethod y.cls y.cls y.name y.desc ∈ lw_all) (h3 : Cond.superclass own y.cls ∈ lw_all) (h4 : Cond.instanceMethod y ∈ lw_all) (h5 : Cond.initialized y.cls ∈ lw_all) (h6 : Cond.code y b L r ∈ lw_all) : GoodIn lw_all (va_wsSU own idx y (ws_ y b L r)) := by
  refine lw_app ?_ (lw_meth h6)
  intro w hw
  simp only [List.mem_cons, List.not_mem_nil, or_false] at hw
  rcases hw with e | e | e | e | e
  · rw [e]; exact h1
  · rw [e]; exact h2
  · rw [e]; exact h3
  · rw [e]; exact h4
  · rw [e]; exact h5
def cLd (C : CS) (k : Nat) : Nat := (kI C 3 k).toNatClampNeg
def cSz (C : CS) (k : Nat) : Nat := (kI C 2 k).toNatClampNeg
def cRu (C : CS) (k : Nat) : Nat := (kI C 1 k).toNatClampNeg
def cW (C : CS) (w : Nat) : Nat := (kW C w).toNatClampNeg
/-- the class's numbers that index rows are within bounds -/
def CC (C : CS) : Prop := (∀ k, k < 12 → kI C 3 k = nI (cLd C k) ∧ cLd C k ≤ 4) ∧ (∀ k, k < 12 → kI C 2 k = nI (cSz C k) ∧ 1 ≤ cSz C k ∧ cSz C k ≤ 1000) ∧ (∀ k, k < 12 → kI C 1 k = nI (cRu C k) ∧ cRu C k ≤ 3) ∧ (∀ j, 1 ≤ j → j ≤ 3 → ∀ i, i < kN C j → (∃ a, a < 12 ∧ kE C j i 0 = nI a) ∧ ∃ b, b < 12 ∧ kE C j i 1 = nI b)
theorem CC.ld {C : CS} (h : CC C) {k : Nat} (hk : k < 12) : kI C 3 k = nI (cLd C k) := (h.1 k hk).1
theorem CC.l4 {C : CS} (h : CC C) {k : Nat} (hk : k < 12) : cLd C k ≤ 4 := (h.1 k hk).2
theorem CC.sz {C : CS} (h : CC C) {k : Nat} (hk : k < 12) : kI C 2 k = nI (cSz C k) := (h.2.1 k hk).1
theorem CC.z1 {C : CS} (h : CC C) {k : Nat} (hk : k < 12) : 1 ≤ cSz C k := (h.2.1 k hk).2.1
theorem CC.z2 {C : CS} (h : CC C) {k : Nat} (hk : k < 12) : cSz C k ≤ 1000 := (h.2.1 k hk).2.2
theorem CC.ru {C : CS} (h : CC C) {k : Nat} (hk : k < 12) : kI C 1 k = nI (cRu C k) := (h.2.2.1 k hk).1
theorem CC.r3 {C : CS} (h : CC C) {k : Nat} (hk : k < 12) : cRu C k ≤ 3 := (h.2.2.1 k hk).2
/-- CC reads item fields 1..3, lengths and entries alone -/
theorem CC.of {C C' : CS} (h : CC C) (e1 : kI C' 1 = kI C 1) (e2 : kI C' 2 = kI C 2) (e3 : kI C' 3 = kI C 3) (e4 : kN C' = kN C) (e5 : kE C' = kE C) : CC C' := by
  have h1 : ∀ k, cLd C' k = cLd C k := fun k => by simp only [cLd, e3]
  have h2 : ∀ k, cSz C' k = cSz C k := fun k => by simp only [cSz, e2]
  have h3 : ∀ k, cRu C' k = cRu C k := fun k => by simp only [cRu, e1]
  unfold CC
  simp only [h1, h2, h3, e1, e2, e3, e4, e5]
  exact h
/-- a stretch of an item's row -/
def c_wr (C : CS) (j k n : Nat) (f : Nat → Int64) : CS := rA C (fun j' k' w => if j' = j ∧ k' = k ∧ w < n then f w else kA C j' k' w)
theorem c_wr_0 (C : CS) (j k : Nat) (f : Nat → Int64) : c_wr C j k 0 f = C := by
  unfold c_wr rA
  refine Prod.ext rfl (Prod.ext ?_ rfl)
  funext j' k' w
  show (if j' = j ∧ k' = k ∧ w < 0 then _ else _) = _
  rw [if_neg (by omega)]
theorem c_wr_s (C : CS) (j k n : Nat) (f : Nat → Int64) : rA (c_wr C j k n f) (up3 (kA (c_wr C j k n f)) j k n (f n)) = c_wr C j k (n + 1) f := by
  unfold c_wr rA
  refine Prod.ext rfl (Prod.ext ?_ rfl)
  funext j' k' w
  show (if j' = j ∧ k' = k ∧ w = n then f n else (if j' = j ∧ k' = k ∧ w < n then f w else kA C j' k' w)) = if j' = j ∧ k' = k ∧ w < n + 1 then f w else kA C j' k' w
  by_cases h : j' = j ∧ k' = k
  · obtain ⟨h1, h2⟩ := h
    subst h1; subst h2
    by_cases h3 : w = n
    · subst h3; simp
    · by_cases h4 : w < n
      · rw [if_neg (fun q => h3 q.2.2), if_pos ⟨rfl, rfl, h4⟩, if_pos ⟨rfl, rfl, by omega⟩]
      · rw [if_neg (fun q => h3 q.2.2), if_neg (fun q => h4 q.2.2), if_neg (fun q => h4 (by omega))]
  · rw [if_neg (fun q => h ⟨q.1, q.2.1⟩), if_neg (fun q => h ⟨q.1, q.2.1⟩), if_neg (fun q => h ⟨q.1, q.2.1⟩)]
theorem rA_rA (C : CS) (x y : Nat → Nat → Nat → Int64) : rA (rA C x) y = rA C y := rfl
theorem up3_up3 {f : Nat → Nat → Nat → Int64} {j k w : Nat} {x y : Int64} : up3 (up3 f j k w x) j k w y = up3 f j k w y := by
  funext j' k' w'
  unfold up3
  by_cases h : j' = j ∧ k' = k ∧ w' = w <;> simp [h]
theorem c_wr_o (C : CS) {j k n j' k' : Nat} (f : Nat → Int64) (h : j' ≠ j ∨ k' ≠ k) : kA (c_wr C j k n f) j' k' = kA C j' k' := by
  funext w
  show (if j' = j ∧ k' = k ∧ w < n then _ else _) = _
  rw [if_neg]
  rintro ⟨h1, h2, -⟩
  rcases h with h | h
  · exact h h1
  · exact h h2
theorem c_wr_i (C : CS) {j k n w : Nat} (f : Nat → Int64) (h : w < n) : kA (c_wr C j k n f) j k w = f w := by
  show (if j = j ∧ k = k ∧ w < n then _ else _) = _
  rw [if_pos ⟨rfl, rfl, h⟩]
theorem c_wr_x (C : CS) {j k n w : Nat} (f : Nat → Int64) (h : n ≤ w) : kA (c_wr C j k n f) j k w = kA C j k w := by
  show (if j = j ∧ k = k ∧ w < n then _ else _) = _
  rw [if_neg (by omega)]
def c_lot (r : Nat) (z : Int32) (nd : Nat → Int64) (lst : Nat → Nat) (w : Nat) (got : Int64) : Int64 :=
  if r = 0 then nd (w + 1) - got else if r = 1 then (nd (w + 1) - got + z.toInt64 - 1) / z.toInt64 * z.toInt64 else
  if r = 2 then nd ((if w + z.toNatClampNeg - 1 < 11 then w + z.toNatClampNeg - 1 else 11) + 1) - got else nd (lst w + 1) - got
def c_q (r : Nat) (z : Int32) (ld : Nat) (nd : Nat → Int64) (lst : Nat → Nat) (w : Nat) (got : Int64) : Int64 := if ld ≤ w ∧ got < nd (w + 1) then c_lot r z nd lst w got else 0
def c_got (r : Nat) (z : Int32) (ld : Nat) (nd : Nat → Int64) (lst : Nat → Nat) : Nat → Int64
  | 0 => 0
  | n + 1 => c_got r z ld nd lst n + c_q r z ld nd lst n (c_got r z ld nd lst n)
def c_pg (C : CS) (r k : Nat) : Nat → Int64 := c_got r (kI C 2 k) (cLd C k) (kA C 2 k) (cW C)
def c_pq (C : CS) (r k w : Nat) : Int64 := c_q r (kI C 2 k) (cLd C k) (kA C 2 k) (cW C) w (c_pg C r k w)
/-- LotRule.plan by rule r -/
def c_pl (C : CS) (r k : Nat) : CS := c_wr C 3 k 12 (c_pq C r k)
def c_su (C : CS) (k : Nat) : Int64 := (kI C 6 k).toInt64
def c_ho (C : CS) (k : Nat) : Int64 := (kI C 7 k).toInt64
theorem p_cost_s (su ho : Int64) (nd : Nat → Int64) (w n : Nat) : p_cost su ho nd w n + ho * (nI (n + 1)).toInt64 * (nd (w + n + 1 + 1) - nd (w + n + 1)) = p_cost su ho nd w (n + 1) := by
  unfold p_cost
  rw [p_cs]
  generalize p_cs nd w n = a
  generalize (nI (n + 1)).toInt64 = b
  generalize nd (w + n + 1 + 1) - nd (w + n + 1) = d
  grind
theorem p_cost_0 (su ho : Int64) (nd : Nat → Int64) (w : Nat) : p_cost su ho nd w 0 = su := by
  unfold p_cost p_cs
  grind
/-- what look lays: the week up to which a lot lasts, the least cost -/
def c_lv (su ho : Int64) (nd b : Nat → Int64) (w : Nat) : Int32 := if nd (w + 1) = nd w then nI w else nI (p_last su ho nd b w)
def c_lk (C : CS) (k w : Nat) : CS := rW (rB C (va_up (kB C) w (p_bv (c_su C k) (c_ho C k) (kA C 2 k) (kB C) w))) (va_up (kW C) w (c_lv (c_su C k) (c_ho C k) (kA C 2 k) (kB C) w))
theorem l_sub0 {a b : Int64} : a - b = 0 ↔ a = b := by
  constructor
  · intro h; grind
  · intro h; rw [h]; grind
/-- the first n looks, from the last week back -/
def c_lks (C : CS) (k : Nat) : Nat → CS
  | 0 => rB C (va_up (kB C) 12 0)
  | n + 1 => c_lk (c_lks C k n) k (11 - n)
theorem c_lks_o (C : CS) (k n : Nat) : kI (c_lks C k n) = kI C ∧ kA (c_lks C k n) = kA C ∧ kN (c_lks C k n) = kN C ∧ kE (c_lks C k n) = kE C := by
  induction n with
  | zero => exact ⟨rfl, rfl, rfl, rfl⟩
  | succ n ih => exact ih
theorem c_lks_B (C : CS) (k n : Nat) : kB (c_lks C k n) = p_bs (c_su C k) (c_ho C k) (kA C 2 k) (kB C) n := by
  induction n with
  | zero => rfl
  | succ n ih =>
    show va_up (kB (c_lks C k n)) (11 - n) (p_bv (c_su (c_lks C k n) k) (c_ho (c_lks C k n) k) (kA (c_lks C k n) 2 k) (kB (c_lks C k n)) (11 - n)) = _
    unfold c_su c_ho
    rw [(c_lks_o C k n).1, (c_lks_o C k n).2.1, ih]
    rfl
theorem c_lks_W (C : CS) (k n : Nat) {w : Nat} (hn : n ≤ 12) (h : 12 - n ≤ w) (h2 : w < 12) : kW (c_lks C k n) w = c_lv (c_su C k) (c_ho C k) (kA C 2 k) (p_bs (c_su C k) (c_ho C k) (kA C 2 k) (kB C) (11 - w)) w := by
  induction n with
  | zero => omega
  | succ n ih =>
    show va_up (kW (c_lks C k n)) (11 - n) (c_lv (c_su (c_lks C k n) k) (c_ho (c_lks C k n) k) (kA (c_lks C k n) 2 k) (kB (c_lks C k n)) (11 - n)) w = _
    by_cases e : w = 11 - n
    · subst e
      rw [va_up_self, c_lks_B]
      unfold c_su c_ho
      rw [(c_lks_o C k n).1, (c_lks_o C k n).2.1]
      rw [show 11 - (11 - n) = n by omega]
    · rw [va_up_ne _ _ e]
      exact ih (by omega) (by omega)
theorem c_lv_lt (su ho : Int64) (nd b : Nat → Int64) {w : Nat} (h : w < 12) : ∃ v, v < 12 ∧ c_lv su ho nd b w = nI v := by
  unfold c_lv
  split
  · exact ⟨w, h, rfl⟩
  · refine ⟨_, ?_, rfl⟩
    unfold p_last
    have := p_lst_lt (p_f su ho nd b w) (12 - w) (by omega)
    omega
/-- LeastCost.plan -/
def c_plc (C : CS) (k : Nat) : CS := c_pl (c_lks C k (12 - cLd C k)) 3 k
theorem c_lks_lst {C : CS} {k n w : Nat} (hn : n ≤ 12) (h : 12 - n ≤ w) (h2 : w < 12) : kW (c_lks C k n) w = nI (cW (c_lks C k n) w) ∧ cW (c_lks C k n) w < 12 := by
  have e := c_lks_W C k n hn h h2
  obtain ⟨v, hv, ev⟩ := c_lv_lt (c_su C k) (c_ho C k) (kA C 2 k) (p_bs (c_su C k) (c_ho C k) (kA C 2 k) (kB C) (11 - w)) h2
  unfold cW
  rw [e, ev, nI_clamp (by omega)]
  exact ⟨rfl, hv⟩
theorem nI_min {a : Nat} (h : a < 2 ^ 31) : (if nI a < 11 then nI a else 11) = nI (if a < 11 then a else 11) := by
  by_cases h2 : a < 11
  · rw [if_pos h2]; exact if_pos (show nI a < nI 11 from nI_lt h2 (by omega))
  · rw [if_neg h2]; exact if_neg (show ¬ nI a < nI 11 from nI_nlt (by omega) h)
theorem p_lst_1 (f : Nat → Int64) : p_lst f 1 = 0 := by
  unfold p_lst; simp [p_lst]
theorem rW_rW (C : CS) (w : Nat) (x y : Int32) : rW (rW C (va_up (kW C) w x)) (va_up (kW (rW C (va_up (kW C) w x))) w y) = rW C (va_up (kW C) w y) := by
  show rW C (va_up (va_up (kW C) w x) w y) = _
  rw [bx_uu]
theorem c_lks_v (C : CS) (k : Nat) {v : Nat} (h : v ≤ 11) : c_lk (c_lks C k (12 - (v + 1))) k v = c_lks C k (12 - v) := by
  rw [show 12 - v = (12 - (v + 1)) + 1 by omega]
  show _ = c_lk (c_lks C k (12 - (v + 1))) k (11 - (12 - (v + 1)))
  rw [show 11 - (12 - (v + 1)) = v by omega]
theorem c_lk_e {C : CS} {k w : Nat} (h : kA C 2 k (w + 1) = kA C 2 k w) : c_lk C k w = rB (rW C (va_up (kW C) w (nI w))) (va_up (kB C) w (kB C (w + 1))) := by
  unfold c_lk p_bv c_lv
  rw [if_pos h, if_pos h]
  rfl
theorem c_lk_n {C : CS} {k w : Nat} (h : ¬ kA C 2 k (w + 1) = kA C 2 k w) : c_lk C k w = rB (rW C (va_up (kW C) w (nI (p_last (c_su C k) (c_ho C k) (kA C 2 k) (kB C) w)))) (va_up (kB C) w (p_f (c_su C k) (c_ho C k) (kA C 2 k) (kB C) w (p_lst (p_f (c_su C k) (c_ho C k) (kA C 2 k) (kB C) w) (12 - w)))) := by
  unfold c_lk p_bv c_lv
  rw [if_neg h, if_neg h]
  rfl
