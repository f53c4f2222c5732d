/-! PLAIN WORDS: what both sides reckon -/
def nm : Nat → Int32
  | 0 => -1
  | k + 1 => nI k
theorem nm_s (k : Nat) : nI k - 1 = nm k := by
  cases k with
  | zero => decide
  | succ k => exact nI_pred k
/-- the greatest of 0 and the first n of f -/
def p_mo (f : Nat → Int64) : Nat → Int64
  | 0 => 0
  | n + 1 => if p_mo f n < f n then f n else p_mo f n
/-- needs, one place on: what is lacked up to a week, none ahead of the lead -/
def p_nd (f : Nat → Int64) (ld : Nat) : Nat → Int64
  | 0 => 0
  | k + 1 => if k < ld then 0 else p_mo f (k + 1)
/-- what it costs to hold for n weeks from w on -/
def p_cs (nd : Nat → Int64) (w : Nat) : Nat → Int64
  | 0 => 0
  | n + 1 => p_cs nd w n + (nI (n + 1)).toInt64 * (nd (w + n + 1 + 1) - nd (w + n + 1))
def p_cost (su ho : Int64) (nd : Nat → Int64) (w n : Nat) : Int64 := su + ho * p_cs nd w n
/-- the first place of the least among the first n -/
def p_lst (f : Nat → Int64) : Nat → Nat
  | 0 => 0
  | n + 1 => if f n < f (p_lst f n) then n else p_lst f n
def p_f (su ho : Int64) (nd b : Nat → Int64) (w n : Nat) : Int64 := p_cost su ho nd w n + b (w + n + 1)
def p_last (su ho : Int64) (nd b : Nat → Int64) (w : Nat) : Nat := w + p_lst (p_f su ho nd b w) (12 - w)
def p_bv (su ho : Int64) (nd b : Nat → Int64) (w : Nat) : Int64 := if nd (w + 1) = nd w then b (w + 1) else p_f su ho nd b w (p_lst (p_f su ho nd b w) (12 - w))
/-- the least costs, from the last week back -/
def p_bs (su ho : Int64) (nd b0 : Nat → Int64) : Nat → Nat → Int64
  | 0 => va_up b0 12 0
  | n + 1 => va_up (p_bs su ho nd b0 n) (11 - n) (p_bv su ho nd (p_bs su ho nd b0 n) (11 - n))
/-- a lot by rule ru -/
def p_lot (ru z : Int32) (su ho : Int64) (nd b : Nat → Int64) (w : Nat) (got : Int64) : Int64 :=
  if ru = 0 then nd (w + 1) - got else if ru = 1 then (nd (w + 1) - got + z.toInt64 - 1) / z.toInt64 * z.toInt64 else
  if ru = 2 then nd ((if w + z.toNatClampNeg - 1 < 12 then w + z.toNatClampNeg - 1 else 11) + 1) - got else nd (p_last su ho nd b w + 1) - got
def p_q (ru z : Int32) (ld : Nat) (su ho : Int64) (nd b : Nat → Int64) (w : Nat) (got : Int64) : Int64 := if ld ≤ w ∧ got < nd (w + 1) then p_lot ru z su ho nd b w got else 0
def p_got (ru z : Int32) (ld : Nat) (su ho : Int64) (nd b : Nat → Int64) : Nat → Int64
  | 0 => 0
  | n + 1 => p_got ru z ld su ho nd b n + p_q ru z ld su ho nd b n (p_got ru z ld su ho nd b n)
theorem p_lst_lt (f : Nat → Int64) : ∀ n, 0 < n → p_lst f n < n := by
  intro n
  induction n with
  | zero => intro h; omega
  | succ n ih =>
    intro _
    unfold p_lst
    split
    · omega
    · rcases Nat.eq_zero_or_pos n with h | h
      · subst h; simp [p_lst]
      · have := ih h; omega
theorem p_lst_le (f : Nat → Int64) (n : Nat) : p_lst f n ≤ n := by
  rcases Nat.eq_zero_or_pos n with h | h
  · subst h; simp [p_lst]
  · exact Nat.le_of_lt (p_lst_lt f n h)
/-! the reference's state -/
def mz (M : MS) (j : Nat) (v : Int32) : MS := (mI M, mL M, va_up (mS M) j v)
def mi (M : MS) (j k : Nat) (v : Int32) : MS := (up2 (mI M) j k v, mL M, mS M)
def ml (M : MS) (j k : Nat) (v : Int64) : MS := (mI M, up2 (mL M) j k v, mS M)
/-- a block of a row written -/
def m_wr (M : MS) (j a n : Nat) (g : Nat → Int64) : MS := (mI M, fun j' k => if j' = j ∧ a ≤ k ∧ k < a + n then g (k - a) else mL M j' k, mS M)
theorem m_wr_0 (M : MS) (j a : Nat) (g : Nat → Int64) : m_wr M j a 0 g = M := by
  unfold m_wr
  refine Prod.ext rfl (Prod.ext ?_ rfl)
  funext j' k
  simp only [mL, ite_eq_right_iff, and_imp]
  intro _ _ _
  omega
theorem m_wr_s (M : MS) (j a n : Nat) (g : Nat → Int64) : ml (m_wr M j a n g) j (a + n) (g n) = m_wr M j a (n + 1) g := by
  unfold m_wr ml
  refine Prod.ext rfl (Prod.ext ?_ rfl)
  funext j' k
  simp only [up2, mL]
  by_cases h1 : j' = j
  · subst h1
    by_cases h2 : k = a + n
    · subst h2; simp
    · by_cases h3 : a ≤ k ∧ k < a + n
      · rw [if_neg (fun q => h2 q.2), if_pos ⟨rfl, h3⟩, if_pos ⟨rfl, h3.1, by omega⟩]
      · rw [if_neg (fun q => h2 q.2), if_neg (fun q => h3 q.2), if_neg (fun q => h3 ⟨q.2.1, by omega⟩)]
  · rw [if_neg (fun q => h1 q.1), if_neg (fun q => h1 q.1), if_neg (fun q => h1 q.1)]
theorem m_wr_o (M : MS) {j a n j' : Nat} (g : Nat → Int64) (h : j' ≠ j) : mL (m_wr M j a n g) j' = mL M j' := by
  funext k
  simp [m_wr, mL, h]
theorem m_wr_i (M : MS) {j a n k : Nat} (g : Nat → Int64) (h : k < n) : mL (m_wr M j a n g) j (a + k) = g k := by
  show (if j = j ∧ a ≤ a + k ∧ a + k < a + n then g (a + k - a) else mL M j (a + k)) = g k
  rw [if_pos ⟨rfl, by omega, by omega⟩]
  congr 1
  omega
theorem m_wr_x (M : MS) {j a n k : Nat} (g : Nat → Int64) (h : k < a ∨ a + n ≤ k) : mL (m_wr M j a n g) j k = mL M j k := by
  show (if j = j ∧ a ≤ k ∧ k < a + n then g (k - a) else mL M j k) = mL M j k
  rw [if_neg]
  rintro ⟨-, h1, h2⟩
  omega
def mCt (M : MS) (K : Nat) : Nat := (mI M 13 K).toNatClampNeg
def mLd (M : MS) (i : Nat) : Nat := (mI M 2 i).toNatClampNeg
def mSz (M : MS) (i : Nat) : Nat := (mI M 1 i).toNatClampNeg
/-- the reference's numbers that index its rows are within bounds -/
def MC (M : MS) : Prop := (∀ K, K < 3 → mI M 13 K = nI (mCt M K) ∧ mCt M K ≤ 24) ∧ (∀ i, i < 12 → mI M 2 i = nI (mLd M i) ∧ mLd M i ≤ 4) ∧ (∀ i, i < 12 → mI M 1 i = nI (mSz M i) ∧ 1 ≤ mSz M i ∧ mSz M i ≤ 1000) ∧ (∀ K, K < 3 → ∀ k, k < mCt M K → (∃ a, a < 12 ∧ mI M 14 (24 * K + k) = nI a) ∧ ∃ a, a < 12 ∧ mI M 15 (24 * K + k) = nI a)
theorem MC.ct {M : MS} (h : MC M) {K : Nat} (hK : K < 3) : mI M 13 K = nI (mCt M K) := (h.1 K hK).1
theorem MC.c24 {M : MS} (h : MC M) {K : Nat} (hK : K < 3) : mCt M K ≤ 24 := (h.1 K hK).2
theorem MC.ld {M : MS} (h : MC M) {i : Nat} (hi : i < 12) : mI M 2 i = nI (mLd M i) := (h.2.1 i hi).1
theorem MC.l4 {M : MS} (h : MC M) {i : Nat} (hi : i < 12) : mLd M i ≤ 4 := (h.2.1 i hi).2
theorem MC.sz {M : MS} (h : MC M) {i : Nat} (hi : i < 12) : mI M 1 i = nI (mSz M i) := (h.2.2.1 i hi).1
theorem MC.z1 {M : MS} (h : MC M) {i : Nat} (hi : i < 12) : 1 ≤ mSz M i := (h.2.2.1 i hi).2.1
theorem MC.z2 {M : MS} (h : MC M) {i : Nat} (hi : i < 12) : mSz M i ≤ 1000 := (h.2.2.1 i hi).2.2
/-- MC reads the ints alone -/
theorem MC.of {M M' : MS} (h : MC M) (e : mI M' = mI M) : MC M' := by
  have h1 : ∀ K, mCt M' K = mCt M K := fun K => by simp only [mCt, e]
  have h2 : ∀ K, mLd M' K = mLd M K := fun K => by simp only [mLd, e]
  have h3 : ∀ K, mSz M' K = mSz M K := fun K => by simp only [mSz, e]
  unfold MC
  simp only [h1, h2, h3, e]
  exact h
/-- needs as rows have them, one place on -/
def m_nd (M : MS) : Nat → Int64
  | 0 => 0
  | k + 1 => mL M 21 k
/-- quantities of kind K of an item up to a week, of the first n -/
def m_sum (M : MS) (K : Nat) (i w : Int32) : Nat → Int64
  | 0 => 0
  | n + 1 => if mI M 14 (24 * K + n) = i ∧ mI M 15 (24 * K + n) ≤ w then m_sum M K i w n + (mI M 16 (24 * K + n)).toInt64 else m_sum M K i w n
/-- a row's first n weeks summed -/
def m_up (f : Nat → Int64) (i : Nat) : Nat → Int64
  | 0 => 0
  | n + 1 => m_up f i n + f (12 * i + n)
def m_bare (M : MS) (i w : Nat) : Int64 := (mI M 7 i).toInt64 + m_sum M 1 (nI i) (nI w) (mCt M 1) - m_up (mL M 18) i (w + 1)
def m_q (M : MS) (pa ch w : Nat) : Int64 := if 0 < mI M 10 (12 * pa + ch) ∧ w + mLd M pa < 12 ∧ mI M 11 (12 * pa + ch) ≤ nI w ∧ nI w ≤ mI M 12 (12 * pa + ch) then mL M 19 (12 * pa + (w + mLd M pa)) else 0
def m_asks (M : MS) (pa ch w : Nat) : Int64 := (m_q M pa ch w * (mI M 10 (12 * pa + ch)).toInt64 * (1000 + (mI M 4 ch).toInt64) + 999) / 1000
def m_g0 (M : MS) (i w : Nat) : Int64 := m_sum M 0 (nI i) (nI w) (mCt M 0) - (if 0 < w then m_sum M 0 (nI i) (nI (w - 1)) (mCt M 0) else 0)
def m_gs (M : MS) (i w : Nat) : Nat → Int64
  | 0 => m_g0 M i w
  | n + 1 => m_gs M i w n + m_asks M n i w
def m_su (M : MS) (i : Nat) : Int64 := (mI M 5 i).toInt64
def m_ho (M : MS) (i : Nat) : Int64 := (mI M 6 i).toInt64
def m_lacks (M : MS) (i v : Nat) : Int64 := (mI M 3 i).toInt64 - m_bare M i v
/-- findNeeds, findBest, plan, net, as what they do to the rows -/
def m_fN (M : MS) (i : Nat) : MS := m_wr M 21 0 12 (fun k => p_nd (m_lacks M i) (mLd M i) (k + 1))
def m_sb (M : MS) (b : Nat → Int64) : MS := (mI M, fun j => if j = 22 then b else mL M j, mS M)
def m_fB (M : MS) (i : Nat) : MS := m_sb M (p_bs (m_su M i) (m_ho M i) (m_nd M) (mL M 22) (12 - mLd M i))
def m_lot (M : MS) (i w : Nat) (got : Int64) : Int64 := p_lot (mI M 0 i) (mI M 1 i) (m_su M i) (m_ho M i) (m_nd M) (mL M 22) w got
def m_pq (M : MS) (i w : Nat) : Int64 → Int64 := p_q (mI M 0 i) (mI M 1 i) (mLd M i) (m_su M i) (m_ho M i) (m_nd M) (mL M 22) w
def m_pg (M : MS) (i : Nat) : Nat → Int64 := p_got (mI M 0 i) (mI M 1 i) (mLd M i) (m_su M i) (m_ho M i) (m_nd M) (mL M 22)
def m_pl1 (M : MS) (i : Nat) : MS := m_wr M 19 (12 * i) 12 (fun w => m_pq M i w (m_pg M i w))
def m_plan (M : MS) (i : Nat) : MS := m_pl1 (m_fB (m_fN M i) i) i
/-- whether fresh gross needs differ among the first n weeks -/
def m_dif (M : MS) (i : Nat) (f : Nat → Int64) : Nat → Bool
  | 0 => false
  | n + 1 => m_dif M i f n || decide (f n ≠ mL M 18 (12 * i + n))
def m_net (M : MS) (i : Nat) : MS :=
  let f := fun w => m_gs M i w 12
  mi (m_plan (m_wr (m_wr M 20 0 12 f) 18 (12 * i) 12 f) i) 17 i 0
def m_netb (M : MS) (i : Nat) : Bool := (decide (mS M 19 = 0) || decide (mI M 17 i ≠ 0)) || m_dif M i (fun w => m_gs M i w 12) 12
/-! which rows these read -/
theorem m_sum_c {M M' : MS} (h : mI M' = mI M) (K : Nat) (i w : Int32) (n : Nat) : m_sum M' K i w n = m_sum M K i w n := by
  induction n with
  | zero => rfl
  | succ n ih => simp only [m_sum, ih, h]
theorem m_bare_c {M M' : MS} (h : mI M' = mI M) (h2 : mL M' 18 = mL M 18) (i w : Nat) : m_bare M' i w = m_bare M i w := by
  simp only [m_bare, m_sum_c h, mCt, h, h2]
theorem m_nd_c {M M' : MS} (h : mL M' 21 = mL M 21) : m_nd M' = m_nd M := by
  funext k
  cases k with
  | zero => rfl
  | succ k => simp only [m_nd, h]
theorem m_lot_c {M M' : MS} (h : mI M' = mI M) (h1 : mL M' 21 = mL M 21) (h2 : mL M' 22 = mL M 22) (i w : Nat) (g : Int64) : m_lot M' i w g = m_lot M i w g := by
  simp only [m_lot, m_su, m_ho, m_nd_c h1, h, h2]
theorem m_asks_c {M M' : MS} (h : mI M' = mI M) (h1 : mL M' 19 = mL M 19) (a b w : Nat) : m_asks M' a b w = m_asks M a b w := by
  unfold m_asks m_q mLd
  rw [h, h1]
theorem m_gs_c {M M' : MS} (h : mI M' = mI M) (h1 : mL M' 19 = mL M 19) (i w n : Nat) : m_gs M' i w n = m_gs M i w n := by
  induction n with
  | zero => simp only [m_gs, m_g0, m_sum_c h, mCt, h]
  | succ n ih => simp only [m_gs, ih, m_asks_c h h1]
theorem m_wr_s0 (M : MS) (j n : Nat) (g : Nat → Int64) : ml (m_wr M j 0 n g) j n (g n) = m_wr M j 0 (n + 1) g := by
  have h := m_wr_s M j 0 n g
  rw [Nat.zero_add] at h
  exact h
theorem m_sb_u (M : MS) (b : Nat → Int64) (k : Nat) (v : Int64) : ml (m_sb M b) 22 k v = m_sb M (va_up b k v) := by
  unfold ml m_sb
  refine Prod.ext rfl (Prod.ext ?_ rfl)
  funext j k'
  simp only [up2, mL]
  by_cases h : j = 22
  · subst h; simp [va_up]
  · simp [h]
theorem m_sb_0 (M : MS) (k : Nat) (v : Int64) : ml M 22 k v = m_sb M (va_up (mL M 22) k v) := by
  unfold ml m_sb
  refine Prod.ext rfl (Prod.ext ?_ rfl)
  funext j k'
  simp only [up2, mL]
  by_cases h : j = 22
  · subst h; simp [va_up]
  · simp [h]
theorem m_sb_21 (M : MS) (b : Nat → Int64) : mL (m_sb M b) 21 = mL M 21 := rfl
theorem m_sb_22 (M : MS) (b : Nat → Int64) : mL (m_sb M b) 22 = b := rfl
theorem p_bs_v (su ho : Int64) (nd b0 : Nat → Int64) {v : Nat} (h : v ≤ 11) : va_up (p_bs su ho nd b0 (12 - (v + 1))) v (p_bv su ho nd (p_bs su ho nd b0 (12 - (v + 1))) v) = p_bs su ho nd b0 (12 - v) := by
  have e : 12 - v = (12 - (v + 1)) + 1 := by omega
  rw [e]
  conv => rhs; unfold p_bs
  have e2 : 11 - (12 - (v + 1)) = v := by omega
  rw [e2]
theorem nm_m1 (k : Nat) : nI k + (-1) = nm k := by
  rw [← nm_s]
  rw [Int32.sub_eq_add_neg]
theorem nm_lt {j d : Nat} (hj : j < 2 ^ 31) (hd : d < 2 ^ 31) : nm j < nI d ↔ j ≤ d := by
  cases j with
  | zero =>
    refine ⟨fun _ => Nat.zero_le _, fun _ => ?_⟩
    rw [Int32.lt_iff_toInt_lt, nI_toInt hd]
    show (-1 : Int32).toInt < _
    rw [show (-1 : Int32).toInt = -1 by decide]
    omega
  | succ k =>
    show nI k < nI d ↔ _
    rw [nI_ltI (by omega) hd]
    omega
theorem sz_ne {z : Nat} (h : 1 ≤ z) (h2 : z ≤ 1000) : ¬ (nI z).toInt64 = 0 := by
  rw [nI_l (by omega), show (0 : Int64) = lN 0 by decide, lN_eq (by omega) (by omega)]
  omega
theorem tab3 {x : Int32} (h0 : ¬ x = 0) (h1 : ¬ x = 1) (h2 : ¬ x = 2) : x.toInt < 0 ∨ 2 < x.toInt := by
  have a0 : x.toInt ≠ 0 := fun q => h0 (Int32.toInt_inj.mp (by rw [q]; decide))
  have a1 : x.toInt ≠ 1 := fun q => h1 (Int32.toInt_inj.mp (by rw [q]; decide))
  have a2 : x.toInt ≠ 2 := fun q => h2 (Int32.toInt_inj.mp (by rw [q]; decide))
  omega
def m_F (M : MS) (i w : Nat) : Nat → Int64 := p_f (m_su M i) (m_ho M i) (m_nd M) (mL M 22) w
def m_last (M : MS) (i w : Nat) : Nat := p_last (m_su M i) (m_ho M i) (m_nd M) (mL M 22) w
theorem m_last_lt (M : MS) (i : Nat) {w : Nat} (h : w < 12) : m_last M i w < 12 := by
  unfold m_last p_last
  have := p_lst_lt (p_f (m_su M i) (m_ho M i) (m_nd M) (mL M 22) w) (12 - w) (by omega)
  omega
/-! indices out of checks -/
def in12 (x : Int32) : Bool := decide (0 ≤ x) && decide (x ≤ 11)
def inR (x a b : Int32) : Bool := decide (a ≤ x) && decide (x ≤ b)
theorem in12_t {x : Int32} (h : in12 x = true) : ∃ k, k < 12 ∧ x = nI k := by
  simp only [in12, Bool.and_eq_true, decide_eq_true_eq] at h
  obtain ⟨j, hj, e⟩ := nI_of2 (M := 11) (n := 11) (by decide) (Int32.not_lt.mpr h.1) h.2
  exact ⟨j, by omega, e⟩
theorem in12_n {k : Nat} (h : k < 12) : in12 (nI k) = true := by
  simp only [in12, Bool.and_eq_true, decide_eq_true_eq]
  exact ⟨nI_pos' (by omega), nI_le (a := k) (b := 11) (by omega) (by omega)⟩
theorem inR_in {x : Int32} {n : Nat} (hn : n < 2 ^ 31) (h : inR x 0 (nI n - 1) = true) : ∃ k, k < n ∧ x = nI k := by
  simp only [inR, Bool.and_eq_true, decide_eq_true_eq] at h
  obtain ⟨j, hj, e⟩ := nI_of (Int32.not_lt.mpr h.1)
  subst e
  cases n with
  | zero =>
    have h2 := h.2
    rw [show nI 0 - 1 = (-1 : Int32) by decide, Int32.le_iff_toInt_le, nI_toInt hj, show (-1 : Int32).toInt = -1 by decide] at h2
    omega
  | succ n =>
    have h2 := h.2
    rw [nI_pred] at h2
    exact ⟨j, by have := n_ge h2 (by omega) hj; omega, rfl⟩
theorem inR_n {k n : Nat} (hk : k < n) (hn : n < 2 ^ 31) : inR (nI k) 0 (nI n - 1) = true := by
  simp only [inR, Bool.and_eq_true, decide_eq_true_eq]
  cases n with
  | zero => omega
  | succ n => rw [nI_pred]; exact ⟨nI_pos' (by omega), nI_le (by omega) (by omega)⟩
/-! what the reference's calls do -/
def m_tell (M : MS) (i : Nat) : MS := mz (mi M 17 i 1) 20 1
def x_item (i r z d s : Int32) : Int32 := if in12 i = false then 1 else if (inR r 0 3 && inR z 1 1000 && inR d 0 4 && inR s 0 1000) = false then 2 else 0
def m_item (M : MS) (i r z d s : Int32) : MS := if x_item i r z d s = 0 then m_tell (mi (mi (mi (mi (mz M 0 0) 0 i.toNatClampNeg r) 1 i.toNatClampNeg z) 2 i.toNatClampNeg d) 3 i.toNatClampNeg s) i.toNatClampNeg else mz M 0 (x_item i r z d s)
def x_costs (i a b d : Int32) : Int32 := if in12 i = false then 1 else if (inR a 0 200 && inR b 0 100000 && inR d 0 100) = false then 2 else 0
def m_costs (M : MS) (i a b d : Int32) : MS := if x_costs i a b d = 0 then m_tell (mi (mi (mi (mz M 0 0) 4 i.toNatClampNeg a) 5 i.toNatClampNeg b) 6 i.toNatClampNeg d) i.toNatClampNeg else mz M 0 (x_costs i a b d)
def x_made (i a b : Int32) : Int32 := if (in12 i && inR a 0 2) = false then 1 else if inR b 0 9 = false then 2 else 0
def m_made (M : MS) (i a b : Int32) : MS := if x_made i a b = 0 then mi (mi (mz M 0 0) 8 i.toNatClampNeg a) 9 i.toNatClampNeg b else mz M 0 (x_made i a b)
def x_stock (i a : Int32) : Int32 := if in12 i = false then 1 else if inR a 0 10000 = false then 2 else 0
def m_stock (M : MS) (i a : Int32) : MS := if x_stock i a = 0 then m_tell (mi (mz M 0 0) 7 i.toNatClampNeg a) i.toNatClampNeg else mz M 0 (x_stock i a)
def m_stockr (M : MS) (i a : Int32) : Int32 := if x_stock i a = 0 then mI M 7 i.toNatClampNeg else 0
theorem nI_cl {k : Nat} (h : k < 12) : (nI k).toNatClampNeg = k := nI_clamp (by omega)
theorem m_item_0 {M : MS} {k : Nat} {r z d s : Int32} (hk : k < 12) (h : (inR r 0 3 && inR z 1 1000 && inR d 0 4 && inR s 0 1000) = true) : m_item M (nI k) r z d s = m_tell (mi (mi (mi (mi (mz M 0 0) 0 k r) 1 k z) 2 k d) 3 k s) k := by
  unfold m_item x_item; rw [in12_n hk, h, nI_cl hk]; simp
theorem m_item_1 {M : MS} {i r z d s : Int32} (h : in12 i = false) : m_item M i r z d s = mz M 0 1 := by
  unfold m_item x_item; rw [h]; simp
theorem m_item_2 {M : MS} {i r z d s : Int32} (h1 : in12 i = true) (h : (inR r 0 3 && inR z 1 1000 && inR d 0 4 && inR s 0 1000) = false) : m_item M i r z d s = mz M 0 2 := by
  unfold m_item x_item; rw [h1, h]; simp
theorem m_costs_0 {M : MS} {k : Nat} {r z d : Int32} (hk : k < 12) (h : (inR r 0 200 && inR z 0 100000 && inR d 0 100) = true) : m_costs M (nI k) r z d = m_tell (mi (mi (mi (mz M 0 0) 4 k r) 5 k z) 6 k d) k := by
  unfold m_costs x_costs; rw [in12_n hk, h, nI_cl hk]; simp
theorem m_costs_1 {M : MS} {i r z d : Int32} (h : in12 i = false) : m_costs M i r z d = mz M 0 1 := by
  unfold m_costs x_costs; rw [h]; simp
theorem m_costs_2 {M : MS} {i r z d : Int32} (h1 : in12 i = true) (h : (inR r 0 200 && inR z 0 100000 && inR d 0 100) = false) : m_costs M i r z d = mz M 0 2 := by
  unfold m_costs x_costs; rw [h1, h]; simp
theorem m_made_0 {M : MS} {k : Nat} {a b : Int32} (hk : k < 12) (h1 : inR a 0 2 = true) (h : inR b 0 9 = true) : m_made M (nI k) a b = mi (mi (mz M 0 0) 8 k a) 9 k b := by
  unfold m_made x_made; rw [in12_n hk, h, h1, nI_cl hk]; simp
theorem m_made_1 {M : MS} {i a b : Int32} (h : (in12 i && inR a 0 2) = false) : m_made M i a b = mz M 0 1 := by
  unfold m_made x_made; rw [h]; simp
theorem m_made_2 {M : MS} {i a b : Int32} (h1 : (in12 i && inR a 0 2) = true) (h : inR b 0 9 = false) : m_made M i a b = mz M 0 2 := by
  unfold m_made x_made; rw [h1, h]; simp
theorem m_stock_0 {M : MS} {k : Nat} {a : Int32} (hk : k < 12) (h : inR a 0 10000 = true) : m_stock M (nI k) a = m_tell (mi (mz M 0 0) 7 k a) k ∧ m_stockr M (nI k) a = mI M 7 k := by
  unfold m_stock m_stockr x_stock; rw [in12_n hk, h, nI_cl hk]; simp
theorem m_stock_1 {M : MS} {i a : Int32} (h : in12 i = false) : m_stock M i a = mz M 0 1 ∧ m_stockr M i a = 0 := by
  unfold m_stock m_stockr x_stock; rw [h]; simp
theorem m_stock_2 {M : MS} {i a : Int32} (h1 : in12 i = true) (h : inR a 0 10000 = false) : m_stock M i a = mz M 0 2 ∧ m_stockr M i a = 0 := by
  unfold m_stock m_stockr x_stock; rw [h1, h]; simp
def m_add (M : MS) (K : Nat) (i w n : Int32) : MS := mi (mi (mi (mi M 14 (24 * K + mCt M K) i) 15 (24 * K + mCt M K) w) 16 (24 * K + mCt M K) n) 13 K (nI (mCt M K + 1))
def x_add (M : MS) (K : Nat) (i w n : Int32) : Int32 := if (in12 i && in12 w) = false then 1 else if inR n 0 1000 = false then 2 else if mI M 13 K = 24 then 3 else 0
def m_addT (M : MS) (K : Nat) (i w n : Int32) : MS := if x_add M K i w n = 0 then m_add (m_tell (mz M 0 0) i.toNatClampNeg) K i w n else mz M 0 (x_add M K i w n)
def m_addTr (M : MS) (K : Nat) (i w n : Int32) : Int32 := if x_add M K i w n = 0 then mI M 13 K else 0
theorem m_addT_0 {M : MS} {K k : Nat} {w n : Int32} (hk : k < 12) (h0 : in12 w = true) (h1 : inR n 0 1000 = true) (h2 : ¬ mI M 13 K = 24) : m_addT M K (nI k) w n = m_add (m_tell (mz M 0 0) k) K (nI k) w n ∧ m_addTr M K (nI k) w n = mI M 13 K := by
  unfold m_addT m_addTr x_add; rw [in12_n hk, h0, h1, nI_cl hk]; simp [h2]
theorem m_addT_1 {M : MS} {K : Nat} {i w n : Int32} (h : (in12 i && in12 w) = false) : m_addT M K i w n = mz M 0 1 ∧ m_addTr M K i w n = 0 := by
  unfold m_addT m_addTr x_add; rw [h]; simp
theorem m_addT_2 {M : MS} {K : Nat} {i w n : Int32} (h : (in12 i && in12 w) = true) (h1 : inR n 0 1000 = false) : m_addT M K i w n = mz M 0 2 ∧ m_addTr M K i w n = 0 := by
  unfold m_addT m_addTr x_add; rw [h, h1]; simp
theorem m_addT_3 {M : MS} {K : Nat} {i w n : Int32} (h : (in12 i && in12 w) = true) (h1 : inR n 0 1000 = true) (h2 : mI M 13 K = 24) : m_addT M K i w n = mz M 0 3 ∧ m_addTr M K i w n = 0 := by
  unfold m_addT m_addTr x_add; rw [h, h1, h2]; simp
def x_change (M : MS) (kd nu n : Int32) : Int32 := if kd = 0 ∨ kd = 1 then (if inR nu 0 (mI M 13 kd.toNatClampNeg - 1) = false then 2 else if inR n 0 1000 = false then 1 else 0) else 1
def m_change (M : MS) (kd nu n : Int32) : MS := if x_change M kd nu n = 0 then m_tell (mi (mz M 0 0) 16 (24 * kd.toNatClampNeg + nu.toNatClampNeg) n) (mI M 14 (24 * kd.toNatClampNeg + nu.toNatClampNeg)).toNatClampNeg else mz M 0 (x_change M kd nu n)
def m_changer (M : MS) (kd nu n : Int32) : Int32 := if x_change M kd nu n = 0 then mI M 16 (24 * kd.toNatClampNeg + nu.toNatClampNeg) else 0
theorem m_change_0 {M : MS} {K u a : Nat} {n : Int32} (hK : K < 2) (hu : u < mCt M K) (hC : MC M) (h1 : inR n 0 1000 = true) (ha : a < 12) (ea : mI M 14 (24 * K + u) = nI a) : m_change M (nI K) (nI u) n = m_tell (mi (mz M 0 0) 16 (24 * K + u) n) a ∧ m_changer M (nI K) (nI u) n = mI M 16 (24 * K + u) := by
  have c24 := hC.c24 (K := K) (by omega)
  have e1 : (nI K).toNatClampNeg = K := nI_clamp (by omega)
  have e2 : (nI u).toNatClampNeg = u := nI_clamp (by omega)
  have e3 : nI K = 0 ∨ nI K = 1 := by
    rcases (show K = 0 ∨ K = 1 by omega) with e | e <;> subst e
    · exact Or.inl (by decide)
    · exact Or.inr (by decide)
  unfold m_change m_changer x_change
  rw [if_pos e3, e1, e2, hC.ct (by omega), inR_n hu (by omega), h1, ea, nI_cl ha]; simp
theorem m_change_1 {M : MS} {kd nu n : Int32} (h : ¬ (kd = 0 ∨ kd = 1)) : m_change M kd nu n = mz M 0 1 ∧ m_changer M kd nu n = 0 := by
  unfold m_change m_changer x_change; rw [if_neg h]; simp
theorem m_change_2 {M : MS} {K : Nat} {nu n : Int32} (hK : K < 2) (h : inR nu 0 (mI M 13 K - 1) = false) : m_change M (nI K) nu n = mz M 0 2 ∧ m_changer M (nI K) nu n = 0 := by
  have e1 : (nI K).toNatClampNeg = K := nI_clamp (by omega)
  have e3 : nI K = 0 ∨ nI K = 1 := by
    rcases (show K = 0 ∨ K = 1 by omega) with e | e <;> subst e
    · exact Or.inl (by decide)
    · exact Or.inr (by decide)
  unfold m_change m_changer x_change; rw [if_pos e3, e1, h]; simp
theorem m_change_3 {M : MS} {K : Nat} {nu n : Int32} (hK : K < 2) (h : inR nu 0 (mI M 13 K - 1) = true) (h1 : inR n 0 1000 = false) : m_change M (nI K) nu n = mz M 0 1 ∧ m_changer M (nI K) nu n = 0 := by
  have e1 : (nI K).toNatClampNeg = K := nI_clamp (by omega)
  have e3 : nI K = 0 ∨ nI K = 1 := by
    rcases (show K = 0 ∨ K = 1 by omega) with e | e <;> subst e
    · exact Or.inl (by decide)
    · exact Or.inr (by decide)
  unfold m_change m_changer x_change; rw [if_pos e3, e1, h, h1]; simp
/-- MC reads five rows of ints -/
theorem MC.of2 {M M' : MS} (h : MC M) (e1 : mI M' 13 = mI M 13) (e2 : mI M' 2 = mI M 2) (e3 : mI M' 1 = mI M 1) (e4 : mI M' 14 = mI M 14) (e5 : mI M' 15 = mI M 15) : MC M' := by
  have h1 : ∀ K, mCt M' K = mCt M K := fun K => by simp only [mCt, e1]
  have h2 : ∀ K, mLd M' K = mLd M K := fun K => by simp only [mLd, e2]
  have h3 : ∀ K, mSz M' K = mSz M K := fun K => by simp only [mSz, e3]
  unfold MC
  simp only [h1, h2, h3, e1, e2, e3, e4, e5]
  exact h
