/-! PLAIN WORDS: what the reference answers -/
def x_wrong (M : MS) (i w : Int32) : Int32 := if (in12 i && in12 w) = false then 1 else if mS M 20 = 0 then 0 else 2
theorem xw_1 {M : MS} {i w : Int32} (h : (in12 i && in12 w) = false) : x_wrong M i w = 1 := by unfold x_wrong; rw [h]; simp
theorem xw_2 {M : MS} {i w : Int32} (h : (in12 i && in12 w) = true) (h1 : ¬ mS M 20 = 0) : x_wrong M i w = 2 := by unfold x_wrong; rw [h]; simp [h1]
theorem xw_0 {M : MS} {i w : Int32} (h : (in12 i && in12 w) = true) (h1 : mS M 20 = 0) : x_wrong M i w = 0 := by unfold x_wrong; rw [h]; simp [h1]
theorem xw_ok {M : MS} {i w : Int32} (h : bZ (decide (0 < x_wrong M i w)) = 0) : (∃ a, a < 12 ∧ i = nI a) ∧ (∃ b, b < 12 ∧ w = nI b) ∧ x_wrong M i w = 0 := by
  cases h1 : in12 i with
  | false => rw [xw_1 (by rw [h1]; rfl)] at h; exact absurd h (by decide)
  | true =>
    cases h2 : in12 w with
    | false => rw [xw_1 (by rw [h2, Bool.and_false])] at h; exact absurd h (by decide)
    | true =>
      by_cases h3 : mS M 20 = 0
      · exact ⟨in12_t h1, in12_t h2, xw_0 (by rw [h1, h2]; rfl) h3⟩
      · rw [xw_2 (by rw [h1, h2]; rfl) h3] at h; exact absurd h (by decide)
theorem xw_bad {M : MS} {i w : Int32} (h : ¬ bZ (decide (0 < x_wrong M i w)) = 0) : ¬ x_wrong M i w = 0 := fun q => h (by rw [q]; decide)
def m_rd (M : MS) (r : Nat) (i w : Int32) : Int64 := if x_wrong M i w = 0 then mL M r (12 * i.toNatClampNeg + w.toNatClampNeg) else 0
def m_bal (M : MS) (a b : Nat) : Int64 := m_bare M a b + m_up (mL M 19) a (b + 1)
def m_balr (M : MS) (i w : Int32) : Int64 := if x_wrong M i w = 0 then m_bal M i.toNatClampNeg w.toNatClampNeg else 0
def x_gb (M : MS) (r : Int32) : Int32 := if inR r 0 (mI M 13 2 - 1) = true then 0 else 1
def m_gb (M : MS) (r : Int32) : MS := if x_gb M r = 0 then mi (mz M 0 0) 16 (48 + r.toNatClampNeg) 0 else mz M 0 1
def m_gbr (M : MS) (r : Int32) : Int32 := if x_gb M r = 0 then mI M 16 (48 + r.toNatClampNeg) else 0
theorem m_gb_0 {M : MS} {u : Nat} (hC : MC M) (hu : u < mCt M 2) : m_gb M (nI u) = mi (mz M 0 0) 16 (48 + u) 0 ∧ m_gbr M (nI u) = mI M 16 (48 + u) := by
  have h2 := hC.c24 (K := 2) (by decide)
  have e : x_gb M (nI u) = 0 := by unfold x_gb; rw [hC.ct (by decide), inR_n hu (by omega)]; rfl
  unfold m_gb m_gbr
  rw [e, nI_clamp (by omega)]; simp
theorem m_gb_1 {M : MS} {r : Int32} (h : inR r 0 (mI M 13 2 - 1) = false) : m_gb M r = mz M 0 1 ∧ m_gbr M r = 0 := by
  have e : x_gb M r = 1 := by unfold x_gb; rw [h]; rfl
  unfold m_gb m_gbr
  rw [e]; simp
def m_free (M : MS) (i v : Nat) : Int64 := m_bare M i v + m_up (mL M 19) i (v + 1) - m_sum M 2 (nI i) (nI v) (mCt M 2)
def m_tr (M : MS) (i : Nat) (n : Int32) (wk : Nat) : Nat → Bool
  | 0 => true
  | k + 1 => m_tr M i n wk k && decide (n.toInt64 ≤ m_free M i (wk + k))
def m_ld (M : MS) (ce : Int32) (wk : Nat) : Nat → Int64
  | 0 => 0
  | k + 1 => if mI M 8 k = ce ∧ wk + mLd M k < 12 then m_ld M ce wk k + (mI M 9 k).toInt64 * mL M 19 (12 * k + (wk + mLd M k)) else m_ld M ce wk k
def x_load (M : MS) (ce w : Int32) : Int32 := if (inR ce 0 2 && in12 w) = false then 1 else if mS M 20 = 0 then 0 else 2
def m_ldr (M : MS) (ce w : Int32) : Int64 := if x_load M ce w = 0 then m_ld M ce w.toNatClampNeg 12 else 0
theorem xl_1 {M : MS} {i w : Int32} (h : (inR i 0 2 && in12 w) = false) : x_load M i w = 1 := by unfold x_load; rw [h]; simp
theorem xl_2 {M : MS} {i w : Int32} (h : (inR i 0 2 && in12 w) = true) (h1 : ¬ mS M 20 = 0) : x_load M i w = 2 := by unfold x_load; rw [h]; simp [h1]
theorem xl_0 {M : MS} {i w : Int32} (h : (inR i 0 2 && in12 w) = true) (h1 : mS M 20 = 0) : x_load M i w = 0 := by unfold x_load; rw [h]; simp [h1]
/-- whether an item lacks in the first n weeks; how many of the first n do -/
def m_sh (M : MS) (i : Nat) : Nat → Bool
  | 0 => false
  | n + 1 => m_sh M i n || decide (m_bal M i n < 0)
def m_shn (M : MS) : Nat → Nat
  | 0 => 0
  | n + 1 => if m_sh M n 12 = true then m_shn M n + 1 else m_shn M n
theorem m_shn_le (M : MS) (n : Nat) : m_shn M n ≤ n := by
  induction n with
  | zero => simp [m_shn]
  | succ n ih => unfold m_shn; split <;> omega
def m_pr (M : MS) (i : Nat) (n : Int32) : Nat → Nat → Int32
  | 0, _ => -1
  | k + 1, w => if m_tr M i n w (12 - w) = true then nI w else m_pr M i n k (w + 1)
def x_prom (M : MS) (i n w : Int32) : Int32 := if (in12 i && in12 w) = false then 1 else if inR n 1 1000 = false then 2 else if mS M 20 = 0 then 0 else 3
theorem xp_1 {M : MS} {i n w : Int32} (h : (in12 i && in12 w) = false) : x_prom M i n w = 1 := by unfold x_prom; rw [h]; simp
theorem xp_2 {M : MS} {i n w : Int32} (h : (in12 i && in12 w) = true) (h1 : inR n 1 1000 = false) : x_prom M i n w = 2 := by unfold x_prom; rw [h, h1]; simp
theorem xp_3 {M : MS} {i n w : Int32} (h : (in12 i && in12 w) = true) (h1 : inR n 1 1000 = true) (h2 : ¬ mS M 20 = 0) : x_prom M i n w = 3 := by unfold x_prom; rw [h, h1]; simp [h2]
theorem xp_0 {M : MS} {i n w : Int32} (h : (in12 i && in12 w) = true) (h1 : inR n 1 1000 = true) (h2 : mS M 20 = 0) : x_prom M i n w = 0 := by unfold x_prom; rw [h, h1]; simp [h2]
def m_prr (M : MS) (i n w : Int32) : Int32 := if x_prom M i n w = 0 then m_pr M i.toNatClampNeg n (12 - w.toNatClampNeg) w.toNatClampNeg else 0
def x_res (M : MS) (i n w : Int32) : Int32 := if (in12 i && in12 w) = false then 1 else if inR n 1 1000 = false then 2 else if mS M 20 = 0 ∧ ¬ mI M 13 2 = 24 then 0 else 3
theorem xr_1 {M : MS} {i n w : Int32} (h : (in12 i && in12 w) = false) : x_res M i n w = 1 := by unfold x_res; rw [h]; simp
theorem xr_2 {M : MS} {i n w : Int32} (h : (in12 i && in12 w) = true) (h1 : inR n 1 1000 = false) : x_res M i n w = 2 := by unfold x_res; rw [h, h1]; simp
theorem xr_3 {M : MS} {i n w : Int32} (h : (in12 i && in12 w) = true) (h1 : inR n 1 1000 = true) (h2 : ¬ (mS M 20 = 0 ∧ ¬ mI M 13 2 = 24)) : x_res M i n w = 3 := by unfold x_res; rw [h, h1, if_neg h2]; simp
theorem xr_0 {M : MS} {i n w : Int32} (h : (in12 i && in12 w) = true) (h1 : inR n 1 1000 = true) (h2 : mS M 20 = 0 ∧ ¬ mI M 13 2 = 24) : x_res M i n w = 0 := by unfold x_res; rw [h, h1, if_pos h2]; simp
def m_res (M : MS) (i n w : Int32) : MS := if x_res M i n w = 0 then (if m_tr M i.toNatClampNeg n w.toNatClampNeg (12 - w.toNatClampNeg) = true then m_add (mz M 0 0) 2 i w n else mz M 0 0) else mz M 0 (x_res M i n w)
def m_resr (M : MS) (i n w : Int32) : Int32 := if x_res M i n w = 0 then (if m_tr M i.toNatClampNeg n w.toNatClampNeg (12 - w.toNatClampNeg) = true then nI (mCt M 2) else -1) else 0
/-- supplies ahead of an order or a planned receipt: week b, all of that week's orders or the first u -/
def m_sup (M : MS) (i b : Nat) (al : Bool) (u : Nat) : Nat → Int64
  | 0 => (mI M 7 i).toInt64
  | k + 1 => if mI M 14 (24 + k) = nI i ∧ (mI M 15 (24 + k) < nI b ∨ (mI M 15 (24 + k) = nI b ∧ (al = true ∨ k < u))) then m_sup M i b al u k + (mI M 16 (24 + k)).toInt64 else m_sup M i b al u k
def m_supr (M : MS) (i b : Nat) (al : Bool) (u : Nat) : Int64 := m_sup M i b al u (mCt M 1) + (if 0 < b then m_up (mL M 19) i b else 0)
def x_count (M : MS) (k : Int32) : Int32 := if k = 4 ∧ ¬ mS M 20 = 0 then 1 else 0
def m_cnt (M : MS) (k : Int32) : Int32 := if x_count M k = 1 then 0 else if k = 0 then mS M 14 else if k = 1 then mI M 13 0 else if k = 2 then mI M 13 1 else if k = 3 then mI M 13 2 else if k = 4 then nI (m_shn M 12) else if k = 5 then (if mS M 20 = 0 then 0 else 1) else -1
theorem tab6 {x : Int32} (h0 : ¬ x = 0) (h1 : ¬ x = 1) (h2 : ¬ x = 2) (h3 : ¬ x = 3) (h4 : ¬ x = 4) (h5 : ¬ x = 5) : x.toInt < 0 ∨ 5 < x.toInt := by
  have a0 : x.toInt ≠ 0 := fun q => h0 (Int32.toInt_inj.mp (by rw [q]; decide))
  have a1 : x.toInt ≠ 1 := fun q => h1 (Int32.toInt_inj.mp (by rw [q]; decide))
  have a2 : x.toInt ≠ 2 := fun q => h2 (Int32.toInt_inj.mp (by rw [q]; decide))
  have a3 : x.toInt ≠ 3 := fun q => h3 (Int32.toInt_inj.mp (by rw [q]; decide))
  have a4 : x.toInt ≠ 4 := fun q => h4 (Int32.toInt_inj.mp (by rw [q]; decide))
  have a5 : x.toInt ≠ 5 := fun q => h5 (Int32.toInt_inj.mp (by rw [q]; decide))
  omega
theorem m_free_c {M M' : MS} (h : mI M' = mI M) (h1 : mL M' 18 = mL M 18) (h2 : mL M' 19 = mL M 19) (i v : Nat) : m_free M' i v = m_free M i v := by
  simp only [m_free, m_bare_c h h1, m_sum_c h, mCt, h, h2]
theorem m_tr_c {M M' : MS} (h : mI M' = mI M) (h1 : mL M' 18 = mL M 18) (h2 : mL M' 19 = mL M 19) (i : Nat) (n : Int32) (wk k : Nat) : m_tr M' i n wk k = m_tr M i n wk k := by
  induction k with
  | zero => rfl
  | succ k ih => unfold m_tr; rw [ih, m_free_c h h1 h2]
