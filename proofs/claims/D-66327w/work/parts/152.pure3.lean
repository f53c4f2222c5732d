/-! PLAIN WORDS: pegs, levels, lines, replanning of the reference -/
theorem m_prr_0 {M : MS} {a b : Nat} {n : Int32} (ha : a < 12) (hb : b < 12) (h : x_prom M (nI a) n (nI b) = 0) : m_prr M (nI a) n (nI b) = m_pr M a n (12 - b) b := by
  unfold m_prr; rw [if_pos h, nI_cl ha, nI_cl hb]
theorem m_prr_x {M : MS} {i n w : Int32} (h : ¬ x_prom M i n w = 0) : m_prr M i n w = 0 := by
  unfold m_prr; rw [if_neg h]
theorem m_res_t {M : MS} {a b : Nat} {n : Int32} (ha : a < 12) (hb : b < 12) (h : x_res M (nI a) n (nI b) = 0) (ht : m_tr M a n b (12 - b) = true) : m_res M (nI a) n (nI b) = m_add (mz M 0 0) 2 (nI a) (nI b) n ∧ m_resr M (nI a) n (nI b) = nI (mCt M 2) := by
  unfold m_res m_resr; rw [if_pos h, if_pos h, nI_cl ha, nI_cl hb, if_pos ht, if_pos ht]; exact ⟨rfl, rfl⟩
theorem m_res_f {M : MS} {a b : Nat} {n : Int32} (ha : a < 12) (hb : b < 12) (h : x_res M (nI a) n (nI b) = 0) (ht : m_tr M a n b (12 - b) = false) : m_res M (nI a) n (nI b) = mz M 0 0 ∧ m_resr M (nI a) n (nI b) = -1 := by
  unfold m_res m_resr; rw [if_pos h, if_pos h, nI_cl ha, nI_cl hb, ht]; exact ⟨rfl, rfl⟩
theorem m_res_x {M : MS} {i n w x : Int32} (h : x_res M i n w = x) (hx : ¬ x = 0) : m_res M i n w = mz M 0 x ∧ m_resr M i n w = 0 := by
  unfold m_res m_resr; rw [h, if_neg hx, if_neg hx]; exact ⟨rfl, rfl⟩
/-- pegs -/
def m_numb (M : MS) (kd nu : Int32) : Bool := decide (kd = 0) || (if kd = 1 then inR nu 0 (mI M 13 1 - 1) else in12 nu)
def x_peg (M : MS) (d kd nu : Int32) : Int32 := if inR d 0 (mI M 13 0 - 1) = false then 1 else if inR kd 0 2 = false then 2 else if m_numb M kd nu = false then 1 else if mS M 20 = 0 then 0 else 3
theorem xg_1 {M : MS} {d kd nu : Int32} (h : inR d 0 (mI M 13 0 - 1) = false) : x_peg M d kd nu = 1 := by unfold x_peg; rw [h]; simp
theorem xg_2 {M : MS} {d kd nu : Int32} (h : inR d 0 (mI M 13 0 - 1) = true) (h2 : inR kd 0 2 = false) : x_peg M d kd nu = 2 := by unfold x_peg; rw [h, h2]; simp
theorem xg_3 {M : MS} {d kd nu : Int32} (h : inR d 0 (mI M 13 0 - 1) = true) (h2 : inR kd 0 2 = true) (h3 : m_numb M kd nu = false) : x_peg M d kd nu = 1 := by unfold x_peg; rw [h, h2, h3]; simp
theorem xg_4 {M : MS} {d kd nu : Int32} (h : inR d 0 (mI M 13 0 - 1) = true) (h2 : inR kd 0 2 = true) (h3 : m_numb M kd nu = true) (h4 : ¬ mS M 20 = 0) : x_peg M d kd nu = 3 := by unfold x_peg; rw [h, h2, h3]; simp [h4]
theorem xg_0 {M : MS} {d kd nu : Int32} (h : inR d 0 (mI M 13 0 - 1) = true) (h2 : inR kd 0 2 = true) (h3 : m_numb M kd nu = true) (h4 : mS M 20 = 0) : x_peg M d kd nu = 0 := by unfold x_peg; rw [h, h2, h3]; simp [h4]
theorem kd_2 {x : Int32} (h0 : ¬ x = 0) (h1 : ¬ x = 1) (h : inR x 0 2 = true) : x = 2 := by
  simp only [inR, Bool.and_eq_true, decide_eq_true_eq] at h
  obtain ⟨j, hj, e⟩ := nI_of2 (M := 2) (n := 2) (by decide) (Int32.not_lt.mpr h.1) h.2
  rcases (show j = 0 ∨ j = 1 ∨ j = 2 by omega) with q | q | q <;> subst q
  · exact absurd e h0
  · exact absurd e h1
  · exact e
def m_pb (M : MS) (u a : Nat) : Nat → Int64
  | 0 => if 0 < mI M 15 u then m_up (mL M 18) a (mI M 15 u).toNatClampNeg else 0
  | k + 1 => if mI M 14 k = nI a ∧ mI M 15 k = mI M 15 u then m_pb M u a k + (mI M 16 k).toInt64 else m_pb M u a k
def m_fi (M : MS) (a : Nat) (kd : Int32) (v : Nat) : Int64 := if kd = 0 then 0 else if kd = 1 then m_supr M a (mI M 15 (24 + v)).toNatClampNeg false v else m_supr M a v true v
def m_la (M : MS) (a : Nat) (kd : Int32) (v : Nat) : Int64 := if kd = 0 then (mI M 7 a).toInt64 else if kd = 1 then m_fi M a kd v + (mI M 16 (24 + v)).toInt64 else m_fi M a kd v + mL M 19 (12 * a + v)
def p_lo (bg fi : Int64) : Int64 := if fi < bg then bg else fi
def p_hi (en la : Int64) : Int64 := if en < la then en else la
def p_ov (bg en fi la : Int64) : Int64 := if p_lo bg fi < p_hi en la then p_hi en la - p_lo bg fi else 0
def m_pegv (M : MS) (u a : Nat) (kd : Int32) (v : Nat) : Int64 := if kd = 1 ∧ ¬ mI M 14 (24 + v) = nI a then 0 else p_ov (m_pb M u a u) (m_pb M u a u + (mI M 16 u).toInt64) (m_fi M a kd v) (m_la M a kd v)
def m_pegr (M : MS) (d kd nu : Int32) : Int64 := if x_peg M d kd nu = 0 then m_pegv M d.toNatClampNeg (mI M 14 d.toNatClampNeg).toNatClampNeg kd nu.toNatClampNeg else 0
theorem m_pegr_x {M : MS} {d kd nu x : Int32} (h : x_peg M d kd nu = x) (hx : ¬ x = 0) : m_pegr M d kd nu = 0 := by
  unfold m_pegr; rw [h, if_neg hx]
theorem m_pegr_0 {M : MS} {u a : Nat} {kd nu : Int32} (hu : u < 24) (ha : a < 12) (ea : mI M 14 u = nI a) (h : x_peg M (nI u) kd nu = 0) : m_pegr M (nI u) kd nu = m_pegv M u a kd nu.toNatClampNeg := by
  unfold m_pegr; rw [if_pos h, nI_clamp (by omega), ea, nI_cl ha]
/-- levels: who is above, of the first n lines; how far up ways lead -/
def m_nx (M : MS) (ab : Int32) : Nat → Int32
  | 0 => 0
  | n + 1 => if 0 < mI M 10 n ∧ (ab >>> (nI (n % 12) &&& 31)) &&& 1 = 1 then m_nx M ab n ||| ((1 : Int32) <<< (nI (n / 12) &&& 31)) else m_nx M ab n
def m_lv (M : MS) : Nat → Int32 → Int32
  | 0, _ => 99
  | f + 1, ab => if ab = 0 then nm (20 - f) else m_lv M f (m_nx M ab 144)
def m_lvl (M : MS) (i : Nat) : Int32 := m_lv M 21 ((1 : Int32) <<< (nI i &&& 31))
def m_snd (M : MS) : Nat → Bool
  | 0 => true
  | n + 1 => m_snd M n && decide (m_lvl M n ≤ 4)
theorem m_nx_c {M M' : MS} (h : mI M' 10 = mI M 10) (ab : Int32) (n : Nat) : m_nx M' ab n = m_nx M ab n := by
  induction n with
  | zero => rfl
  | succ n ih => simp only [m_nx, ih, h]
theorem m_lv_c {M M' : MS} (h : mI M' 10 = mI M 10) (f : Nat) : ∀ ab, m_lv M' f ab = m_lv M f ab := by
  induction f with
  | zero => intro ab; rfl
  | succ f ih => intro ab; simp only [m_lv, m_nx_c h, ih]
theorem m_lvl_c {M M' : MS} (h : mI M' 10 = mI M 10) (i : Nat) : m_lvl M' i = m_lvl M i := m_lv_c h _ _
theorem nm_ge {j d : Nat} (hj : j < 2 ^ 31) (hd : d < 2 ^ 31) : nI d ≤ nm j ↔ d < j := by
  rw [← Int32.not_lt, nm_lt hj hd]; omega
theorem nm_p1 (k : Nat) : nm k + 1 = nm (k + 1) := by
  cases k with
  | zero => decide
  | succ k => exact nI_1 k
def m_setL (M : MS) (ln : Nat) (n f t : Int32) : MS := mi (mi (mi (mz M 14 (mS M 14 + bZ (decide (0 < n)) - bZ (decide (0 < mI M 10 ln)))) 10 ln n) 11 ln f) 12 ln t
def x_wks (n f t : Int32) : Bool := decide (n = 0) || (in12 f && in12 t && decide (f ≤ t))
def x_line (pa ch n f t : Int32) : Int32 := if (in12 pa && in12 ch) = false then 1 else if (inR n 0 9 && x_wks n f t) = false then 2 else 0
def m_line1 (M : MS) (pa ch : Nat) (n f t : Int32) : MS :=
  if 0 < n ∧ mI M 10 (12 * pa + ch) = 0 ∧ mS M 14 = 24 then mz M 0 3 else
  if m_snd (m_setL (mz M 0 0) (12 * pa + ch) n f t) 12 = true then m_tell (m_setL (mz M 0 0) (12 * pa + ch) n f t) ch else
  mz (m_setL (m_setL (mz M 0 0) (12 * pa + ch) n f t) (12 * pa + ch) (mI M 10 (12 * pa + ch)) (mI M 11 (12 * pa + ch)) (mI M 12 (12 * pa + ch))) 0 3
def m_line (M : MS) (pa ch n f t : Int32) : MS := if x_line pa ch n f t = 0 then m_line1 M pa.toNatClampNeg ch.toNatClampNeg n f t else mz M 0 (x_line pa ch n f t)
theorem mz_mz (M : MS) (j : Nat) (v w : Int32) : mz (mz M j v) j w = mz M j w := by
  unfold mz
  refine Prod.ext rfl (Prod.ext rfl ?_)
  funext k
  simp only [mS, va_up]
  by_cases h : k = j <;> simp [h]
/-- replanning: item i at a level; the first i items of a level; the first levels -/
def m_rs (X : MS × Nat) (lev i : Nat) : MS × Nat := if m_lvl X.1 i = nI lev then (m_net X.1 i, if m_netb X.1 i = true then X.2 + 1 else X.2) else X
def m_r1 (X : MS × Nat) (lev : Nat) : Nat → MS × Nat
  | 0 => X
  | i + 1 => m_rs (m_r1 X lev i) lev i
def m_r2 (M : MS) : Nat → MS × Nat
  | 0 => (mz M 0 0, 0)
  | n + 1 => m_r1 (m_r2 M n) n 12
def m_rp (M : MS) : MS := mz (mz (m_r2 M 5).1 19 1) 20 0
def m_rpr (M : MS) : Int32 := nI (m_r2 M 5).2
theorem m_net_i (M : MS) (i j : Nat) (h : j ≠ 17) : mI (m_net M i) j = mI M j := by
  show up2 (mI M) 17 i 0 j = mI M j
  exact up2_m h
theorem m_net_MC {M : MS} (h : MC M) (i : Nat) : MC (m_net M i) := h.of2 (m_net_i M i 13 (by decide)) (m_net_i M i 2 (by decide)) (m_net_i M i 1 (by decide)) (m_net_i M i 14 (by decide)) (m_net_i M i 15 (by decide))
theorem m_rs_MC {X : MS × Nat} (h : MC X.1) (lev i : Nat) : MC (m_rs X lev i).1 := by
  unfold m_rs; split
  · exact m_net_MC h i
  · exact h
theorem m_r1_MC {X : MS × Nat} (h : MC X.1) (lev n : Nat) : MC (m_r1 X lev n).1 := by
  induction n with
  | zero => exact h
  | succ n ih => exact m_rs_MC ih lev n
theorem m_r2_MC {M : MS} (h : MC M) (n : Nat) : MC (m_r2 M n).1 := by
  induction n with
  | zero => exact h.of rfl
  | succ n ih => exact m_r1_MC ih n 12
theorem m_rs_t {X : MS × Nat} {lev i : Nat} (h : m_lvl X.1 i = nI lev) : m_rs X lev i = (m_net X.1 i, if m_netb X.1 i = true then X.2 + 1 else X.2) := if_pos h
theorem m_rs_f {X : MS × Nat} {lev i : Nat} (h : ¬ m_lvl X.1 i = nI lev) : m_rs X lev i = X := if_neg h
theorem m_sup_c {M M' : MS} (h : mI M' = mI M) (i b : Nat) (al : Bool) (u k : Nat) : m_sup M' i b al u k = m_sup M i b al u k := by
  induction k with
  | zero => simp only [m_sup, h]
  | succ k ih => simp only [m_sup, ih, h]
theorem m_supr_c {M M' : MS} (h : mI M' = mI M) (h1 : mL M' 19 = mL M 19) (i b : Nat) (al : Bool) (u : Nat) : m_supr M' i b al u = m_supr M i b al u := by
  simp only [m_supr, m_sup_c h, mCt, h, h1]
def x_lev (i : Int32) : Int32 := if in12 i = true then 0 else 1
def m_levr (M : MS) (i : Int32) : Int32 := if in12 i = true then m_lvl M i.toNatClampNeg else 0
theorem m_bal_c {M M' : MS} (h : mI M' = mI M) (h1 : mL M' 18 = mL M 18) (h2 : mL M' 19 = mL M 19) (i v : Nat) : m_bal M' i v = m_bal M i v := by
  simp only [m_bal, m_bare_c h h1, h2]
theorem m_sh_c {M M' : MS} (h : mI M' = mI M) (h1 : mL M' 18 = mL M 18) (h2 : mL M' 19 = mL M 19) (i n : Nat) : m_sh M' i n = m_sh M i n := by
  induction n with
  | zero => rfl
  | succ n ih => simp only [m_sh, ih, m_bal_c h h1 h2]
theorem m_shn_c {M M' : MS} (h : mI M' = mI M) (h1 : mL M' 18 = mL M 18) (h2 : mL M' 19 = mL M 19) (n : Nat) : m_shn M' n = m_shn M n := by
  induction n with
  | zero => rfl
  | succ n ih => simp only [m_shn, ih, m_sh_c h h1 h2]
