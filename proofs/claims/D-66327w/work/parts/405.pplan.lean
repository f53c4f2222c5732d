/-! PLAIN LAW: plans -/
/-- needs alike up to the last week -/
def N12 (f g : Nat → Int64) : Prop := ∀ i, i ≤ 12 → f i = g i
theorem lst_c {f g : Nat → Int64} {n : Nat} (h : ∀ i, i < n → f i = g i) : p_lst f n = p_lst g n := by
  induction n with
  | zero => rfl
  | succ n ih =>
    have e := ih (fun i hi => h i (by omega))
    have hl : p_lst g n ≤ n := p_lst_le g n
    rw [p_lst, p_lst, e, h n (by omega), h (p_lst g n) (by omega)]
theorem cs_c {nd nd' : Nat → Int64} (h : N12 nd nd') (w : Nat) {n : Nat} (hn : w + n ≤ 11) : p_cs nd w n = p_cs nd' w n := by
  induction n with
  | zero => rfl
  | succ n ih => rw [p_cs, p_cs, ih (by omega), h (w + n + 1 + 1) (by omega), h (w + n + 1) (by omega)]
theorem f_c {su ho : Int64} {nd nd' b b' : Nat → Int64} (h : N12 nd nd') {w i : Nat} (hw : w + i ≤ 11) (hb : b (w + i + 1) = b' (w + i + 1)) : p_f su ho nd b w i = p_f su ho nd' b' w i := by
  unfold p_f p_cost
  rw [cs_c h w hw, hb]
theorem last_c {su ho : Int64} {nd nd' b b' : Nat → Int64} (h : N12 nd nd') {w : Nat} (hb : ∀ j, w < j → j ≤ 12 → b j = b' j) : p_lst (p_f su ho nd b w) (12 - w) = p_lst (p_f su ho nd' b' w) (12 - w) :=
  lst_c (fun i hi => f_c h (by omega) (hb _ (by omega) (by omega)))
theorem bv_c {su ho : Int64} {nd nd' b b' : Nat → Int64} (h : N12 nd nd') {w : Nat} (hw : w ≤ 11) (hb : ∀ j, w < j → j ≤ 12 → b j = b' j) : p_bv su ho nd b w = p_bv su ho nd' b' w := by
  unfold p_bv
  have hl := p_lst_lt (p_f su ho nd' b' w) (12 - w) (by omega)
  rw [last_c h hb, h (w + 1) (by omega), h w (by omega), hb (w + 1) (by omega) (by omega), f_c (b := b) (b' := b') h (by omega) (hb _ (by omega) (by omega))]
theorem bs_c {su ho : Int64} {nd nd' b0 b1 : Nat → Int64} (h : N12 nd nd') : ∀ n, n ≤ 12 → ∀ j, 12 - n ≤ j → j ≤ 12 → p_bs su ho nd b0 n j = p_bs su ho nd' b1 n j := by
  intro n
  induction n with
  | zero =>
    intro _ j h1 h2
    have : j = 12 := by omega
    subst this
    rw [p_bs, p_bs, va_up_self, va_up_self]
  | succ n ih =>
    intro hn j h1 h2
    rw [p_bs, p_bs]
    by_cases e : j = 11 - n
    · subst e
      rw [va_up_self, va_up_self]
      exact bv_c h (by omega) (fun j q1 q2 => ih (by omega) j (by omega) q2)
    · rw [va_up_ne _ _ e, va_up_ne _ _ e]
      exact ih (by omega) j (by omega) h2
theorem bs_st (su ho : Int64) (nd b0 : Nat → Int64) (n : Nat) : ∀ d, n + d ≤ 12 → ∀ j, 12 - n ≤ j → p_bs su ho nd b0 (n + d) j = p_bs su ho nd b0 n j := by
  intro d
  induction d with
  | zero => intro _ j _; rfl
  | succ d ih =>
    intro hd j hj
    rw [show n + (d + 1) = n + d + 1 by omega, p_bs, va_up_ne _ _ (by omega)]
    exact ih (by omega) j hj
theorem lot_c {ru z : Int32} {su ho : Int64} {nd nd' b b' : Nat → Int64} (h : N12 nd nd') {w : Nat} (hw : w < 12) (hb : ∀ j, w < j → j ≤ 12 → b j = b' j) (g : Int64) : p_lot ru z su ho nd b w g = p_lot ru z su ho nd' b' w g := by
  unfold p_lot p_last
  have hl := p_lst_lt (p_f su ho nd' b' w) (12 - w) (by omega)
  rw [last_c h hb, h (w + 1) (by omega), h ((if w + z.toNatClampNeg - 1 < 12 then w + z.toNatClampNeg - 1 else 11) + 1) (by split <;> omega), h (w + p_lst (p_f su ho nd' b' w) (12 - w) + 1) (by omega)]
theorem pq_c {ru z : Int32} {ld : Nat} {su ho : Int64} {nd nd' b b' : Nat → Int64} (h : N12 nd nd') {w : Nat} (hw : w < 12) (hb : ∀ j, ld < j → j ≤ 12 → b j = b' j) (g : Int64) : p_q ru z ld su ho nd b w g = p_q ru z ld su ho nd' b' w g := by
  unfold p_q
  rw [h (w + 1) (by omega)]
  by_cases e : ld ≤ w ∧ g < nd' (w + 1)
  · rw [if_pos e, if_pos e]; exact lot_c h hw (fun j q1 q2 => hb j (by omega) q2) g
  · rw [if_neg e, if_neg e]
theorem got_c {ru z : Int32} {ld : Nat} {su ho : Int64} {nd nd' b b' : Nat → Int64} (h : N12 nd nd') (hb : ∀ j, ld < j → j ≤ 12 → b j = b' j) {n : Nat} (hn : n ≤ 12) : p_got ru z ld su ho nd b n = p_got ru z ld su ho nd' b' n := by
  induction n with
  | zero => rfl
  | succ n ih => rw [p_got, p_got, ih (by omega), pq_c h (by omega) hb]
theorem mo_c {f g : Nat → Int64} {n : Nat} (h : ∀ i, i < n → f i = g i) : p_mo f n = p_mo g n := by
  induction n with
  | zero => rfl
  | succ n ih => rw [p_mo, p_mo, ih (fun i hi => h i (by omega)), h n (by omega)]
theorem nd_c {f g : Nat → Int64} (h : ∀ i, i < 12 → f i = g i) (ld : Nat) : N12 (p_nd f ld) (p_nd g ld) := by
  intro i hi
  cases i with
  | zero => rfl
  | succ i => rw [p_nd, p_nd, mo_c (fun j hj => h j (by omega))]
/-- needs don't fall -/
theorem mo_0 (f : Nat → Int64) (n : Nat) : 0 ≤ p_mo f n := by
  induction n with
  | zero => exact Int64.le_refl _
  | succ n ih =>
    rw [p_mo]
    split
    · rename_i h; exact Int64.le_trans ih (Int64.le_of_lt h)
    · exact ih
theorem mo_mon (f : Nat → Int64) (n : Nat) : p_mo f n ≤ p_mo f (n + 1) := by
  conv => rhs; rw [p_mo]
  split
  · rename_i h; exact Int64.le_of_lt h
  · exact Int64.le_refl _
theorem nd_0 (f : Nat → Int64) {ld i : Nat} (h : i ≤ ld) : p_nd f ld i = 0 := by
  cases i with
  | zero => rfl
  | succ i => rw [p_nd, if_pos (by omega)]
theorem nd_s (f : Nat → Int64) (ld i : Nat) : p_nd f ld i ≤ p_nd f ld (i + 1) := by
  rw [p_nd]
  split
  · rw [nd_0 f (by omega)]; exact Int64.le_refl _
  · cases i with
    | zero => exact mo_0 f 1
    | succ i =>
      rw [p_nd]
      split
      · exact mo_0 f _
      · exact mo_mon f _
theorem nd_mono (f : Nat → Int64) (ld i : Nat) : ∀ d, p_nd f ld i ≤ p_nd f ld (i + d) := by
  intro d
  induction d with
  | zero => exact Int64.le_refl _
  | succ d ih => exact Int64.le_trans ih (nd_s f ld (i + d))
/-- what is got by rule 3 is no less than the need -/
theorem got_ge (z : Int32) (ld : Nat) (su ho : Int64) (f b : Nat → Int64) {ru : Int32} (h3 : ¬ ru = 0 ∧ ¬ ru = 1 ∧ ¬ ru = 2) (n : Nat) : p_nd f ld n ≤ p_got ru z ld su ho (p_nd f ld) b n := by
  induction n with
  | zero => exact Int64.le_refl _
  | succ n ih =>
    rw [p_got]
    unfold p_q
    by_cases e : ld ≤ n ∧ p_got ru z ld su ho (p_nd f ld) b n < p_nd f ld (n + 1)
    · rw [if_pos e]
      unfold p_lot
      rw [if_neg h3.1, if_neg h3.2.1, if_neg h3.2.2]
      have hm := nd_mono f ld (n + 1) (p_lst (p_f su ho (p_nd f ld) b n) (12 - n))
      unfold p_last
      rw [show n + p_lst (p_f su ho (p_nd f ld) b n) (12 - n) + 1 = n + 1 + p_lst (p_f su ho (p_nd f ld) b n) (12 - n) by omega]
      generalize p_got ru z ld su ho (p_nd f ld) b n = g
      generalize p_nd f ld (n + 1 + p_lst (p_f su ho (p_nd f ld) b n) (12 - n)) = x at hm ⊢
      rw [show g + (x - g) = x by grind]
      exact hm
    · rw [if_neg e]
      generalize hg : p_got ru z ld su ho (p_nd f ld) b n = g at ih e ⊢
      rw [show g + 0 = g by grind]
      by_cases hl : ld ≤ n
      · exact Int64.not_lt.mp (fun q => e ⟨hl, q⟩)
      · rw [nd_0 f (by omega)] at ih ⊢; exact ih
/-- the class's lots are the reference's -/
theorem cq_eq {r : Nat} (hr : r ≤ 3) {z : Int32} {ld : Nat} {su ho : Int64} {f b : Nat → Int64} {lst : Nat → Nat} (hl : r = 3 → ∀ w, ld ≤ w → w < 12 → lst w = if p_nd f ld (w + 1) = p_nd f ld w then w else p_last su ho (p_nd f ld) b w) {w : Nat} (hw : w < 12) : c_q r z ld (p_nd f ld) lst w (p_got (nI r) z ld su ho (p_nd f ld) b w) = p_q (nI r) z ld su ho (p_nd f ld) b w (p_got (nI r) z ld su ho (p_nd f ld) b w) := by
  unfold c_q p_q
  by_cases e : ld ≤ w ∧ p_got (nI r) z ld su ho (p_nd f ld) b w < p_nd f ld (w + 1)
  · rw [if_pos e, if_pos e]
    unfold c_lot p_lot
    rcases (show r = 0 ∨ r = 1 ∨ r = 2 ∨ r = 3 by omega) with q | q | q | q
    · subst q
      rw [if_pos (show (0 : Nat) = 0 from rfl), if_pos (show nI 0 = 0 by decide)]
    · subst q
      rw [if_neg (show ¬ (1 : Nat) = 0 by decide), if_pos (show (1 : Nat) = 1 from rfl), if_neg (show ¬ nI 1 = 0 by decide), if_pos (show nI 1 = 1 by decide)]
    · subst q
      rw [if_neg (show ¬ (2 : Nat) = 0 by decide), if_neg (show ¬ (2 : Nat) = 1 by decide), if_pos (show (2 : Nat) = 2 from rfl), if_neg (show ¬ nI 2 = 0 by decide), if_neg (show ¬ nI 2 = 1 by decide), if_pos (show nI 2 = 2 by decide)]
      have q : (if w + z.toNatClampNeg - 1 < 11 then w + z.toNatClampNeg - 1 else 11) = if w + z.toNatClampNeg - 1 < 12 then w + z.toNatClampNeg - 1 else 11 := by split <;> split <;> omega
      rw [q]
    · subst q
      rw [if_neg (show ¬ (3 : Nat) = 0 by decide), if_neg (show ¬ (3 : Nat) = 1 by decide), if_neg (show ¬ (3 : Nat) = 2 by decide), if_neg (show ¬ nI 3 = 0 by decide), if_neg (show ¬ nI 3 = 1 by decide), if_neg (show ¬ nI 3 = 2 by decide)]
      rw [hl rfl w e.1 hw, if_neg]
      intro q
      have h1 := got_ge z ld su ho f b (ru := nI 3) (by decide) w
      rw [← q] at h1
      exact absurd e.2 (Int64.not_lt.mpr h1)
  · rw [if_neg e, if_neg e]
theorem cgot_eq {r : Nat} (hr : r ≤ 3) {z : Int32} {ld : Nat} {su ho : Int64} {f b : Nat → Int64} {lst : Nat → Nat} (hl : r = 3 → ∀ w, ld ≤ w → w < 12 → lst w = if p_nd f ld (w + 1) = p_nd f ld w then w else p_last su ho (p_nd f ld) b w) {n : Nat} (hn : n ≤ 12) : c_got r z ld (p_nd f ld) lst n = p_got (nI r) z ld su ho (p_nd f ld) b n := by
  induction n with
  | zero => rfl
  | succ n ih => rw [c_got, p_got, ih (by omega), cq_eq hr hl (by omega)]
