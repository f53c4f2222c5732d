/-! PEGS, PROMISES, LOADS: what the class's questions compute -/
def c_sp (C : CS) (k : Nat) : Nat → Int64
  | 0 => (kI C 8 k).toInt64
  | n + 1 => c_sp C k n + (c_sum C 2 (nI k) (nI n) (kN C 2) + kA C 3 k n)
def c_cb (C : CS) (k : Nat) : Nat → Int64
  | 0 => 0
  | n + 1 => c_cb C k n + kA C 0 k n
def l_mx (a b : Int64) : Int64 := if b < a then a else b
def l_mn (a b : Int64) : Int64 := if b < a then b else a
def c_ov (a m b n : Int64) : Int64 := l_mx 0 (l_mn (a + m) (b + n) - l_mx a b)
def c_fr (C : CS) (k : Nat) : Nat → Int64
  | 0 => (kI C 8 k).toInt64
  | n + 1 => c_fr C k n + (c_sum C 2 (nI k) (nI n) (kN C 2) + kA C 3 k n - kA C 0 k n - c_sum C 3 (nI k) (nI n) (kN C 3))
def c_tr (C : CS) (k : Nat) (n : Int32) (wk : Nat) : Nat → Bool
  | 0 => true
  | v + 1 => c_tr C k n wk v && (decide (v < wk) || decide (n.toInt64 ≤ c_fr C k (v + 1)))
def c_pm (C : CS) (k : Nat) (n : Int32) : Nat → Nat → Int32
  | 0, _ => -1
  | f + 1, w => if c_tr C k n w 12 = true then nI w else c_pm C k n f (w + 1)
def c_ld (C : CS) (ce : Int32) (wk : Nat) : Nat → Int64
  | 0 => 0
  | i + 1 => c_ld C ce wk i + (if kI C 9 i = ce ∧ wk + cLd C i < 12 then (kI C 10 i).toInt64 * kA C 3 i (wk + cLd C i) else 0)
def c_shn (C : CS) : Nat → Nat
  | 0 => 0
  | n + 1 => if c_sh (kA C 4 n) 12 = true then c_shn C n + 1 else c_shn C n
theorem c_shn_le (C : CS) (n : Nat) : c_shn C n ≤ n := by
  induction n with
  | zero => simp [c_shn]
  | succ n ih => unfold c_shn; split <;> omega
def c_pf (C : CS) (a b u : Nat) : Int64 := c_cb C a b + c_sumB C 1 u u
