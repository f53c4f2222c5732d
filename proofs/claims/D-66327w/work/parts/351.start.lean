/-! THE START: classes and arrays by their numbers, out of the words -/
theorem G0_K {s : State} {a0 : Array Value} (htb : ∀ w ∈ lw_tbl, w.before a0 s = true) : ∃ (D : va_G) (DA : Nat → ClassId), va_K D gcl (gty DA) s := by
  have hts : ∀ w ∈ lw_all, w.before a0 s = true := fun w h => htb w (List.mem_filter.mp h).1
  obtain ⟨c0, i0, k0⟩ := u_known (C := RX1) (T := TX1) (N := 10) hts in_X1 (hts _ q77)
  obtain ⟨c1, i1, k1⟩ := u_known (C := RJ2) (T := TJ2) (N := 3) hts in_J2 (hts _ q87)
  obtain ⟨c2, i2, k2⟩ := u_known (C := RX2) (T := TX2) (N := 1) hts in_X2 (hts _ q113)
  obtain ⟨c3, i3, k3⟩ := u_known (C := RX4) (T := tn0) (N := 0) hts (fun w h => by cases h) (hts _ q128)
  obtain ⟨c4, i4, k4⟩ := u_known (C := RX5) (T := tn0) (N := 0) hts (fun w h => by cases h) (hts _ q138)
  obtain ⟨c5, i5, k5⟩ := u_known (C := RX6) (T := tn0) (N := 0) hts (fun w h => by cases h) (hts _ q145)
  obtain ⟨c6, i6, k6⟩ := u_known (C := RX7) (T := TX7) (N := 2) hts in_X7 (hts _ q152)
  obtain ⟨c7, i7, k7⟩ := u_known (C := RX8) (T := TX8) (N := 1) hts in_X8 (hts _ q167)
  obtain ⟨c8, i8, k8⟩ := u_known (C := RX9) (T := TX9) (N := 19) hts in_X9 (hts _ q180)
  obtain ⟨c9, i9, k9⟩ := u_known (C := RX10) (T := TX10) (N := 1) hts in_X10 (hts _ q260)
  obtain ⟨c10, i10, k10⟩ := u_known (C := RX11) (T := TX11) (N := 27) hts in_X11 (hts _ q881)
  obtain ⟨c11, i11, k11⟩ := u_known (C := RX12) (T := TX12) (N := 5) hts in_X12 (hts _ q685)
  obtain ⟨c12, i12, k12⟩ := u_known (C := RX13) (T := TX13) (N := 3) hts in_X13 (hts _ q737)
  obtain ⟨a0, ka0, cm0, f0, g0, h0⟩ := Cond.arrayClass_spec (hts _ q164)
  obtain ⟨a1, ka1, cm1, f1, g1, h1⟩ := Cond.arrayClass_spec (hts _ q165)
  obtain ⟨a2, ka2, cm2, f2, g2, h2⟩ := Cond.arrayClass_spec (hts _ q968)
  obtain ⟨cm3, a3, ka3, e3, -, g3, h3, f3⟩ := Cond.arrayOver_spec (htb _ q85)
  obtain ⟨cm4, a4, ka4, e4, -, g4, h4, f4⟩ := Cond.arrayOver_spec (htb _ q179)
  obtain ⟨cm5, a5, ka5, e5, -, g5, h5, f5⟩ := Cond.arrayOver_spec (htb _ q126)
  obtain ⟨cm6, a6, ka6, e6, -, g6, h6, f6⟩ := Cond.arrayOver_spec (htb _ q368)
  refine ⟨(fun k => match k with | 0 => c0 | 1 => c1 | 2 => c2 | 3 => c3 | 4 => c4 | 5 => c5 | 6 => c6 | 7 => c7 | 8 => c8 | 9 => c9 | 10 => c10 | 11 => c11 | _ => c12, fun k => match k with | 0 => i0 | 1 => i1 | 2 => i2 | 3 => i3 | 4 => i4 | 5 => i5 | 6 => i6 | 7 => i7 | 8 => i8 | 9 => i9 | 10 => i10 | 11 => i11 | _ => i12), fun k => match k with | 0 => a0 | 1 => a1 | 2 => a2 | 3 => a3 | 4 => a4 | 5 => a5 | _ => a6, fun c q hq => ?_, fun k q hk => ?_⟩
  · match c, hq with
    | 0, hq => cases hq; exact k0
    | 1, hq => cases hq; exact k1
    | 2, hq => cases hq; exact k2
    | 3, hq => cases hq; exact k3
    | 4, hq => cases hq; exact k4
    | 5, hq => cases hq; exact k5
    | 6, hq => cases hq; exact k6
    | 7, hq => cases hq; exact k7
    | 8, hq => cases hq; exact k8
    | 9, hq => cases hq; exact k9
    | 10, hq => cases hq; exact k10
    | 11, hq => cases hq; exact k11
    | 12, hq => cases hq; exact k12
    | c + 13, hq => cases hq
  · match k, hk with
    | 0, hk => cases hk; exact ⟨fun n z => ⟨fun k h => (by cases h), ka0, g0, cm0, h0⟩, f0⟩
    | 1, hk => cases hk; exact ⟨fun n z => ⟨fun k h => (by cases h), ka1, g1, cm1, h1⟩, f1⟩
    | 2, hk => cases hk; exact ⟨fun n z => ⟨fun k h => (by cases h), ka2, g2, cm2, h2⟩, f2⟩
    | 3, hk => cases hk; exact ⟨fun n z => ⟨fun k h => (by cases h), ka3, g3, cm3, h3⟩, ka3, cm3, g3, h3, e3, f3⟩
    | 4, hk => cases hk; exact ⟨fun n z => ⟨fun k h => (by cases h), ka4, g4, cm4, h4⟩, ka4, cm4, g4, h4, e4, f4⟩
    | 5, hk => cases hk; exact ⟨fun n z => ⟨fun k h => (by cases h), ka5, g5, cm5, h5⟩, ka5, cm5, g5, h5, e5, f5⟩
    | 6, hk => cases hk; exact ⟨fun n z => ⟨fun k h => (by cases h), ka6, g6, cm6, h6⟩, ka6, cm6, g6, h6, e6, f6⟩
    | k + 7, hk => cases hk
