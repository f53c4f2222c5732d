/-! THE START: all that is given of it -/
set_option maxRecDepth 100000 in
theorem G0_ex {l : Launch} (hst : l.stackTraces = false) {s : State} {a0 : Array Value} (htb : ∀ w ∈ lw_tbl, w.before a0 s = true) (hN : (Jvm.Cond.and given_1 narrow_1).before a0 s = true) : ∃ (D : va_G) (DA : Nat → ClassId) (z0 : Nat), G0 l s D DA z0 ∧ z0 < s.heap.size := by
  obtain ⟨D, DA, hK⟩ := G0_K htb
  have hP := ga_1 (ga_1 (ga_1 (ga_2 hN)))
  have harr : (Cond.arrayOf (.static "java/util/ArrayList" "DEFAULTCAPACITY_EMPTY_ELEMENTDATA" "[Ljava/lang/Object;") (.object "java/lang/Object")).before a0 s = true := ga_1 (ga_2 hP)
  have hex : (Cond.exactly (.static "java/util/ArrayList" "DEFAULTCAPACITY_EMPTY_ELEMENTDATA" "[Ljava/lang/Object;") "[Ljava/lang/Object;").before a0 s = true := ga_1 (ga_2 (ga_2 hP))
  have hlen : (Cond.eq (.length (.static "java/util/ArrayList" "DEFAULTCAPACITY_EMPTY_ELEMENTDATA" "[Ljava/lang/Object;")) (.int 0)).before a0 s = true := ga_2 (ga_2 (ga_2 hP))
  obtain ⟨z, c1, cz, k1, hev, -, hcz, -, -, -, -⟩ := Cond.exactly_spec hex
  obtain ⟨c, k, i, f, a, cell, hc, hi, hs, ha, hcell, hiss, -, -, -⟩ := Cond.laysStatic_spec (htb _ q99)
  obtain ⟨-, a', cell', ha', hcell', hun, hslot⟩ := Term.static_spec hi hev
  obtain ⟨h1, h2⟩ := Cond.arrayOf_spec harr hev hcz
  have hkc : s.vm.classes[c]? = some k := by
    have := State.fieldFound?_spec hi
    first | exact this.2.1 | exact this.1 | exact this.2.2.1 | (obtain ⟨_, _, h⟩ := this; exact h.1)
  have hini : k.init = .initialized := Cond.initialized_spec hc hkc (htb _ (List.mem_filter.mp q50).1)
  have hsz : cz.slots.size = 0 := by
    have hl2 : (Term.length (.static "java/util/ArrayList" "DEFAULTCAPACITY_EMPTY_ELEMENTDATA" "[Ljava/lang/Object;")).eval a0 s none [] s = (do let n := (← s.arrayAt? z).slots.size; if n < 2 ^ 31 then pure (.int n.toInt32) else none) := by
      rw [Term.eval, hev]; rfl
    cases hat : s.arrayAt? z with
    | none => rw [hat] at hl2; simp [Cond.before, Cond.holds, Cond.value, hl2] at hlen
    | some y =>
      have hy := (State.arrayAt?_spec hat).1
      rw [hcz] at hy
      cases hy
      rw [hat] at hl2
      by_cases hb : cz.slots.size < 2 ^ 31
      · have hl3 : (Term.length (.static "java/util/ArrayList" "DEFAULTCAPACITY_EMPTY_ELEMENTDATA" "[Ljava/lang/Object;")).eval a0 s none [] s = some (.int cz.slots.size.toInt32) := by
          rw [hl2]; simp [hb]
        have hq : nI cz.slots.size = 0 := by
          have hv := Cond.eq_ints hl3 (show (Term.int 0).eval a0 s none [] s = some (.int 0) from rfl)
          have h9 : (Cond.eq (.length (.static "java/util/ArrayList" "DEFAULTCAPACITY_EMPTY_ELEMENTDATA" "[Ljava/lang/Object;")) (.int 0)).holds a0 s none s [] = true := hlen
          have h8 : cz.slots.size.toInt32 = 0 := by simpa [Cond.holds, hv] using h9
          exact h8
        exact (nI_eq (b := 0) hb (by decide)).mp hq
      · have hl3 : (Term.length (.static "java/util/ArrayList" "DEFAULTCAPACITY_EMPTY_ELEMENTDATA" "[Ljava/lang/Object;")).eval a0 s none [] s = none := by
          rw [hl2]; simp [hb]
        simp [Cond.before, Cond.holds, Cond.value, hl3] at hlen
  exact ⟨D, DA, z, ⟨hK, ⟨a0, htb, hN⟩, hst, ⟨cz, hcz, h1, h2, hsz⟩, c, k, i, f, a', cell', hi, hs, hini, ha', hcell', hun, hslot⟩, (Array.getElem?_eq_some_iff.mp hcz).1⟩
