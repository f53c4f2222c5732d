/-! THE LAW'S BODY: what holds all through; a lemma for each case -/
def LF (l : Launch) (p : Program) (s0 : State) (m : MethodId) (c : Code) (D : va_G) (DA : Nat → ClassId) (z0 b L : Nat) (xs : Nat → Int32) : Prop := G0 l s0 D DA z0 ∧ p.tables.exec = Jvm.exec ∧ c.code = cL_law ∧ c.maxLocals = 8 ∧ s0.vm.findClass RX0 = some m.cls ∧ (∀ w ∈ lw_all, w.before #[Value.ref b] s0 = true) ∧ s0.WarmedH s0.vm ∧ va_X b L xs s0 s0.heap ∧ b < s0.heap.size ∧ L ≤ 384
theorem law_S {s0 : State} {D : va_G} {DA : Nat → ClassId} {z0 : Nat} {Y : YS} {C : CS} {M : MS} {o : Int64} {H : Heap} {locs : List Loc} (hR : GRb s0.heap.size s0.heap D DA z0 Y C M o H) (hL : gx_L s0.heap.size locs) : va_S (fun q : Nat => s0.heap.size ≤ q) s0.heap H locs := ⟨by have := hR.sz; omega, fun q hq _ => hR.old q hq, hL⟩
set_option maxHeartbeats 4000000 in
set_option maxRecDepth 100000 in
theorem law_c0 {l : Launch} {p : Program} {e : Env} {s0 : State} {m : MethodId} {below : List Frame} {meth : Method} {c : Code} {D : va_G} {DA : Nat → ClassId} {z0 b L : Nat} {xs : Nat → Int32} (hF : LF l p s0 m c D DA z0 b L xs) {C : CS} {M : MS} {o : Int64} {H : Heap} (hR : RR s0 D DA z0 C M o H) (hQ : Rel C M) {i : Nat} (hi : i + 6 ≤ L) {locs : List Loc} {ls : Array Slot} {cells slots : Nat} (hl : lv_has ls 8 [(4, .int (nI i)), (3, .ref (s0.heap.size + 128)), (2, .ref (s0.heap.size + 104)), (1, .ref s0.heap.size), (0, .ref b)]) (hL : gx_L s0.heap.size locs) (hroom : cells + 300 ≤ 600128 ∧ slots + 10800 ≤ 7301098) {Q : State → Prop} (kk : ∀ (C : CS) (M : MS) (o : Int64) (H : Heap) (locs : List Loc) (ls : Array Slot), Rel C M → RR s0 D DA z0 C M o H → lv_has ls 8 [(4, .int (nI i)), (3, .ref (s0.heap.size + 128)), (2, .ref (s0.heap.size + 104)), (1, .ref s0.heap.size), (0, .ref b)] → gx_L s0.heap.size locs → W p l e room_1 s0 m #[Value.ref b] below meth c H locs (cells + 300) (slots + 10800) Q (F0 m 1428 ls [])) : W p l e room_1 s0 m #[Value.ref b] below meth c H locs cells slots Q (F0 m 132 ls []) := by
  obtain ⟨hE, hx, hb, hml, hown, hts, hW0, hX, hbl, hL384⟩ := hF
  have hK := hE.K
  have hbA : ¬ (fun q : Nat => s0.heap.size ≤ q) b := Nat.not_le.mpr hbl
  obtain ⟨Y, hR⟩ := hR
  refine lv_aload_n hx hb dL_law_132 rfl (lv_at hl 3 rfl) ?_
  refine lv_aload_n hx hb dL_law_133 rfl (lv_at hl 4 rfl) ?_
  refine lv_iload hx hb dL_law_134 (lv_at hl 0 rfl) ?_
  refine lv_iconst (v := 1) hx hb dL_law_136 (by decide) ?_
  refine lv_iadd hx hb dL_law_137 ?_
  refine gx_ti (nI (i + 1)) (nI_add i 1) ?_
  refine va_sld hx hb hX hbl hbA (law_S hR hL) (i := nI (i + 1)) (nI_in (by omega) (by omega)) dL_law_138 ?_
  refine gx_ti (xs (i + 1)) (by rw [nI_clamp (by omega)]) ?_
  refine lv_aload_n hx hb dL_law_139 rfl (lv_at hl 4 rfl) ?_
  refine lv_iload hx hb dL_law_140 (lv_at hl 0 rfl) ?_
  refine lv_iconst (v := 2) hx hb dL_law_142 (by decide) ?_
  refine lv_iadd hx hb dL_law_143 ?_
  refine gx_ti (nI (i + 2)) (nI_add i 2) ?_
  refine va_sld hx hb hX hbl hbA (law_S hR hL) (i := nI (i + 2)) (nI_in (by omega) (by omega)) dL_law_144 ?_
  refine gx_ti (xs (i + 2)) (by rw [nI_clamp (by omega)]) ?_
  refine lv_aload_n hx hb dL_law_145 rfl (lv_at hl 4 rfl) ?_
  refine lv_iload hx hb dL_law_146 (lv_at hl 0 rfl) ?_
  refine lv_iconst (v := 3) hx hb dL_law_148 (by decide) ?_
  refine lv_iadd hx hb dL_law_149 ?_
  refine gx_ti (nI (i + 3)) (nI_add i 3) ?_
  refine va_sld hx hb hX hbl hbA (law_S hR hL) (i := nI (i + 3)) (nI_in (by omega) (by omega)) dL_law_150 ?_
  refine gx_ti (xs (i + 3)) (by rw [nI_clamp (by omega)]) ?_
  refine lv_aload_n hx hb dL_law_151 rfl (lv_at hl 4 rfl) ?_
  refine lv_iload hx hb dL_law_152 (lv_at hl 0 rfl) ?_
  refine lv_iconst (v := 4) hx hb dL_law_154 (by decide) ?_
  refine lv_iadd hx hb dL_law_155 ?_
  refine gx_ti (nI (i + 4)) (nI_add i 4) ?_
  refine va_sld hx hb hX hbl hbA (law_S hR hL) (i := nI (i + 4)) (nI_in (by omega) (by omega)) dL_law_156 ?_
  refine gx_ti (xs (i + 4)) (by rw [nI_clamp (by omega)]) ?_
  refine lv_aload_n hx hb dL_law_157 rfl (lv_at hl 4 rfl) ?_
  refine lv_iload hx hb dL_law_158 (lv_at hl 0 rfl) ?_
  refine lv_iconst (v := 5) hx hb dL_law_160 (by decide) ?_
  refine lv_iadd hx hb dL_law_161 ?_
  refine gx_ti (nI (i + 5)) (nI_add i 5) ?_
  refine va_sld hx hb hX hbl hbA (law_S hR hL) (i := nI (i + 5)) (nI_in (by omega) (by omega)) dL_law_162 ?_
  refine gx_ti (xs (i + 5)) (by rw [nI_clamp (by omega)]) ?_
  have hr9 := r_item hQ o (xs (i + 1)) (xs (i + 2)) (xs (i + 3)) (xs (i + 4)) (xs (i + 5))
  refine cc_v (va_runSW (As := [.ref s0.heap.size, .int (xs (i + 1)), .int (xs (i + 2)), .int (xs (i + 3)), .int (xs (i + 4)), .int (xs (i + 5))]) (rest := []) ⟨hx, hb, hml, hown, hts⟩ (ct_X0_item hE ⟨_, hR⟩ (xs (i + 1)) (xs (i + 2)) (xs (i + 3)) (xs (i + 4)) (xs (i + 5))) (va_cwSW 6 hts (lw_SW q527 q528 q46 q529) rfl rfl rfl (by decide +kernel) ⟨Nat.le_of_ble_eq_true rfl, Nat.le_of_ble_eq_true rfl⟩) (cc_pS hW0) rfl rfl hl.1 rfl (lv_room (Nat.le_of_ble_eq_true rfl)) dL_law_163 ⟨by show cells + 1 ≤ 600128; omega, by show slots + 6 ≤ 7301098; omega⟩) hL (fun H locs hP1 hL => ?_)
  obtain ⟨Y, hR⟩ := hP1
  generalize (k_item C o (xs (i + 1)) (xs (i + 2)) (xs (i + 3)) (xs (i + 4)) (xs (i + 5))) = k9 at hr9 hR ⊢
  refine lv_istore (lv' := [(5, .int k9.1), (4, .int (nI i)), (3, .ref (s0.heap.size + 128)), (2, .ref (s0.heap.size + 104)), (1, .ref s0.heap.size), (0, .ref b)]) hx hb dL_law_166 hl (by decide) rfl (fun ls hl => ?_)
  refine lv_aload_n hx hb dL_law_168 rfl (lv_at hl 3 rfl) ?_
  refine lv_aload_n hx hb dL_law_169 rfl (lv_at hl 5 rfl) ?_
  refine lv_iload hx hb dL_law_170 (lv_at hl 1 rfl) ?_
  refine lv_iconst (v := 1) hx hb dL_law_172 (by decide) ?_
  refine lv_iadd hx hb dL_law_173 ?_
  refine gx_ti (nI (i + 1)) (nI_add i 1) ?_
  refine va_sld hx hb hX hbl hbA (law_S hR hL) (i := nI (i + 1)) (nI_in (by omega) (by omega)) dL_law_174 ?_
  refine gx_ti (xs (i + 1)) (by rw [nI_clamp (by omega)]) ?_
  refine lv_aload_n hx hb dL_law_175 rfl (lv_at hl 5 rfl) ?_
  refine lv_iload hx hb dL_law_176 (lv_at hl 1 rfl) ?_
  refine lv_iconst (v := 2) hx hb dL_law_178 (by decide) ?_
  refine lv_iadd hx hb dL_law_179 ?_
  refine gx_ti (nI (i + 2)) (nI_add i 2) ?_
  refine va_sld hx hb hX hbl hbA (law_S hR hL) (i := nI (i + 2)) (nI_in (by omega) (by omega)) dL_law_180 ?_
  refine gx_ti (xs (i + 2)) (by rw [nI_clamp (by omega)]) ?_
  refine lv_aload_n hx hb dL_law_181 rfl (lv_at hl 5 rfl) ?_
  refine lv_iload hx hb dL_law_182 (lv_at hl 1 rfl) ?_
  refine lv_iconst (v := 3) hx hb dL_law_184 (by decide) ?_
  refine lv_iadd hx hb dL_law_185 ?_
  refine gx_ti (nI (i + 3)) (nI_add i 3) ?_
  refine va_sld hx hb hX hbl hbA (law_S hR hL) (i := nI (i + 3)) (nI_in (by omega) (by omega)) dL_law_186 ?_
  refine gx_ti (xs (i + 3)) (by rw [nI_clamp (by omega)]) ?_
  refine lv_aload_n hx hb dL_law_187 rfl (lv_at hl 5 rfl) ?_
  refine lv_iload hx hb dL_law_188 (lv_at hl 1 rfl) ?_
  refine lv_iconst (v := 4) hx hb dL_law_190 (by decide) ?_
  refine lv_iadd hx hb dL_law_191 ?_
  refine gx_ti (nI (i + 4)) (nI_add i 4) ?_
  refine va_sld hx hb hX hbl hbA (law_S hR hL) (i := nI (i + 4)) (nI_in (by omega) (by omega)) dL_law_192 ?_
  refine gx_ti (xs (i + 4)) (by rw [nI_clamp (by omega)]) ?_
  refine lv_aload_n hx hb dL_law_193 rfl (lv_at hl 5 rfl) ?_
  refine lv_iload hx hb dL_law_194 (lv_at hl 1 rfl) ?_
  refine lv_iconst (v := 5) hx hb dL_law_196 (by decide) ?_
  refine lv_iadd hx hb dL_law_197 ?_
  refine gx_ti (nI (i + 5)) (nI_add i 5) ?_
  refine va_sld hx hb hX hbl hbA (law_S hR hL) (i := nI (i + 5)) (nI_in (by omega) (by omega)) dL_law_198 ?_
  refine gx_ti (xs (i + 5)) (by rw [nI_clamp (by omega)]) ?_
  refine cc_0 (va_runV (b := s0.heap.size + 104) (As := [.int (xs (i + 1)), .int (xs (i + 2)), .int (xs (i + 3)), .int (xs (i + 4)), .int (xs (i + 5))]) (rest := []) ⟨hx, hb, hml, hown, hts⟩ (ct_X11_item hE ⟨_, hR⟩ (xs (i + 1)) (xs (i + 2)) (xs (i + 3)) (xs (i + 4)) (xs (i + 5))) (cwV 5 hts (lw_V q973 q974 q975 q61 q976) rfl rfl rfl (by decide +kernel) ⟨Nat.le_of_ble_eq_true rfl, Nat.le_of_ble_eq_true rfl⟩) (cc_pV hW0 (cc_re hK hR.mo (show gcl[10]? = _ from rfl))) rfl rfl hl.1 rfl (lv_room (Nat.le_of_ble_eq_true rfl)) dL_law_199 ⟨by show cells + 1 + 0 ≤ 600128; omega, by show slots + 6 + 0 ≤ 7301098; omega⟩) hL (fun H locs hP1 hL => ?_)
  obtain ⟨Y, hR⟩ := hP1
  obtain ⟨e1, hQ1⟩ := hr9
  generalize (m_item M (xs (i + 1)) (xs (i + 2)) (xs (i + 3)) (xs (i + 4)) (xs (i + 5))) = M1 at e1 hQ1 hR ⊢
  refine lv_aload_n hx hb dL_law_202 rfl (lv_at hl 3 rfl) ?_
  refine cc_v (va_runV (b := s0.heap.size + 104) (As := []) (rest := []) ⟨hx, hb, hml, hown, hts⟩ (ct_X11_thrown hE ⟨_, hR⟩) (cwV 0 hts (lw_V q969 q970 q971 q61 q972) rfl rfl rfl (by decide +kernel) ⟨Nat.le_of_ble_eq_true rfl, Nat.le_of_ble_eq_true rfl⟩) (cc_pV hW0 (cc_re hK hR.mo (show gcl[10]? = _ from rfl))) rfl rfl hl.1 rfl (lv_room (Nat.le_of_ble_eq_true rfl)) dL_law_203 ⟨by show cells + 1 + 0 ≤ 600128; omega, by show slots + 6 + 0 ≤ 7301098; omega⟩) hL (fun H locs hP1 hL => ?_)
  subst hP1
  refine lv_iload hx hb dL_law_206 (lv_at hl 0 rfl) ?_
  refine lv_icmp_eq (tgt := 213) hx hb dL_law_208 (by decide) (fun c1 => ?_) (fun c1 => absurd e1.symm c1)
  refine lv_goto (tgt := 1428) hx hb dL_law_213 (by decide) ?_
  refine W.widen (k := cells + 300) (n := slots + 10800) (by omega) (by omega) ?_
  exact kk _ _ _ _ _ _ hQ1 ⟨_, hR⟩ (lv_sub hl [1, 2, 3, 4, 5] rfl) hL
set_option maxHeartbeats 4000000 in
set_option maxRecDepth 100000 in
theorem law_c1 {l : Launch} {p : Program} {e : Env} {s0 : State} {m : MethodId} {below : List Frame} {meth : Method} {c : Code} {D : va_G} {DA : Nat → ClassId} {z0 b L : Nat} {xs : Nat → Int32} (hF : LF l p s0 m c D DA z0 b L xs) {C : CS} {M : MS} {o : Int64} {H : Heap} (hR : RR s0 D DA z0 C M o H) (hQ : Rel C M) {i : Nat} (hi : i + 6 ≤ L) {locs : List Loc} {ls : Array Slot} {cells slots : Nat} (hl : lv_has ls 8 [(4, .int (nI i)), (3, .ref (s0.heap.size + 128)), (2, .ref (s0.heap.size + 104)), (1, .ref s0.heap.size), (0, .ref b)]) (hL : gx_L s0.heap.size locs) (hroom : cells + 300 ≤ 600128 ∧ slots + 10800 ≤ 7301098) {Q : State → Prop} (kk : ∀ (C : CS) (M : MS) (o : Int64) (H : Heap) (locs : List Loc) (ls : Array Slot), Rel C M → RR s0 D DA z0 C M o H → lv_has ls 8 [(4, .int (nI i)), (3, .ref (s0.heap.size + 128)), (2, .ref (s0.heap.size + 104)), (1, .ref s0.heap.size), (0, .ref b)] → gx_L s0.heap.size locs → W p l e room_1 s0 m #[Value.ref b] below meth c H locs (cells + 300) (slots + 10800) Q (F0 m 1428 ls [])) : W p l e room_1 s0 m #[Value.ref b] below meth c H locs cells slots Q (F0 m 216 ls []) := by
  obtain ⟨hE, hx, hb, hml, hown, hts, hW0, hX, hbl, hL384⟩ := hF
  have hK := hE.K
  have hbA : ¬ (fun q : Nat => s0.heap.size ≤ q) b := Nat.not_le.mpr hbl
  obtain ⟨Y, hR⟩ := hR
  refine lv_aload_n hx hb dL_law_216 rfl (lv_at hl 3 rfl) ?_
  refine lv_aload_n hx hb dL_law_217 rfl (lv_at hl 4 rfl) ?_
  refine lv_iload hx hb dL_law_218 (lv_at hl 0 rfl) ?_
  refine lv_iconst (v := 1) hx hb dL_law_220 (by decide) ?_
  refine lv_iadd hx hb dL_law_221 ?_
  refine gx_ti (nI (i + 1)) (nI_add i 1) ?_
  refine va_sld hx hb hX hbl hbA (law_S hR hL) (i := nI (i + 1)) (nI_in (by omega) (by omega)) dL_law_222 ?_
  refine gx_ti (xs (i + 1)) (by rw [nI_clamp (by omega)]) ?_
  refine lv_aload_n hx hb dL_law_223 rfl (lv_at hl 4 rfl) ?_
  refine lv_iload hx hb dL_law_224 (lv_at hl 0 rfl) ?_
  refine lv_iconst (v := 2) hx hb dL_law_226 (by decide) ?_
  refine lv_iadd hx hb dL_law_227 ?_
  refine gx_ti (nI (i + 2)) (nI_add i 2) ?_
  refine va_sld hx hb hX hbl hbA (law_S hR hL) (i := nI (i + 2)) (nI_in (by omega) (by omega)) dL_law_228 ?_
  refine gx_ti (xs (i + 2)) (by rw [nI_clamp (by omega)]) ?_
  refine lv_aload_n hx hb dL_law_229 rfl (lv_at hl 4 rfl) ?_
  refine lv_iload hx hb dL_law_230 (lv_at hl 0 rfl) ?_
  refine lv_iconst (v := 3) hx hb dL_law_232 (by decide) ?_
  refine lv_iadd hx hb dL_law_233 ?_
  refine gx_ti (nI (i + 3)) (nI_add i 3) ?_
  refine va_sld hx hb hX hbl hbA (law_S hR hL) (i := nI (i + 3)) (nI_in (by omega) (by omega)) dL_law_234 ?_
  refine gx_ti (xs (i + 3)) (by rw [nI_clamp (by omega)]) ?_
  refine lv_aload_n hx hb dL_law_235 rfl (lv_at hl 4 rfl) ?_
  refine lv_iload hx hb dL_law_236 (lv_at hl 0 rfl) ?_
  refine lv_iconst (v := 4) hx hb dL_law_238 (by decide) ?_
  refine lv_iadd hx hb dL_law_239 ?_
  refine gx_ti (nI (i + 4)) (nI_add i 4) ?_
  refine va_sld hx hb hX hbl hbA (law_S hR hL) (i := nI (i + 4)) (nI_in (by omega) (by omega)) dL_law_240 ?_
  refine gx_ti (xs (i + 4)) (by rw [nI_clamp (by omega)]) ?_
  have hr9 := r_costs hQ o (xs (i + 1)) (xs (i + 2)) (xs (i + 3)) (xs (i + 4))
  refine cc_v (va_runSW (As := [.ref s0.heap.size, .int (xs (i + 1)), .int (xs (i + 2)), .int (xs (i + 3)), .int (xs (i + 4))]) (rest := []) ⟨hx, hb, hml, hown, hts⟩ (ct_X0_costs hE ⟨_, hR⟩ (xs (i + 1)) (xs (i + 2)) (xs (i + 3)) (xs (i + 4))) (va_cwSW 5 hts (lw_SW q631 q632 q46 q633) rfl rfl rfl (by decide +kernel) ⟨Nat.le_of_ble_eq_true rfl, Nat.le_of_ble_eq_true rfl⟩) (cc_pS hW0) rfl rfl hl.1 rfl (lv_room (Nat.le_of_ble_eq_true rfl)) dL_law_241 ⟨by show cells + 1 ≤ 600128; omega, by show slots + 6 ≤ 7301098; omega⟩) hL (fun H locs hP1 hL => ?_)
  obtain ⟨Y, hR⟩ := hP1
  generalize (k_costs C o (xs (i + 1)) (xs (i + 2)) (xs (i + 3)) (xs (i + 4))) = k9 at hr9 hR ⊢
  refine lv_istore (lv' := [(5, .int k9.1), (4, .int (nI i)), (3, .ref (s0.heap.size + 128)), (2, .ref (s0.heap.size + 104)), (1, .ref s0.heap.size), (0, .ref b)]) hx hb dL_law_244 hl (by decide) rfl (fun ls hl => ?_)
  refine lv_aload_n hx hb dL_law_246 rfl (lv_at hl 3 rfl) ?_
  refine lv_aload_n hx hb dL_law_247 rfl (lv_at hl 5 rfl) ?_
  refine lv_iload hx hb dL_law_248 (lv_at hl 1 rfl) ?_
  refine lv_iconst (v := 1) hx hb dL_law_250 (by decide) ?_
  refine lv_iadd hx hb dL_law_251 ?_
  refine gx_ti (nI (i + 1)) (nI_add i 1) ?_
  refine va_sld hx hb hX hbl hbA (law_S hR hL) (i := nI (i + 1)) (nI_in (by omega) (by omega)) dL_law_252 ?_
  refine gx_ti (xs (i + 1)) (by rw [nI_clamp (by omega)]) ?_
  refine lv_aload_n hx hb dL_law_253 rfl (lv_at hl 5 rfl) ?_
  refine lv_iload hx hb dL_law_254 (lv_at hl 1 rfl) ?_
  refine lv_iconst (v := 2) hx hb dL_law_256 (by decide) ?_
  refine lv_iadd hx hb dL_law_257 ?_
  refine gx_ti (nI (i + 2)) (nI_add i 2) ?_
  refine va_sld hx hb hX hbl hbA (law_S hR hL) (i := nI (i + 2)) (nI_in (by omega) (by omega)) dL_law_258 ?_
  refine gx_ti (xs (i + 2)) (by rw [nI_clamp (by omega)]) ?_
  refine lv_aload_n hx hb dL_law_259 rfl (lv_at hl 5 rfl) ?_
  refine lv_iload hx hb dL_law_260 (lv_at hl 1 rfl) ?_
  refine lv_iconst (v := 3) hx hb dL_law_262 (by decide) ?_
  refine lv_iadd hx hb dL_law_263 ?_
  refine gx_ti (nI (i + 3)) (nI_add i 3) ?_
  refine va_sld hx hb hX hbl hbA (law_S hR hL) (i := nI (i + 3)) (nI_in (by omega) (by omega)) dL_law_264 ?_
  refine gx_ti (xs (i + 3)) (by rw [nI_clamp (by omega)]) ?_
  refine lv_aload_n hx hb dL_law_265 rfl (lv_at hl 5 rfl) ?_
  refine lv_iload hx hb dL_law_266 (lv_at hl 1 rfl) ?_
  refine lv_iconst (v := 4) hx hb dL_law_268 (by decide) ?_
  refine lv_iadd hx hb dL_law_269 ?_
  refine gx_ti (nI (i + 4)) (nI_add i 4) ?_
  refine va_sld hx hb hX hbl hbA (law_S hR hL) (i := nI (i + 4)) (nI_in (by omega) (by omega)) dL_law_270 ?_
  refine gx_ti (xs (i + 4)) (by rw [nI_clamp (by omega)]) ?_
  refine cc_0 (va_runV (b := s0.heap.size + 104) (As := [.int (xs (i + 1)), .int (xs (i + 2)), .int (xs (i + 3)), .int (xs (i + 4))]) (rest := []) ⟨hx, hb, hml, hown, hts⟩ (ct_X11_costs hE ⟨_, hR⟩ (xs (i + 1)) (xs (i + 2)) (xs (i + 3)) (xs (i + 4))) (cwV 4 hts (lw_V q991 q992 q993 q61 q994) rfl rfl rfl (by decide +kernel) ⟨Nat.le_of_ble_eq_true rfl, Nat.le_of_ble_eq_true rfl⟩) (cc_pV hW0 (cc_re hK hR.mo (show gcl[10]? = _ from rfl))) rfl rfl hl.1 rfl (lv_room (Nat.le_of_ble_eq_true rfl)) dL_law_271 ⟨by show cells + 1 + 0 ≤ 600128; omega, by show slots + 6 + 0 ≤ 7301098; omega⟩) hL (fun H locs hP1 hL => ?_)
  obtain ⟨Y, hR⟩ := hP1
  obtain ⟨e1, hQ1⟩ := hr9
  generalize (m_costs M (xs (i + 1)) (xs (i + 2)) (xs (i + 3)) (xs (i + 4))) = M1 at e1 hQ1 hR ⊢
  refine lv_aload_n hx hb dL_law_274 rfl (lv_at hl 3 rfl) ?_
  refine cc_v (va_runV (b := s0.heap.size + 104) (As := []) (rest := []) ⟨hx, hb, hml, hown, hts⟩ (ct_X11_thrown hE ⟨_, hR⟩) (cwV 0 hts (lw_V q969 q970 q971 q61 q972) rfl rfl rfl (by decide +kernel) ⟨Nat.le_of_ble_eq_true rfl, Nat.le_of_ble_eq_true rfl⟩) (cc_pV hW0 (cc_re hK hR.mo (show gcl[10]? = _ from rfl))) rfl rfl hl.1 rfl (lv_room (Nat.le_of_ble_eq_true rfl)) dL_law_275 ⟨by show cells + 1 + 0 ≤ 600128; omega, by show slots + 6 + 0 ≤ 7301098; omega⟩) hL (fun H locs hP1 hL => ?_)
  subst hP1
  refine lv_iload hx hb dL_law_278 (lv_at hl 0 rfl) ?_
  refine lv_icmp_eq (tgt := 285) hx hb dL_law_280 (by decide) (fun c1 => ?_) (fun c1 => absurd e1.symm c1)
  refine lv_goto (tgt := 1428) hx hb dL_law_285 (by decide) ?_
  refine W.widen (k := cells + 300) (n := slots + 10800) (by omega) (by omega) ?_
  exact kk _ _ _ _ _ _ hQ1 ⟨_, hR⟩ (lv_sub hl [1, 2, 3, 4, 5] rfl) hL
set_option maxHeartbeats 4000000 in
set_option maxRecDepth 100000 in
theorem law_c2 {l : Launch} {p : Program} {e : Env} {s0 : State} {m : MethodId} {below : List Frame} {meth : Method} {c : Code} {D : va_G} {DA : Nat → ClassId} {z0 b L : Nat} {xs : Nat → Int32} (hF : LF l p s0 m c D DA z0 b L xs) {C : CS} {M : MS} {o : Int64} {H : Heap} (hR : RR s0 D DA z0 C M o H) (hQ : Rel C M) {i : Nat} (hi : i + 6 ≤ L) {locs : List Loc} {ls : Array Slot} {cells slots : Nat} (hl : lv_has ls 8 [(4, .int (nI i)), (3, .ref (s0.heap.size + 128)), (2, .ref (s0.heap.size + 104)), (1, .ref s0.heap.size), (0, .ref b)]) (hL : gx_L s0.heap.size locs) (hroom : cells + 300 ≤ 600128 ∧ slots + 10800 ≤ 7301098) {Q : State → Prop} (kk : ∀ (C : CS) (M : MS) (o : Int64) (H : Heap) (locs : List Loc) (ls : Array Slot), Rel C M → RR s0 D DA z0 C M o H → lv_has ls 8 [(4, .int (nI i)), (3, .ref (s0.heap.size + 128)), (2, .ref (s0.heap.size + 104)), (1, .ref s0.heap.size), (0, .ref b)] → gx_L s0.heap.size locs → W p l e room_1 s0 m #[Value.ref b] below meth c H locs (cells + 300) (slots + 10800) Q (F0 m 1428 ls [])) : W p l e room_1 s0 m #[Value.ref b] below meth c H locs cells slots Q (F0 m 288 ls []) := by
  obtain ⟨hE, hx, hb, hml, hown, hts, hW0, hX, hbl, hL384⟩ := hF
  have hK := hE.K
  have hbA : ¬ (fun q : Nat => s0.heap.size ≤ q) b := Nat.not_le.mpr hbl
  obtain ⟨Y, hR⟩ := hR
  refine lv_aload_n hx hb dL_law_288 rfl (lv_at hl 3 rfl) ?_
  refine lv_aload_n hx hb dL_law_289 rfl (lv_at hl 4 rfl) ?_
  refine lv_iload hx hb dL_law_290 (lv_at hl 0 rfl) ?_
  refine lv_iconst (v := 1) hx hb dL_law_292 (by decide) ?_
  refine lv_iadd hx hb dL_law_293 ?_
  refine gx_ti (nI (i + 1)) (nI_add i 1) ?_
  refine va_sld hx hb hX hbl hbA (law_S hR hL) (i := nI (i + 1)) (nI_in (by omega) (by omega)) dL_law_294 ?_
  refine gx_ti (xs (i + 1)) (by rw [nI_clamp (by omega)]) ?_
  refine lv_aload_n hx hb dL_law_295 rfl (lv_at hl 4 rfl) ?_
  refine lv_iload hx hb dL_law_296 (lv_at hl 0 rfl) ?_
  refine lv_iconst (v := 2) hx hb dL_law_298 (by decide) ?_
  refine lv_iadd hx hb dL_law_299 ?_
  refine gx_ti (nI (i + 2)) (nI_add i 2) ?_
  refine va_sld hx hb hX hbl hbA (law_S hR hL) (i := nI (i + 2)) (nI_in (by omega) (by omega)) dL_law_300 ?_
  refine gx_ti (xs (i + 2)) (by rw [nI_clamp (by omega)]) ?_
  refine lv_aload_n hx hb dL_law_301 rfl (lv_at hl 4 rfl) ?_
  refine lv_iload hx hb dL_law_302 (lv_at hl 0 rfl) ?_
  refine lv_iconst (v := 3) hx hb dL_law_304 (by decide) ?_
  refine lv_iadd hx hb dL_law_305 ?_
  refine gx_ti (nI (i + 3)) (nI_add i 3) ?_
  refine va_sld hx hb hX hbl hbA (law_S hR hL) (i := nI (i + 3)) (nI_in (by omega) (by omega)) dL_law_306 ?_
  refine gx_ti (xs (i + 3)) (by rw [nI_clamp (by omega)]) ?_
  have hr9 := r_made hQ o (xs (i + 1)) (xs (i + 2)) (xs (i + 3))
  refine cc_v (va_runSW (As := [.ref s0.heap.size, .int (xs (i + 1)), .int (xs (i + 2)), .int (xs (i + 3))]) (rest := []) ⟨hx, hb, hml, hown, hts⟩ (ct_X0_made hE ⟨_, hR⟩ (xs (i + 1)) (xs (i + 2)) (xs (i + 3))) (va_cwSW 4 hts (lw_SW q639 q640 q46 q641) rfl rfl rfl (by decide +kernel) ⟨Nat.le_of_ble_eq_true rfl, Nat.le_of_ble_eq_true rfl⟩) (cc_pS hW0) rfl rfl hl.1 rfl (lv_room (Nat.le_of_ble_eq_true rfl)) dL_law_307 ⟨by show cells + 1 ≤ 600128; omega, by show slots + 6 ≤ 7301098; omega⟩) hL (fun H locs hP1 hL => ?_)
  obtain ⟨Y, hR⟩ := hP1
  generalize (k_made C o (xs (i + 1)) (xs (i + 2)) (xs (i + 3))) = k9 at hr9 hR ⊢
  refine lv_istore (lv' := [(5, .int k9.1), (4, .int (nI i)), (3, .ref (s0.heap.size + 128)), (2, .ref (s0.heap.size + 104)), (1, .ref s0.heap.size), (0, .ref b)]) hx hb dL_law_310 hl (by decide) rfl (fun ls hl => ?_)
  refine lv_aload_n hx hb dL_law_312 rfl (lv_at hl 3 rfl) ?_
  refine lv_aload_n hx hb dL_law_313 rfl (lv_at hl 5 rfl) ?_
  refine lv_iload hx hb dL_law_314 (lv_at hl 1 rfl) ?_
  refine lv_iconst (v := 1) hx hb dL_law_316 (by decide) ?_
  refine lv_iadd hx hb dL_law_317 ?_
  refine gx_ti (nI (i + 1)) (nI_add i 1) ?_
  refine va_sld hx hb hX hbl hbA (law_S hR hL) (i := nI (i + 1)) (nI_in (by omega) (by omega)) dL_law_318 ?_
  refine gx_ti (xs (i + 1)) (by rw [nI_clamp (by omega)]) ?_
  refine lv_aload_n hx hb dL_law_319 rfl (lv_at hl 5 rfl) ?_
  refine lv_iload hx hb dL_law_320 (lv_at hl 1 rfl) ?_
  refine lv_iconst (v := 2) hx hb dL_law_322 (by decide) ?_
  refine lv_iadd hx hb dL_law_323 ?_
  refine gx_ti (nI (i + 2)) (nI_add i 2) ?_
  refine va_sld hx hb hX hbl hbA (law_S hR hL) (i := nI (i + 2)) (nI_in (by omega) (by omega)) dL_law_324 ?_
  refine gx_ti (xs (i + 2)) (by rw [nI_clamp (by omega)]) ?_
  refine lv_aload_n hx hb dL_law_325 rfl (lv_at hl 5 rfl) ?_
  refine lv_iload hx hb dL_law_326 (lv_at hl 1 rfl) ?_
  refine lv_iconst (v := 3) hx hb dL_law_328 (by decide) ?_
  refine lv_iadd hx hb dL_law_329 ?_
  refine gx_ti (nI (i + 3)) (nI_add i 3) ?_
  refine va_sld hx hb hX hbl hbA (law_S hR hL) (i := nI (i + 3)) (nI_in (by omega) (by omega)) dL_law_330 ?_
  refine gx_ti (xs (i + 3)) (by rw [nI_clamp (by omega)]) ?_
  refine cc_0 (va_runV (b := s0.heap.size + 104) (As := [.int (xs (i + 1)), .int (xs (i + 2)), .int (xs (i + 3))]) (rest := []) ⟨hx, hb, hml, hown, hts⟩ (ct_X11_made hE ⟨_, hR⟩ (xs (i + 1)) (xs (i + 2)) (xs (i + 3))) (cwV 3 hts (lw_V q996 q997 q998 q61 q999) rfl rfl rfl (by decide +kernel) ⟨Nat.le_of_ble_eq_true rfl, Nat.le_of_ble_eq_true rfl⟩) (cc_pV hW0 (cc_re hK hR.mo (show gcl[10]? = _ from rfl))) rfl rfl hl.1 rfl (lv_room (Nat.le_of_ble_eq_true rfl)) dL_law_331 ⟨by show cells + 1 + 0 ≤ 600128; omega, by show slots + 6 + 0 ≤ 7301098; omega⟩) hL (fun H locs hP1 hL => ?_)
  obtain ⟨Y, hR⟩ := hP1
  obtain ⟨e1, hQ1⟩ := hr9
  generalize (m_made M (xs (i + 1)) (xs (i + 2)) (xs (i + 3))) = M1 at e1 hQ1 hR ⊢
  refine lv_aload_n hx hb dL_law_334 rfl (lv_at hl 3 rfl) ?_
  refine cc_v (va_runV (b := s0.heap.size + 104) (As := []) (rest := []) ⟨hx, hb, hml, hown, hts⟩ (ct_X11_thrown hE ⟨_, hR⟩) (cwV 0 hts (lw_V q969 q970 q971 q61 q972) rfl rfl rfl (by decide +kernel) ⟨Nat.le_of_ble_eq_true rfl, Nat.le_of_ble_eq_true rfl⟩) (cc_pV hW0 (cc_re hK hR.mo (show gcl[10]? = _ from rfl))) rfl rfl hl.1 rfl (lv_room (Nat.le_of_ble_eq_true rfl)) dL_law_335 ⟨by show cells + 1 + 0 ≤ 600128; omega, by show slots + 6 + 0 ≤ 7301098; omega⟩) hL (fun H locs hP1 hL => ?_)
  subst hP1
  refine lv_iload hx hb dL_law_338 (lv_at hl 0 rfl) ?_
  refine lv_icmp_eq (tgt := 345) hx hb dL_law_340 (by decide) (fun c1 => ?_) (fun c1 => absurd e1.symm c1)
  refine lv_goto (tgt := 1428) hx hb dL_law_345 (by decide) ?_
  refine W.widen (k := cells + 300) (n := slots + 10800) (by omega) (by omega) ?_
  exact kk _ _ _ _ _ _ hQ1 ⟨_, hR⟩ (lv_sub hl [1, 2, 3, 4, 5] rfl) hL
set_option maxHeartbeats 4000000 in
set_option maxRecDepth 100000 in
theorem law_c3 {l : Launch} {p : Program} {e : Env} {s0 : State} {m : MethodId} {below : List Frame} {meth : Method} {c : Code} {D : va_G} {DA : Nat → ClassId} {z0 b L : Nat} {xs : Nat → Int32} (hF : LF l p s0 m c D DA z0 b L xs) {C : CS} {M : MS} {o : Int64} {H : Heap} (hR : RR s0 D DA z0 C M o H) (hQ : Rel C M) {i : Nat} (hi : i + 6 ≤ L) {locs : List Loc} {ls : Array Slot} {cells slots : Nat} (hl : lv_has ls 8 [(4, .int (nI i)), (3, .ref (s0.heap.size + 128)), (2, .ref (s0.heap.size + 104)), (1, .ref s0.heap.size), (0, .ref b)]) (hL : gx_L s0.heap.size locs) (hroom : cells + 300 ≤ 600128 ∧ slots + 10800 ≤ 7301098) {Q : State → Prop} (kk : ∀ (C : CS) (M : MS) (o : Int64) (H : Heap) (locs : List Loc) (ls : Array Slot), Rel C M → RR s0 D DA z0 C M o H → lv_has ls 8 [(4, .int (nI i)), (3, .ref (s0.heap.size + 128)), (2, .ref (s0.heap.size + 104)), (1, .ref s0.heap.size), (0, .ref b)] → gx_L s0.heap.size locs → W p l e room_1 s0 m #[Value.ref b] below meth c H locs (cells + 300) (slots + 10800) Q (F0 m 1428 ls [])) : W p l e room_1 s0 m #[Value.ref b] below meth c H locs cells slots Q (F0 m 348 ls []) := by
  obtain ⟨hE, hx, hb, hml, hown, hts, hW0, hX, hbl, hL384⟩ := hF
  have hK := hE.K
  have hbA : ¬ (fun q : Nat => s0.heap.size ≤ q) b := Nat.not_le.mpr hbl
  obtain ⟨Y, hR⟩ := hR
  refine lv_aload_n hx hb dL_law_348 rfl (lv_at hl 3 rfl) ?_
  refine lv_aload_n hx hb dL_law_349 rfl (lv_at hl 4 rfl) ?_
  refine lv_iload hx hb dL_law_350 (lv_at hl 0 rfl) ?_
  refine lv_iconst (v := 1) hx hb dL_law_352 (by decide) ?_
  refine lv_iadd hx hb dL_law_353 ?_
  refine gx_ti (nI (i + 1)) (nI_add i 1) ?_
  refine va_sld hx hb hX hbl hbA (law_S hR hL) (i := nI (i + 1)) (nI_in (by omega) (by omega)) dL_law_354 ?_
  refine gx_ti (xs (i + 1)) (by rw [nI_clamp (by omega)]) ?_
  refine lv_aload_n hx hb dL_law_355 rfl (lv_at hl 4 rfl) ?_
  refine lv_iload hx hb dL_law_356 (lv_at hl 0 rfl) ?_
  refine lv_iconst (v := 2) hx hb dL_law_358 (by decide) ?_
  refine lv_iadd hx hb dL_law_359 ?_
  refine gx_ti (nI (i + 2)) (nI_add i 2) ?_
  refine va_sld hx hb hX hbl hbA (law_S hR hL) (i := nI (i + 2)) (nI_in (by omega) (by omega)) dL_law_360 ?_
  refine gx_ti (xs (i + 2)) (by rw [nI_clamp (by omega)]) ?_
  refine lv_aload_n hx hb dL_law_361 rfl (lv_at hl 4 rfl) ?_
  refine lv_iload hx hb dL_law_362 (lv_at hl 0 rfl) ?_
  refine lv_iconst (v := 3) hx hb dL_law_364 (by decide) ?_
  refine lv_iadd hx hb dL_law_365 ?_
  refine gx_ti (nI (i + 3)) (nI_add i 3) ?_
  refine va_sld hx hb hX hbl hbA (law_S hR hL) (i := nI (i + 3)) (nI_in (by omega) (by omega)) dL_law_366 ?_
  refine gx_ti (xs (i + 3)) (by rw [nI_clamp (by omega)]) ?_
  refine lv_aload_n hx hb dL_law_367 rfl (lv_at hl 4 rfl) ?_
  refine lv_iload hx hb dL_law_368 (lv_at hl 0 rfl) ?_
  refine lv_iconst (v := 4) hx hb dL_law_370 (by decide) ?_
  refine lv_iadd hx hb dL_law_371 ?_
  refine gx_ti (nI (i + 4)) (nI_add i 4) ?_
  refine va_sld hx hb hX hbl hbA (law_S hR hL) (i := nI (i + 4)) (nI_in (by omega) (by omega)) dL_law_372 ?_
  refine gx_ti (xs (i + 4)) (by rw [nI_clamp (by omega)]) ?_
  refine lv_aload_n hx hb dL_law_373 rfl (lv_at hl 4 rfl) ?_
  refine lv_iload hx hb dL_law_374 (lv_at hl 0 rfl) ?_
  refine lv_iconst (v := 5) hx hb dL_law_376 (by decide) ?_
  refine lv_iadd hx hb dL_law_377 ?_
  refine gx_ti (nI (i + 5)) (nI_add i 5) ?_
  refine va_sld hx hb hX hbl hbA (law_S hR hL) (i := nI (i + 5)) (nI_in (by omega) (by omega)) dL_law_378 ?_
  refine gx_ti (xs (i + 5)) (by rw [nI_clamp (by omega)]) ?_
  have hr9 := r_line hQ o (xs (i + 1)) (xs (i + 2)) (xs (i + 3)) (xs (i + 4)) (xs (i + 5))
  refine cc_v (va_runSW (As := [.ref s0.heap.size, .int (xs (i + 1)), .int (xs (i + 2)), .int (xs (i + 3)), .int (xs (i + 4)), .int (xs (i + 5))]) (rest := []) ⟨hx, hb, hml, hown, hts⟩ (ct_X0_line hE ⟨_, hR⟩ (xs (i + 1)) (xs (i + 2)) (xs (i + 3)) (xs (i + 4)) (xs (i + 5))) (va_cwSW 6 hts (lw_SW q646 q647 q46 q648) rfl rfl rfl (by decide +kernel) ⟨Nat.le_of_ble_eq_true rfl, Nat.le_of_ble_eq_true rfl⟩) (cc_pS hW0) rfl rfl hl.1 rfl (lv_room (Nat.le_of_ble_eq_true rfl)) dL_law_379 ⟨by show cells + 2 ≤ 600128; omega, by show slots + 41 ≤ 7301098; omega⟩) hL (fun H locs hP1 hL => ?_)
  obtain ⟨Y, hR⟩ := hP1
  generalize (k_line C o (xs (i + 1)) (xs (i + 2)) (xs (i + 3)) (xs (i + 4)) (xs (i + 5))) = k9 at hr9 hR ⊢
  refine lv_istore (lv' := [(5, .int k9.1), (4, .int (nI i)), (3, .ref (s0.heap.size + 128)), (2, .ref (s0.heap.size + 104)), (1, .ref s0.heap.size), (0, .ref b)]) hx hb dL_law_382 hl (by decide) rfl (fun ls hl => ?_)
  refine lv_aload_n hx hb dL_law_384 rfl (lv_at hl 3 rfl) ?_
  refine lv_aload_n hx hb dL_law_385 rfl (lv_at hl 5 rfl) ?_
  refine lv_iload hx hb dL_law_386 (lv_at hl 1 rfl) ?_
  refine lv_iconst (v := 1) hx hb dL_law_388 (by decide) ?_
  refine lv_iadd hx hb dL_law_389 ?_
  refine gx_ti (nI (i + 1)) (nI_add i 1) ?_
  refine va_sld hx hb hX hbl hbA (law_S hR hL) (i := nI (i + 1)) (nI_in (by omega) (by omega)) dL_law_390 ?_
  refine gx_ti (xs (i + 1)) (by rw [nI_clamp (by omega)]) ?_
  refine lv_aload_n hx hb dL_law_391 rfl (lv_at hl 5 rfl) ?_
  refine lv_iload hx hb dL_law_392 (lv_at hl 1 rfl) ?_
  refine lv_iconst (v := 2) hx hb dL_law_394 (by decide) ?_
  refine lv_iadd hx hb dL_law_395 ?_
  refine gx_ti (nI (i + 2)) (nI_add i 2) ?_
  refine va_sld hx hb hX hbl hbA (law_S hR hL) (i := nI (i + 2)) (nI_in (by omega) (by omega)) dL_law_396 ?_
  refine gx_ti (xs (i + 2)) (by rw [nI_clamp (by omega)]) ?_
  refine lv_aload_n hx hb dL_law_397 rfl (lv_at hl 5 rfl) ?_
  refine lv_iload hx hb dL_law_398 (lv_at hl 1 rfl) ?_
  refine lv_iconst (v := 3) hx hb dL_law_400 (by decide) ?_
  refine lv_iadd hx hb dL_law_401 ?_
  refine gx_ti (nI (i + 3)) (nI_add i 3) ?_
  refine va_sld hx hb hX hbl hbA (law_S hR hL) (i := nI (i + 3)) (nI_in (by omega) (by omega)) dL_law_402 ?_
  refine gx_ti (xs (i + 3)) (by rw [nI_clamp (by omega)]) ?_
  refine lv_aload_n hx hb dL_law_403 rfl (lv_at hl 5 rfl) ?_
  refine lv_iload hx hb dL_law_404 (lv_at hl 1 rfl) ?_
  refine lv_iconst (v := 4) hx hb dL_law_406 (by decide) ?_
  refine lv_iadd hx hb dL_law_407 ?_
  refine gx_ti (nI (i + 4)) (nI_add i 4) ?_
  refine va_sld hx hb hX hbl hbA (law_S hR hL) (i := nI (i + 4)) (nI_in (by omega) (by omega)) dL_law_408 ?_
  refine gx_ti (xs (i + 4)) (by rw [nI_clamp (by omega)]) ?_
  refine lv_aload_n hx hb dL_law_409 rfl (lv_at hl 5 rfl) ?_
  refine lv_iload hx hb dL_law_410 (lv_at hl 1 rfl) ?_
  refine lv_iconst (v := 5) hx hb dL_law_412 (by decide) ?_
  refine lv_iadd hx hb dL_law_413 ?_
  refine gx_ti (nI (i + 5)) (nI_add i 5) ?_
  refine va_sld hx hb hX hbl hbA (law_S hR hL) (i := nI (i + 5)) (nI_in (by omega) (by omega)) dL_law_414 ?_
  refine gx_ti (xs (i + 5)) (by rw [nI_clamp (by omega)]) ?_
  refine cc_0 (va_runV (b := s0.heap.size + 104) (As := [.int (xs (i + 1)), .int (xs (i + 2)), .int (xs (i + 3)), .int (xs (i + 4)), .int (xs (i + 5))]) (rest := []) ⟨hx, hb, hml, hown, hts⟩ (ct_X11_line hE ⟨_, hR⟩ (xs (i + 1)) (xs (i + 2)) (xs (i + 3)) (xs (i + 4)) (xs (i + 5))) (cwV 5 hts (lw_V q1000 q1001 q1002 q61 q1003) rfl rfl rfl (by decide +kernel) ⟨Nat.le_of_ble_eq_true rfl, Nat.le_of_ble_eq_true rfl⟩) (cc_pV hW0 (cc_re hK hR.mo (show gcl[10]? = _ from rfl))) rfl rfl hl.1 rfl (lv_room (Nat.le_of_ble_eq_true rfl)) dL_law_415 ⟨by show cells + 2 + 0 ≤ 600128; omega, by show slots + 41 + 0 ≤ 7301098; omega⟩) hL (fun H locs hP1 hL => ?_)
  obtain ⟨Y, hR⟩ := hP1
  obtain ⟨e1, hQ1⟩ := hr9
  generalize (m_line M (xs (i + 1)) (xs (i + 2)) (xs (i + 3)) (xs (i + 4)) (xs (i + 5))) = M1 at e1 hQ1 hR ⊢
  refine lv_aload_n hx hb dL_law_418 rfl (lv_at hl 3 rfl) ?_
  refine cc_v (va_runV (b := s0.heap.size + 104) (As := []) (rest := []) ⟨hx, hb, hml, hown, hts⟩ (ct_X11_thrown hE ⟨_, hR⟩) (cwV 0 hts (lw_V q969 q970 q971 q61 q972) rfl rfl rfl (by decide +kernel) ⟨Nat.le_of_ble_eq_true rfl, Nat.le_of_ble_eq_true rfl⟩) (cc_pV hW0 (cc_re hK hR.mo (show gcl[10]? = _ from rfl))) rfl rfl hl.1 rfl (lv_room (Nat.le_of_ble_eq_true rfl)) dL_law_419 ⟨by show cells + 2 + 0 ≤ 600128; omega, by show slots + 41 + 0 ≤ 7301098; omega⟩) hL (fun H locs hP1 hL => ?_)
  subst hP1
  refine lv_iload hx hb dL_law_422 (lv_at hl 0 rfl) ?_
  refine lv_icmp_eq (tgt := 429) hx hb dL_law_424 (by decide) (fun c1 => ?_) (fun c1 => absurd e1.symm c1)
  refine lv_goto (tgt := 1428) hx hb dL_law_429 (by decide) ?_
  refine W.widen (k := cells + 300) (n := slots + 10800) (by omega) (by omega) ?_
  exact kk _ _ _ _ _ _ hQ1 ⟨_, hR⟩ (lv_sub hl [1, 2, 3, 4, 5] rfl) hL
set_option maxHeartbeats 4000000 in
set_option maxRecDepth 100000 in
theorem law_c4 {l : Launch} {p : Program} {e : Env} {s0 : State} {m : MethodId} {below : List Frame} {meth : Method} {c : Code} {D : va_G} {DA : Nat → ClassId} {z0 b L : Nat} {xs : Nat → Int32} (hF : LF l p s0 m c D DA z0 b L xs) {C : CS} {M : MS} {o : Int64} {H : Heap} (hR : RR s0 D DA z0 C M o H) (hQ : Rel C M) {i : Nat} (hi : i + 6 ≤ L) {locs : List Loc} {ls : Array Slot} {cells slots : Nat} (hl : lv_has ls 8 [(4, .int (nI i)), (3, .ref (s0.heap.size + 128)), (2, .ref (s0.heap.size + 104)), (1, .ref s0.heap.size), (0, .ref b)]) (hL : gx_L s0.heap.size locs) (hroom : cells + 300 ≤ 600128 ∧ slots + 10800 ≤ 7301098) {Q : State → Prop} (kk : ∀ (C : CS) (M : MS) (o : Int64) (H : Heap) (locs : List Loc) (ls : Array Slot), Rel C M → RR s0 D DA z0 C M o H → lv_has ls 8 [(4, .int (nI i)), (3, .ref (s0.heap.size + 128)), (2, .ref (s0.heap.size + 104)), (1, .ref s0.heap.size), (0, .ref b)] → gx_L s0.heap.size locs → W p l e room_1 s0 m #[Value.ref b] below meth c H locs (cells + 300) (slots + 10800) Q (F0 m 1428 ls [])) : W p l e room_1 s0 m #[Value.ref b] below meth c H locs cells slots Q (F0 m 432 ls []) := by
  obtain ⟨hE, hx, hb, hml, hown, hts, hW0, hX, hbl, hL384⟩ := hF
  have hK := hE.K
  have hbA : ¬ (fun q : Nat => s0.heap.size ≤ q) b := Nat.not_le.mpr hbl
  obtain ⟨Y, hR⟩ := hR
  refine lv_aload_n hx hb dL_law_432 rfl (lv_at hl 3 rfl) ?_
  refine lv_aload_n hx hb dL_law_433 rfl (lv_at hl 4 rfl) ?_
  refine lv_iload hx hb dL_law_434 (lv_at hl 0 rfl) ?_
  refine lv_iconst (v := 1) hx hb dL_law_436 (by decide) ?_
  refine lv_iadd hx hb dL_law_437 ?_
  refine gx_ti (nI (i + 1)) (nI_add i 1) ?_
  refine va_sld hx hb hX hbl hbA (law_S hR hL) (i := nI (i + 1)) (nI_in (by omega) (by omega)) dL_law_438 ?_
  refine gx_ti (xs (i + 1)) (by rw [nI_clamp (by omega)]) ?_
  refine lv_aload_n hx hb dL_law_439 rfl (lv_at hl 4 rfl) ?_
  refine lv_iload hx hb dL_law_440 (lv_at hl 0 rfl) ?_
  refine lv_iconst (v := 2) hx hb dL_law_442 (by decide) ?_
  refine lv_iadd hx hb dL_law_443 ?_
  refine gx_ti (nI (i + 2)) (nI_add i 2) ?_
  refine va_sld hx hb hX hbl hbA (law_S hR hL) (i := nI (i + 2)) (nI_in (by omega) (by omega)) dL_law_444 ?_
  refine gx_ti (xs (i + 2)) (by rw [nI_clamp (by omega)]) ?_
  refine lv_aload_n hx hb dL_law_445 rfl (lv_at hl 1 rfl) ?_
  have hr9 := r_stock hQ o (xs (i + 1)) (xs (i + 2))
  refine cc_v (va_runSW (As := [.ref s0.heap.size, .int (xs (i + 1)), .int (xs (i + 2)), .ref (s0.heap.size + 128)]) (rest := []) ⟨hx, hb, hml, hown, hts⟩ (ct_X0_stock hE ⟨_, hR⟩ (xs (i + 1)) (xs (i + 2))) (va_cwSW 4 hts (lw_SW q711 q712 q46 q713) rfl rfl rfl (by decide +kernel) ⟨Nat.le_of_ble_eq_true rfl, Nat.le_of_ble_eq_true rfl⟩) (cc_pS hW0) rfl rfl hl.1 rfl (lv_room (Nat.le_of_ble_eq_true rfl)) dL_law_446 ⟨by show cells + 1 ≤ 600128; omega, by show slots + 6 ≤ 7301098; omega⟩) hL (fun H locs hP1 hL => ?_)
  obtain ⟨Y, hR⟩ := hP1
  generalize (k_stock C o (xs (i + 1)) (xs (i + 2))) = k9 at hr9 hR ⊢
  refine lv_istore (lv' := [(5, .int k9.1), (4, .int (nI i)), (3, .ref (s0.heap.size + 128)), (2, .ref (s0.heap.size + 104)), (1, .ref s0.heap.size), (0, .ref b)]) hx hb dL_law_449 hl (by decide) rfl (fun ls hl => ?_)
  refine lv_aload_n hx hb dL_law_451 rfl (lv_at hl 3 rfl) ?_
  refine lv_aload_n hx hb dL_law_452 rfl (lv_at hl 5 rfl) ?_
  refine lv_iload hx hb dL_law_453 (lv_at hl 1 rfl) ?_
  refine lv_iconst (v := 1) hx hb dL_law_455 (by decide) ?_
  refine lv_iadd hx hb dL_law_456 ?_
  refine gx_ti (nI (i + 1)) (nI_add i 1) ?_
  refine va_sld hx hb hX hbl hbA (law_S hR hL) (i := nI (i + 1)) (nI_in (by omega) (by omega)) dL_law_457 ?_
  refine gx_ti (xs (i + 1)) (by rw [nI_clamp (by omega)]) ?_
  refine lv_aload_n hx hb dL_law_458 rfl (lv_at hl 5 rfl) ?_
  refine lv_iload hx hb dL_law_459 (lv_at hl 1 rfl) ?_
  refine lv_iconst (v := 2) hx hb dL_law_461 (by decide) ?_
  refine lv_iadd hx hb dL_law_462 ?_
  refine gx_ti (nI (i + 2)) (nI_add i 2) ?_
  refine va_sld hx hb hX hbl hbA (law_S hR hL) (i := nI (i + 2)) (nI_in (by omega) (by omega)) dL_law_463 ?_
  refine gx_ti (xs (i + 2)) (by rw [nI_clamp (by omega)]) ?_
  refine cc_v (va_runV (b := s0.heap.size + 104) (As := [.int (xs (i + 1)), .int (xs (i + 2))]) (rest := []) ⟨hx, hb, hml, hown, hts⟩ (ct_X11_stock hE ⟨_, hR⟩ (xs (i + 1)) (xs (i + 2))) (cwV 2 hts (lw_V q1016 q1017 q1018 q61 q1019) rfl rfl rfl (by decide +kernel) ⟨Nat.le_of_ble_eq_true rfl, Nat.le_of_ble_eq_true rfl⟩) (cc_pV hW0 (cc_re hK hR.mo (show gcl[10]? = _ from rfl))) rfl rfl hl.1 rfl (lv_room (Nat.le_of_ble_eq_true rfl)) dL_law_464 ⟨by show cells + 1 + 0 ≤ 600128; omega, by show slots + 6 + 0 ≤ 7301098; omega⟩) hL (fun H locs hP1 hL => ?_)
  obtain ⟨Y, hR⟩ := hP1
  obtain ⟨e1, e2, hQ1⟩ := hr9
  generalize (m_stock M (xs (i + 1)) (xs (i + 2))) = M1 at e1 hQ1 hR ⊢
  generalize (m_stockr M (xs (i + 1)) (xs (i + 2))) = a9 at e2 ⊢
  refine lv_istore (lv' := [(6, .int a9), (5, .int k9.1), (4, .int (nI i)), (3, .ref (s0.heap.size + 128)), (2, .ref (s0.heap.size + 104)), (1, .ref s0.heap.size), (0, .ref b)]) hx hb dL_law_467 hl (by decide) rfl (fun ls hl => ?_)
  refine lv_aload_n hx hb dL_law_469 rfl (lv_at hl 4 rfl) ?_
  refine cc_v (va_runV (b := s0.heap.size + 104) (As := []) (rest := []) ⟨hx, hb, hml, hown, hts⟩ (ct_X11_thrown hE ⟨_, hR⟩) (cwV 0 hts (lw_V q969 q970 q971 q61 q972) rfl rfl rfl (by decide +kernel) ⟨Nat.le_of_ble_eq_true rfl, Nat.le_of_ble_eq_true rfl⟩) (cc_pV hW0 (cc_re hK hR.mo (show gcl[10]? = _ from rfl))) rfl rfl hl.1 rfl (lv_room (Nat.le_of_ble_eq_true rfl)) dL_law_470 ⟨by show cells + 1 + 0 ≤ 600128; omega, by show slots + 6 + 0 ≤ 7301098; omega⟩) hL (fun H locs hP1 hL => ?_)
  subst hP1
  refine lv_iload hx hb dL_law_473 (lv_at hl 1 rfl) ?_
  refine lv_icmp_eq (tgt := 480) hx hb dL_law_475 (by decide) (fun c1 => ?_) (fun c1 => absurd e1.symm c1)
  refine lv_iload hx hb dL_law_480 (lv_at hl 1 rfl) ?_
  refine lv_if_ne (tgt := 497) hx hb dL_law_482 (by decide) (fun c2 => ?_) (fun c2 => ?_)
  · skip
    refine lv_goto (tgt := 1428) hx hb dL_law_497 (by decide) ?_
    refine W.widen (k := cells + 300) (n := slots + 10800) (by omega) (by omega) ?_
    exact kk _ _ _ _ _ _ hQ1 ⟨_, hR⟩ (lv_sub hl [2, 3, 4, 5, 6] rfl) hL
  · skip
    refine lv_aload_n hx hb dL_law_485 rfl (lv_at hl 3 rfl) ?_
    refine lv_iconst (v := 0) hx hb dL_law_486 (by decide) ?_
    refine gx_lald (n := 1) hx hb hK 0 hR.out rfl 0 (by decide) (by decide) (by decide) dL_law_487 ?_
    refine lv_iload hx hb dL_law_488 (lv_at hl 0 rfl) ?_
    refine lv_i2l (v := a9.toInt64) hx hb dL_law_490 rfl ?_
    refine gx_lc_eq (tgt := 497) (pc1 := 492) hx hb rfl dL_law_491 dL_law_492 (by decide) (fun c3 => ?_) (fun c3 => absurd (e2 c2) c3)
    refine lv_goto (tgt := 1428) hx hb dL_law_497 (by decide) ?_
    refine W.widen (k := cells + 300) (n := slots + 10800) (by omega) (by omega) ?_
    exact kk _ _ _ _ _ _ hQ1 ⟨_, hR⟩ (lv_sub hl [2, 3, 4, 5, 6] rfl) hL
set_option maxHeartbeats 4000000 in
set_option maxRecDepth 100000 in
theorem law_c5 {l : Launch} {p : Program} {e : Env} {s0 : State} {m : MethodId} {below : List Frame} {meth : Method} {c : Code} {D : va_G} {DA : Nat → ClassId} {z0 b L : Nat} {xs : Nat → Int32} (hF : LF l p s0 m c D DA z0 b L xs) {C : CS} {M : MS} {o : Int64} {H : Heap} (hR : RR s0 D DA z0 C M o H) (hQ : Rel C M) {i : Nat} (hi : i + 6 ≤ L) {locs : List Loc} {ls : Array Slot} {cells slots : Nat} (hl : lv_has ls 8 [(4, .int (nI i)), (3, .ref (s0.heap.size + 128)), (2, .ref (s0.heap.size + 104)), (1, .ref s0.heap.size), (0, .ref b)]) (hL : gx_L s0.heap.size locs) (hroom : cells + 300 ≤ 600128 ∧ slots + 10800 ≤ 7301098) {Q : State → Prop} (kk : ∀ (C : CS) (M : MS) (o : Int64) (H : Heap) (locs : List Loc) (ls : Array Slot), Rel C M → RR s0 D DA z0 C M o H → lv_has ls 8 [(4, .int (nI i)), (3, .ref (s0.heap.size + 128)), (2, .ref (s0.heap.size + 104)), (1, .ref s0.heap.size), (0, .ref b)] → gx_L s0.heap.size locs → W p l e room_1 s0 m #[Value.ref b] below meth c H locs (cells + 300) (slots + 10800) Q (F0 m 1428 ls [])) : W p l e room_1 s0 m #[Value.ref b] below meth c H locs cells slots Q (F0 m 500 ls []) := by
  obtain ⟨hE, hx, hb, hml, hown, hts, hW0, hX, hbl, hL384⟩ := hF
  have hK := hE.K
  have hbA : ¬ (fun q : Nat => s0.heap.size ≤ q) b := Nat.not_le.mpr hbl
  obtain ⟨Y, hR⟩ := hR
  refine lv_aload_n hx hb dL_law_500 rfl (lv_at hl 3 rfl) ?_
  refine lv_aload_n hx hb dL_law_501 rfl (lv_at hl 4 rfl) ?_
  refine lv_iload hx hb dL_law_502 (lv_at hl 0 rfl) ?_
  refine lv_iconst (v := 1) hx hb dL_law_504 (by decide) ?_
  refine lv_iadd hx hb dL_law_505 ?_
  refine gx_ti (nI (i + 1)) (nI_add i 1) ?_
  refine va_sld hx hb hX hbl hbA (law_S hR hL) (i := nI (i + 1)) (nI_in (by omega) (by omega)) dL_law_506 ?_
  refine gx_ti (xs (i + 1)) (by rw [nI_clamp (by omega)]) ?_
  refine lv_aload_n hx hb dL_law_507 rfl (lv_at hl 4 rfl) ?_
  refine lv_iload hx hb dL_law_508 (lv_at hl 0 rfl) ?_
  refine lv_iconst (v := 2) hx hb dL_law_510 (by decide) ?_
  refine lv_iadd hx hb dL_law_511 ?_
  refine gx_ti (nI (i + 2)) (nI_add i 2) ?_
  refine va_sld hx hb hX hbl hbA (law_S hR hL) (i := nI (i + 2)) (nI_in (by omega) (by omega)) dL_law_512 ?_
  refine gx_ti (xs (i + 2)) (by rw [nI_clamp (by omega)]) ?_
  refine lv_aload_n hx hb dL_law_513 rfl (lv_at hl 4 rfl) ?_
  refine lv_iload hx hb dL_law_514 (lv_at hl 0 rfl) ?_
  refine lv_iconst (v := 3) hx hb dL_law_516 (by decide) ?_
  refine lv_iadd hx hb dL_law_517 ?_
  refine gx_ti (nI (i + 3)) (nI_add i 3) ?_
  refine va_sld hx hb hX hbl hbA (law_S hR hL) (i := nI (i + 3)) (nI_in (by omega) (by omega)) dL_law_518 ?_
  refine gx_ti (xs (i + 3)) (by rw [nI_clamp (by omega)]) ?_
  refine lv_aload_n hx hb dL_law_519 rfl (lv_at hl 1 rfl) ?_
  have hr9 := r_demand hQ o (xs (i + 1)) (xs (i + 2)) (xs (i + 3))
  refine cc_v (va_runSW (As := [.ref s0.heap.size, .int (xs (i + 1)), .int (xs (i + 2)), .int (xs (i + 3)), .ref (s0.heap.size + 128)]) (rest := []) ⟨hx, hb, hml, hown, hts⟩ (ct_X0_demand hE ⟨_, hR⟩ (xs (i + 1)) (xs (i + 2)) (xs (i + 3))) (va_cwSW 5 hts (lw_SW q718 q719 q46 q720) rfl rfl rfl (by decide +kernel) ⟨Nat.le_of_ble_eq_true rfl, Nat.le_of_ble_eq_true rfl⟩) (cc_pS hW0) rfl rfl hl.1 rfl (lv_room (Nat.le_of_ble_eq_true rfl)) dL_law_520 ⟨by show cells + 2 ≤ 600128; omega, by show slots + 39 ≤ 7301098; omega⟩) hL (fun H locs hP1 hL => ?_)
  obtain ⟨Y, hR⟩ := hP1
  generalize (k_demand C o (xs (i + 1)) (xs (i + 2)) (xs (i + 3))) = k9 at hr9 hR ⊢
  refine lv_istore (lv' := [(5, .int k9.1), (4, .int (nI i)), (3, .ref (s0.heap.size + 128)), (2, .ref (s0.heap.size + 104)), (1, .ref s0.heap.size), (0, .ref b)]) hx hb dL_law_523 hl (by decide) rfl (fun ls hl => ?_)
  refine lv_aload_n hx hb dL_law_525 rfl (lv_at hl 3 rfl) ?_
  refine lv_aload_n hx hb dL_law_526 rfl (lv_at hl 5 rfl) ?_
  refine lv_iload hx hb dL_law_527 (lv_at hl 1 rfl) ?_
  refine lv_iconst (v := 1) hx hb dL_law_529 (by decide) ?_
  refine lv_iadd hx hb dL_law_530 ?_
  refine gx_ti (nI (i + 1)) (nI_add i 1) ?_
  refine va_sld hx hb hX hbl hbA (law_S hR hL) (i := nI (i + 1)) (nI_in (by omega) (by omega)) dL_law_531 ?_
  refine gx_ti (xs (i + 1)) (by rw [nI_clamp (by omega)]) ?_
  refine lv_aload_n hx hb dL_law_532 rfl (lv_at hl 5 rfl) ?_
  refine lv_iload hx hb dL_law_533 (lv_at hl 1 rfl) ?_
  refine lv_iconst (v := 2) hx hb dL_law_535 (by decide) ?_
  refine lv_iadd hx hb dL_law_536 ?_
  refine gx_ti (nI (i + 2)) (nI_add i 2) ?_
  refine va_sld hx hb hX hbl hbA (law_S hR hL) (i := nI (i + 2)) (nI_in (by omega) (by omega)) dL_law_537 ?_
  refine gx_ti (xs (i + 2)) (by rw [nI_clamp (by omega)]) ?_
  refine lv_aload_n hx hb dL_law_538 rfl (lv_at hl 5 rfl) ?_
  refine lv_iload hx hb dL_law_539 (lv_at hl 1 rfl) ?_
  refine lv_iconst (v := 3) hx hb dL_law_541 (by decide) ?_
  refine lv_iadd hx hb dL_law_542 ?_
  refine gx_ti (nI (i + 3)) (nI_add i 3) ?_
  refine va_sld hx hb hX hbl hbA (law_S hR hL) (i := nI (i + 3)) (nI_in (by omega) (by omega)) dL_law_543 ?_
  refine gx_ti (xs (i + 3)) (by rw [nI_clamp (by omega)]) ?_
  refine cc_v (va_runV (b := s0.heap.size + 104) (As := [.int (xs (i + 1)), .int (xs (i + 2)), .int (xs (i + 3))]) (rest := []) ⟨hx, hb, hml, hown, hts⟩ (ct_X11_demand hE ⟨_, hR⟩ (xs (i + 1)) (xs (i + 2)) (xs (i + 3)) hQ.mc) (cwV 3 hts (lw_V q1020 q1021 q1022 q61 q1023) rfl rfl rfl (by decide +kernel) ⟨Nat.le_of_ble_eq_true rfl, Nat.le_of_ble_eq_true rfl⟩) (cc_pV hW0 (cc_re hK hR.mo (show gcl[10]? = _ from rfl))) rfl rfl hl.1 rfl (lv_room (Nat.le_of_ble_eq_true rfl)) dL_law_544 ⟨by show cells + 2 + 0 ≤ 600128; omega, by show slots + 39 + 0 ≤ 7301098; omega⟩) hL (fun H locs hP1 hL => ?_)
  obtain ⟨Y, hR⟩ := hP1
  obtain ⟨e1, e2, hQ1⟩ := hr9
  generalize (m_addT M 0 (xs (i + 1)) (xs (i + 2)) (xs (i + 3))) = M1 at e1 hQ1 hR ⊢
  generalize (m_addTr M 0 (xs (i + 1)) (xs (i + 2)) (xs (i + 3))) = a9 at e2 ⊢
  refine lv_istore (lv' := [(6, .int a9), (5, .int k9.1), (4, .int (nI i)), (3, .ref (s0.heap.size + 128)), (2, .ref (s0.heap.size + 104)), (1, .ref s0.heap.size), (0, .ref b)]) hx hb dL_law_547 hl (by decide) rfl (fun ls hl => ?_)
  refine lv_aload_n hx hb dL_law_549 rfl (lv_at hl 4 rfl) ?_
  refine cc_v (va_runV (b := s0.heap.size + 104) (As := []) (rest := []) ⟨hx, hb, hml, hown, hts⟩ (ct_X11_thrown hE ⟨_, hR⟩) (cwV 0 hts (lw_V q969 q970 q971 q61 q972) rfl rfl rfl (by decide +kernel) ⟨Nat.le_of_ble_eq_true rfl, Nat.le_of_ble_eq_true rfl⟩) (cc_pV hW0 (cc_re hK hR.mo (show gcl[10]? = _ from rfl))) rfl rfl hl.1 rfl (lv_room (Nat.le_of_ble_eq_true rfl)) dL_law_550 ⟨by show cells + 2 + 0 ≤ 600128; omega, by show slots + 39 + 0 ≤ 7301098; omega⟩) hL (fun H locs hP1 hL => ?_)
  subst hP1
  refine lv_iload hx hb dL_law_553 (lv_at hl 1 rfl) ?_
  refine lv_icmp_eq (tgt := 560) hx hb dL_law_555 (by decide) (fun c1 => ?_) (fun c1 => absurd e1.symm c1)
  refine lv_iload hx hb dL_law_560 (lv_at hl 1 rfl) ?_
  refine lv_if_ne (tgt := 577) hx hb dL_law_562 (by decide) (fun c2 => ?_) (fun c2 => ?_)
  · skip
    refine lv_goto (tgt := 1428) hx hb dL_law_577 (by decide) ?_
    refine W.widen (k := cells + 300) (n := slots + 10800) (by omega) (by omega) ?_
    exact kk _ _ _ _ _ _ hQ1 ⟨_, hR⟩ (lv_sub hl [2, 3, 4, 5, 6] rfl) hL
  · skip
    refine lv_aload_n hx hb dL_law_565 rfl (lv_at hl 3 rfl) ?_
    refine lv_iconst (v := 0) hx hb dL_law_566 (by decide) ?_
    refine gx_lald (n := 1) hx hb hK 0 hR.out rfl 0 (by decide) (by decide) (by decide) dL_law_567 ?_
    refine lv_iload hx hb dL_law_568 (lv_at hl 0 rfl) ?_
    refine lv_i2l (v := a9.toInt64) hx hb dL_law_570 rfl ?_
    refine gx_lc_eq (tgt := 577) (pc1 := 572) hx hb rfl dL_law_571 dL_law_572 (by decide) (fun c3 => ?_) (fun c3 => absurd (e2 c2) c3)
    refine lv_goto (tgt := 1428) hx hb dL_law_577 (by decide) ?_
    refine W.widen (k := cells + 300) (n := slots + 10800) (by omega) (by omega) ?_
    exact kk _ _ _ _ _ _ hQ1 ⟨_, hR⟩ (lv_sub hl [2, 3, 4, 5, 6] rfl) hL
set_option maxHeartbeats 4000000 in
set_option maxRecDepth 100000 in
theorem law_c6 {l : Launch} {p : Program} {e : Env} {s0 : State} {m : MethodId} {below : List Frame} {meth : Method} {c : Code} {D : va_G} {DA : Nat → ClassId} {z0 b L : Nat} {xs : Nat → Int32} (hF : LF l p s0 m c D DA z0 b L xs) {C : CS} {M : MS} {o : Int64} {H : Heap} (hR : RR s0 D DA z0 C M o H) (hQ : Rel C M) {i : Nat} (hi : i + 6 ≤ L) {locs : List Loc} {ls : Array Slot} {cells slots : Nat} (hl : lv_has ls 8 [(4, .int (nI i)), (3, .ref (s0.heap.size + 128)), (2, .ref (s0.heap.size + 104)), (1, .ref s0.heap.size), (0, .ref b)]) (hL : gx_L s0.heap.size locs) (hroom : cells + 300 ≤ 600128 ∧ slots + 10800 ≤ 7301098) {Q : State → Prop} (kk : ∀ (C : CS) (M : MS) (o : Int64) (H : Heap) (locs : List Loc) (ls : Array Slot), Rel C M → RR s0 D DA z0 C M o H → lv_has ls 8 [(4, .int (nI i)), (3, .ref (s0.heap.size + 128)), (2, .ref (s0.heap.size + 104)), (1, .ref s0.heap.size), (0, .ref b)] → gx_L s0.heap.size locs → W p l e room_1 s0 m #[Value.ref b] below meth c H locs (cells + 300) (slots + 10800) Q (F0 m 1428 ls [])) : W p l e room_1 s0 m #[Value.ref b] below meth c H locs cells slots Q (F0 m 580 ls []) := by
  obtain ⟨hE, hx, hb, hml, hown, hts, hW0, hX, hbl, hL384⟩ := hF
  have hK := hE.K
  have hbA : ¬ (fun q : Nat => s0.heap.size ≤ q) b := Nat.not_le.mpr hbl
  obtain ⟨Y, hR⟩ := hR
  refine lv_aload_n hx hb dL_law_580 rfl (lv_at hl 3 rfl) ?_
  refine lv_aload_n hx hb dL_law_581 rfl (lv_at hl 4 rfl) ?_
  refine lv_iload hx hb dL_law_582 (lv_at hl 0 rfl) ?_
  refine lv_iconst (v := 1) hx hb dL_law_584 (by decide) ?_
  refine lv_iadd hx hb dL_law_585 ?_
  refine gx_ti (nI (i + 1)) (nI_add i 1) ?_
  refine va_sld hx hb hX hbl hbA (law_S hR hL) (i := nI (i + 1)) (nI_in (by omega) (by omega)) dL_law_586 ?_
  refine gx_ti (xs (i + 1)) (by rw [nI_clamp (by omega)]) ?_
  refine lv_aload_n hx hb dL_law_587 rfl (lv_at hl 4 rfl) ?_
  refine lv_iload hx hb dL_law_588 (lv_at hl 0 rfl) ?_
  refine lv_iconst (v := 2) hx hb dL_law_590 (by decide) ?_
  refine lv_iadd hx hb dL_law_591 ?_
  refine gx_ti (nI (i + 2)) (nI_add i 2) ?_
  refine va_sld hx hb hX hbl hbA (law_S hR hL) (i := nI (i + 2)) (nI_in (by omega) (by omega)) dL_law_592 ?_
  refine gx_ti (xs (i + 2)) (by rw [nI_clamp (by omega)]) ?_
  refine lv_aload_n hx hb dL_law_593 rfl (lv_at hl 4 rfl) ?_
  refine lv_iload hx hb dL_law_594 (lv_at hl 0 rfl) ?_
  refine lv_iconst (v := 3) hx hb dL_law_596 (by decide) ?_
  refine lv_iadd hx hb dL_law_597 ?_
  refine gx_ti (nI (i + 3)) (nI_add i 3) ?_
  refine va_sld hx hb hX hbl hbA (law_S hR hL) (i := nI (i + 3)) (nI_in (by omega) (by omega)) dL_law_598 ?_
  refine gx_ti (xs (i + 3)) (by rw [nI_clamp (by omega)]) ?_
  refine lv_aload_n hx hb dL_law_599 rfl (lv_at hl 1 rfl) ?_
  have hr9 := r_change hQ o (xs (i + 1)) (xs (i + 2)) (xs (i + 3))
  refine cc_v (va_runSW (As := [.ref s0.heap.size, .int (xs (i + 1)), .int (xs (i + 2)), .int (xs (i + 3)), .ref (s0.heap.size + 128)]) (rest := []) ⟨hx, hb, hml, hown, hts⟩ (ct_X0_change hE ⟨_, hR⟩ (xs (i + 1)) (xs (i + 2)) (xs (i + 3)) hQ.cc) (va_cwSW 5 hts (lw_SW q763 q764 q46 q765) rfl rfl rfl (by decide +kernel) ⟨Nat.le_of_ble_eq_true rfl, Nat.le_of_ble_eq_true rfl⟩) (cc_pS hW0) rfl rfl hl.1 rfl (lv_room (Nat.le_of_ble_eq_true rfl)) dL_law_600 ⟨by show cells + 1 ≤ 600128; omega, by show slots + 6 ≤ 7301098; omega⟩) hL (fun H locs hP1 hL => ?_)
  obtain ⟨Y, hR⟩ := hP1
  generalize (k_change C o (xs (i + 1)) (xs (i + 2)) (xs (i + 3))) = k9 at hr9 hR ⊢
  refine lv_istore (lv' := [(5, .int k9.1), (4, .int (nI i)), (3, .ref (s0.heap.size + 128)), (2, .ref (s0.heap.size + 104)), (1, .ref s0.heap.size), (0, .ref b)]) hx hb dL_law_603 hl (by decide) rfl (fun ls hl => ?_)
  refine lv_aload_n hx hb dL_law_605 rfl (lv_at hl 3 rfl) ?_
  refine lv_aload_n hx hb dL_law_606 rfl (lv_at hl 5 rfl) ?_
  refine lv_iload hx hb dL_law_607 (lv_at hl 1 rfl) ?_
  refine lv_iconst (v := 1) hx hb dL_law_609 (by decide) ?_
  refine lv_iadd hx hb dL_law_610 ?_
  refine gx_ti (nI (i + 1)) (nI_add i 1) ?_
  refine va_sld hx hb hX hbl hbA (law_S hR hL) (i := nI (i + 1)) (nI_in (by omega) (by omega)) dL_law_611 ?_
  refine gx_ti (xs (i + 1)) (by rw [nI_clamp (by omega)]) ?_
  refine lv_aload_n hx hb dL_law_612 rfl (lv_at hl 5 rfl) ?_
  refine lv_iload hx hb dL_law_613 (lv_at hl 1 rfl) ?_
  refine lv_iconst (v := 2) hx hb dL_law_615 (by decide) ?_
  refine lv_iadd hx hb dL_law_616 ?_
  refine gx_ti (nI (i + 2)) (nI_add i 2) ?_
  refine va_sld hx hb hX hbl hbA (law_S hR hL) (i := nI (i + 2)) (nI_in (by omega) (by omega)) dL_law_617 ?_
  refine gx_ti (xs (i + 2)) (by rw [nI_clamp (by omega)]) ?_
  refine lv_aload_n hx hb dL_law_618 rfl (lv_at hl 5 rfl) ?_
  refine lv_iload hx hb dL_law_619 (lv_at hl 1 rfl) ?_
  refine lv_iconst (v := 3) hx hb dL_law_621 (by decide) ?_
  refine lv_iadd hx hb dL_law_622 ?_
  refine gx_ti (nI (i + 3)) (nI_add i 3) ?_
  refine va_sld hx hb hX hbl hbA (law_S hR hL) (i := nI (i + 3)) (nI_in (by omega) (by omega)) dL_law_623 ?_
  refine gx_ti (xs (i + 3)) (by rw [nI_clamp (by omega)]) ?_
  refine cc_v (va_runV (b := s0.heap.size + 104) (As := [.int (xs (i + 1)), .int (xs (i + 2)), .int (xs (i + 3))]) (rest := []) ⟨hx, hb, hml, hown, hts⟩ (ct_X11_change hE ⟨_, hR⟩ (xs (i + 1)) (xs (i + 2)) (xs (i + 3)) hQ.mc) (cwV 3 hts (lw_V q1036 q1037 q1038 q61 q1039) rfl rfl rfl (by decide +kernel) ⟨Nat.le_of_ble_eq_true rfl, Nat.le_of_ble_eq_true rfl⟩) (cc_pV hW0 (cc_re hK hR.mo (show gcl[10]? = _ from rfl))) rfl rfl hl.1 rfl (lv_room (Nat.le_of_ble_eq_true rfl)) dL_law_624 ⟨by show cells + 1 + 0 ≤ 600128; omega, by show slots + 6 + 0 ≤ 7301098; omega⟩) hL (fun H locs hP1 hL => ?_)
  obtain ⟨Y, hR⟩ := hP1
  obtain ⟨e1, e2, hQ1⟩ := hr9
  generalize (m_change M (xs (i + 1)) (xs (i + 2)) (xs (i + 3))) = M1 at e1 hQ1 hR ⊢
  generalize (m_changer M (xs (i + 1)) (xs (i + 2)) (xs (i + 3))) = a9 at e2 ⊢
  refine lv_istore (lv' := [(6, .int a9), (5, .int k9.1), (4, .int (nI i)), (3, .ref (s0.heap.size + 128)), (2, .ref (s0.heap.size + 104)), (1, .ref s0.heap.size), (0, .ref b)]) hx hb dL_law_627 hl (by decide) rfl (fun ls hl => ?_)
  refine lv_aload_n hx hb dL_law_629 rfl (lv_at hl 4 rfl) ?_
  refine cc_v (va_runV (b := s0.heap.size + 104) (As := []) (rest := []) ⟨hx, hb, hml, hown, hts⟩ (ct_X11_thrown hE ⟨_, hR⟩) (cwV 0 hts (lw_V q969 q970 q971 q61 q972) rfl rfl rfl (by decide +kernel) ⟨Nat.le_of_ble_eq_true rfl, Nat.le_of_ble_eq_true rfl⟩) (cc_pV hW0 (cc_re hK hR.mo (show gcl[10]? = _ from rfl))) rfl rfl hl.1 rfl (lv_room (Nat.le_of_ble_eq_true rfl)) dL_law_630 ⟨by show cells + 1 + 0 ≤ 600128; omega, by show slots + 6 + 0 ≤ 7301098; omega⟩) hL (fun H locs hP1 hL => ?_)
  subst hP1
  refine lv_iload hx hb dL_law_633 (lv_at hl 1 rfl) ?_
  refine lv_icmp_eq (tgt := 640) hx hb dL_law_635 (by decide) (fun c1 => ?_) (fun c1 => absurd e1.symm c1)
  refine lv_iload hx hb dL_law_640 (lv_at hl 1 rfl) ?_
  refine lv_if_ne (tgt := 657) hx hb dL_law_642 (by decide) (fun c2 => ?_) (fun c2 => ?_)
  · skip
    refine lv_goto (tgt := 1428) hx hb dL_law_657 (by decide) ?_
    refine W.widen (k := cells + 300) (n := slots + 10800) (by omega) (by omega) ?_
    exact kk _ _ _ _ _ _ hQ1 ⟨_, hR⟩ (lv_sub hl [2, 3, 4, 5, 6] rfl) hL
  · skip
    refine lv_aload_n hx hb dL_law_645 rfl (lv_at hl 3 rfl) ?_
    refine lv_iconst (v := 0) hx hb dL_law_646 (by decide) ?_
    refine gx_lald (n := 1) hx hb hK 0 hR.out rfl 0 (by decide) (by decide) (by decide) dL_law_647 ?_
    refine lv_iload hx hb dL_law_648 (lv_at hl 0 rfl) ?_
    refine lv_i2l (v := a9.toInt64) hx hb dL_law_650 rfl ?_
    refine gx_lc_eq (tgt := 657) (pc1 := 652) hx hb rfl dL_law_651 dL_law_652 (by decide) (fun c3 => ?_) (fun c3 => absurd (e2 c2) c3)
    refine lv_goto (tgt := 1428) hx hb dL_law_657 (by decide) ?_
    refine W.widen (k := cells + 300) (n := slots + 10800) (by omega) (by omega) ?_
    exact kk _ _ _ _ _ _ hQ1 ⟨_, hR⟩ (lv_sub hl [2, 3, 4, 5, 6] rfl) hL
set_option maxHeartbeats 4000000 in
set_option maxRecDepth 100000 in
theorem law_c7 {l : Launch} {p : Program} {e : Env} {s0 : State} {m : MethodId} {below : List Frame} {meth : Method} {c : Code} {D : va_G} {DA : Nat → ClassId} {z0 b L : Nat} {xs : Nat → Int32} (hF : LF l p s0 m c D DA z0 b L xs) {C : CS} {M : MS} {o : Int64} {H : Heap} (hR : RR s0 D DA z0 C M o H) (hQ : Rel C M) {i : Nat} (hi : i + 6 ≤ L) {locs : List Loc} {ls : Array Slot} {cells slots : Nat} (hl : lv_has ls 8 [(4, .int (nI i)), (3, .ref (s0.heap.size + 128)), (2, .ref (s0.heap.size + 104)), (1, .ref s0.heap.size), (0, .ref b)]) (hL : gx_L s0.heap.size locs) (hroom : cells + 300 ≤ 600128 ∧ slots + 10800 ≤ 7301098) {Q : State → Prop} (kk : ∀ (C : CS) (M : MS) (o : Int64) (H : Heap) (locs : List Loc) (ls : Array Slot), Rel C M → RR s0 D DA z0 C M o H → lv_has ls 8 [(4, .int (nI i)), (3, .ref (s0.heap.size + 128)), (2, .ref (s0.heap.size + 104)), (1, .ref s0.heap.size), (0, .ref b)] → gx_L s0.heap.size locs → W p l e room_1 s0 m #[Value.ref b] below meth c H locs (cells + 300) (slots + 10800) Q (F0 m 1428 ls [])) : W p l e room_1 s0 m #[Value.ref b] below meth c H locs cells slots Q (F0 m 660 ls []) := by
  obtain ⟨hE, hx, hb, hml, hown, hts, hW0, hX, hbl, hL384⟩ := hF
  have hK := hE.K
  have hbA : ¬ (fun q : Nat => s0.heap.size ≤ q) b := Nat.not_le.mpr hbl
  obtain ⟨Y, hR⟩ := hR
  refine lv_aload_n hx hb dL_law_660 rfl (lv_at hl 3 rfl) ?_
  refine lv_aload_n hx hb dL_law_661 rfl (lv_at hl 4 rfl) ?_
  refine lv_iload hx hb dL_law_662 (lv_at hl 0 rfl) ?_
  refine lv_iconst (v := 1) hx hb dL_law_664 (by decide) ?_
  refine lv_iadd hx hb dL_law_665 ?_
  refine gx_ti (nI (i + 1)) (nI_add i 1) ?_
  refine va_sld hx hb hX hbl hbA (law_S hR hL) (i := nI (i + 1)) (nI_in (by omega) (by omega)) dL_law_666 ?_
  refine gx_ti (xs (i + 1)) (by rw [nI_clamp (by omega)]) ?_
  refine lv_aload_n hx hb dL_law_667 rfl (lv_at hl 4 rfl) ?_
  refine lv_iload hx hb dL_law_668 (lv_at hl 0 rfl) ?_
  refine lv_iconst (v := 2) hx hb dL_law_670 (by decide) ?_
  refine lv_iadd hx hb dL_law_671 ?_
  refine gx_ti (nI (i + 2)) (nI_add i 2) ?_
  refine va_sld hx hb hX hbl hbA (law_S hR hL) (i := nI (i + 2)) (nI_in (by omega) (by omega)) dL_law_672 ?_
  refine gx_ti (xs (i + 2)) (by rw [nI_clamp (by omega)]) ?_
  refine lv_aload_n hx hb dL_law_673 rfl (lv_at hl 4 rfl) ?_
  refine lv_iload hx hb dL_law_674 (lv_at hl 0 rfl) ?_
  refine lv_iconst (v := 3) hx hb dL_law_676 (by decide) ?_
  refine lv_iadd hx hb dL_law_677 ?_
  refine gx_ti (nI (i + 3)) (nI_add i 3) ?_
  refine va_sld hx hb hX hbl hbA (law_S hR hL) (i := nI (i + 3)) (nI_in (by omega) (by omega)) dL_law_678 ?_
  refine gx_ti (xs (i + 3)) (by rw [nI_clamp (by omega)]) ?_
  refine lv_aload_n hx hb dL_law_679 rfl (lv_at hl 1 rfl) ?_
  have hr9 := r_order hQ o (xs (i + 1)) (xs (i + 2)) (xs (i + 3))
  refine cc_v (va_runSW (As := [.ref s0.heap.size, .int (xs (i + 1)), .int (xs (i + 2)), .int (xs (i + 3)), .ref (s0.heap.size + 128)]) (rest := []) ⟨hx, hb, hml, hown, hts⟩ (ct_X0_order hE ⟨_, hR⟩ (xs (i + 1)) (xs (i + 2)) (xs (i + 3))) (va_cwSW 5 hts (lw_SW q773 q774 q46 q775) rfl rfl rfl (by decide +kernel) ⟨Nat.le_of_ble_eq_true rfl, Nat.le_of_ble_eq_true rfl⟩) (cc_pS hW0) rfl rfl hl.1 rfl (lv_room (Nat.le_of_ble_eq_true rfl)) dL_law_680 ⟨by show cells + 2 ≤ 600128; omega, by show slots + 39 ≤ 7301098; omega⟩) hL (fun H locs hP1 hL => ?_)
  obtain ⟨Y, hR⟩ := hP1
  generalize (k_order C o (xs (i + 1)) (xs (i + 2)) (xs (i + 3))) = k9 at hr9 hR ⊢
  refine lv_istore (lv' := [(5, .int k9.1), (4, .int (nI i)), (3, .ref (s0.heap.size + 128)), (2, .ref (s0.heap.size + 104)), (1, .ref s0.heap.size), (0, .ref b)]) hx hb dL_law_683 hl (by decide) rfl (fun ls hl => ?_)
  refine lv_aload_n hx hb dL_law_685 rfl (lv_at hl 3 rfl) ?_
  refine lv_aload_n hx hb dL_law_686 rfl (lv_at hl 5 rfl) ?_
  refine lv_iload hx hb dL_law_687 (lv_at hl 1 rfl) ?_
  refine lv_iconst (v := 1) hx hb dL_law_689 (by decide) ?_
  refine lv_iadd hx hb dL_law_690 ?_
  refine gx_ti (nI (i + 1)) (nI_add i 1) ?_
  refine va_sld hx hb hX hbl hbA (law_S hR hL) (i := nI (i + 1)) (nI_in (by omega) (by omega)) dL_law_691 ?_
  refine gx_ti (xs (i + 1)) (by rw [nI_clamp (by omega)]) ?_
  refine lv_aload_n hx hb dL_law_692 rfl (lv_at hl 5 rfl) ?_
  refine lv_iload hx hb dL_law_693 (lv_at hl 1 rfl) ?_
  refine lv_iconst (v := 2) hx hb dL_law_695 (by decide) ?_
  refine lv_iadd hx hb dL_law_696 ?_
  refine gx_ti (nI (i + 2)) (nI_add i 2) ?_
  refine va_sld hx hb hX hbl hbA (law_S hR hL) (i := nI (i + 2)) (nI_in (by omega) (by omega)) dL_law_697 ?_
  refine gx_ti (xs (i + 2)) (by rw [nI_clamp (by omega)]) ?_
  refine lv_aload_n hx hb dL_law_698 rfl (lv_at hl 5 rfl) ?_
  refine lv_iload hx hb dL_law_699 (lv_at hl 1 rfl) ?_
  refine lv_iconst (v := 3) hx hb dL_law_701 (by decide) ?_
  refine lv_iadd hx hb dL_law_702 ?_
  refine gx_ti (nI (i + 3)) (nI_add i 3) ?_
  refine va_sld hx hb hX hbl hbA (law_S hR hL) (i := nI (i + 3)) (nI_in (by omega) (by omega)) dL_law_703 ?_
  refine gx_ti (xs (i + 3)) (by rw [nI_clamp (by omega)]) ?_
  refine cc_v (va_runV (b := s0.heap.size + 104) (As := [.int (xs (i + 1)), .int (xs (i + 2)), .int (xs (i + 3))]) (rest := []) ⟨hx, hb, hml, hown, hts⟩ (ct_X11_order hE ⟨_, hR⟩ (xs (i + 1)) (xs (i + 2)) (xs (i + 3)) hQ.mc) (cwV 3 hts (lw_V q1032 q1033 q1034 q61 q1035) rfl rfl rfl (by decide +kernel) ⟨Nat.le_of_ble_eq_true rfl, Nat.le_of_ble_eq_true rfl⟩) (cc_pV hW0 (cc_re hK hR.mo (show gcl[10]? = _ from rfl))) rfl rfl hl.1 rfl (lv_room (Nat.le_of_ble_eq_true rfl)) dL_law_704 ⟨by show cells + 2 + 0 ≤ 600128; omega, by show slots + 39 + 0 ≤ 7301098; omega⟩) hL (fun H locs hP1 hL => ?_)
  obtain ⟨Y, hR⟩ := hP1
  obtain ⟨e1, e2, hQ1⟩ := hr9
  generalize (m_addT M 1 (xs (i + 1)) (xs (i + 2)) (xs (i + 3))) = M1 at e1 hQ1 hR ⊢
  generalize (m_addTr M 1 (xs (i + 1)) (xs (i + 2)) (xs (i + 3))) = a9 at e2 ⊢
  refine lv_istore (lv' := [(6, .int a9), (5, .int k9.1), (4, .int (nI i)), (3, .ref (s0.heap.size + 128)), (2, .ref (s0.heap.size + 104)), (1, .ref s0.heap.size), (0, .ref b)]) hx hb dL_law_707 hl (by decide) rfl (fun ls hl => ?_)
  refine lv_aload_n hx hb dL_law_709 rfl (lv_at hl 4 rfl) ?_
  refine cc_v (va_runV (b := s0.heap.size + 104) (As := []) (rest := []) ⟨hx, hb, hml, hown, hts⟩ (ct_X11_thrown hE ⟨_, hR⟩) (cwV 0 hts (lw_V q969 q970 q971 q61 q972) rfl rfl rfl (by decide +kernel) ⟨Nat.le_of_ble_eq_true rfl, Nat.le_of_ble_eq_true rfl⟩) (cc_pV hW0 (cc_re hK hR.mo (show gcl[10]? = _ from rfl))) rfl rfl hl.1 rfl (lv_room (Nat.le_of_ble_eq_true rfl)) dL_law_710 ⟨by show cells + 2 + 0 ≤ 600128; omega, by show slots + 39 + 0 ≤ 7301098; omega⟩) hL (fun H locs hP1 hL => ?_)
  subst hP1
  refine lv_iload hx hb dL_law_713 (lv_at hl 1 rfl) ?_
  refine lv_icmp_eq (tgt := 720) hx hb dL_law_715 (by decide) (fun c1 => ?_) (fun c1 => absurd e1.symm c1)
  refine lv_iload hx hb dL_law_720 (lv_at hl 1 rfl) ?_
  refine lv_if_ne (tgt := 737) hx hb dL_law_722 (by decide) (fun c2 => ?_) (fun c2 => ?_)
  · skip
    refine lv_goto (tgt := 1428) hx hb dL_law_737 (by decide) ?_
    refine W.widen (k := cells + 300) (n := slots + 10800) (by omega) (by omega) ?_
    exact kk _ _ _ _ _ _ hQ1 ⟨_, hR⟩ (lv_sub hl [2, 3, 4, 5, 6] rfl) hL
  · skip
    refine lv_aload_n hx hb dL_law_725 rfl (lv_at hl 3 rfl) ?_
    refine lv_iconst (v := 0) hx hb dL_law_726 (by decide) ?_
    refine gx_lald (n := 1) hx hb hK 0 hR.out rfl 0 (by decide) (by decide) (by decide) dL_law_727 ?_
    refine lv_iload hx hb dL_law_728 (lv_at hl 0 rfl) ?_
    refine lv_i2l (v := a9.toInt64) hx hb dL_law_730 rfl ?_
    refine gx_lc_eq (tgt := 737) (pc1 := 732) hx hb rfl dL_law_731 dL_law_732 (by decide) (fun c3 => ?_) (fun c3 => absurd (e2 c2) c3)
    refine lv_goto (tgt := 1428) hx hb dL_law_737 (by decide) ?_
    refine W.widen (k := cells + 300) (n := slots + 10800) (by omega) (by omega) ?_
    exact kk _ _ _ _ _ _ hQ1 ⟨_, hR⟩ (lv_sub hl [2, 3, 4, 5, 6] rfl) hL
set_option maxHeartbeats 4000000 in
set_option maxRecDepth 100000 in
theorem law_c9 {l : Launch} {p : Program} {e : Env} {s0 : State} {m : MethodId} {below : List Frame} {meth : Method} {c : Code} {D : va_G} {DA : Nat → ClassId} {z0 b L : Nat} {xs : Nat → Int32} (hF : LF l p s0 m c D DA z0 b L xs) {C : CS} {M : MS} {o : Int64} {H : Heap} (hR : RR s0 D DA z0 C M o H) (hQ : Rel C M) {i : Nat} (hi : i + 6 ≤ L) {locs : List Loc} {ls : Array Slot} {cells slots : Nat} (hl : lv_has ls 8 [(4, .int (nI i)), (3, .ref (s0.heap.size + 128)), (2, .ref (s0.heap.size + 104)), (1, .ref s0.heap.size), (0, .ref b)]) (hL : gx_L s0.heap.size locs) (hroom : cells + 300 ≤ 600128 ∧ slots + 10800 ≤ 7301098) {Q : State → Prop} (kk : ∀ (C : CS) (M : MS) (o : Int64) (H : Heap) (locs : List Loc) (ls : Array Slot), Rel C M → RR s0 D DA z0 C M o H → lv_has ls 8 [(4, .int (nI i)), (3, .ref (s0.heap.size + 128)), (2, .ref (s0.heap.size + 104)), (1, .ref s0.heap.size), (0, .ref b)] → gx_L s0.heap.size locs → W p l e room_1 s0 m #[Value.ref b] below meth c H locs (cells + 300) (slots + 10800) Q (F0 m 1428 ls [])) : W p l e room_1 s0 m #[Value.ref b] below meth c H locs cells slots Q (F0 m 753 ls []) := by
  obtain ⟨hE, hx, hb, hml, hown, hts, hW0, hX, hbl, hL384⟩ := hF
  have hK := hE.K
  have hbA : ¬ (fun q : Nat => s0.heap.size ≤ q) b := Nat.not_le.mpr hbl
  obtain ⟨Y, hR⟩ := hR
  refine lv_aload_n hx hb dL_law_753 rfl (lv_at hl 3 rfl) ?_
  refine lv_aload_n hx hb dL_law_754 rfl (lv_at hl 4 rfl) ?_
  refine lv_iload hx hb dL_law_755 (lv_at hl 0 rfl) ?_
  refine lv_iconst (v := 1) hx hb dL_law_757 (by decide) ?_
  refine lv_iadd hx hb dL_law_758 ?_
  refine gx_ti (nI (i + 1)) (nI_add i 1) ?_
  refine va_sld hx hb hX hbl hbA (law_S hR hL) (i := nI (i + 1)) (nI_in (by omega) (by omega)) dL_law_759 ?_
  refine gx_ti (xs (i + 1)) (by rw [nI_clamp (by omega)]) ?_
  refine lv_aload_n hx hb dL_law_760 rfl (lv_at hl 1 rfl) ?_
  have hr9 := r_level hQ o (xs (i + 1))
  refine cc_v (va_runSW (As := [.ref s0.heap.size, .int (xs (i + 1)), .ref (s0.heap.size + 128)]) (rest := []) ⟨hx, hb, hml, hown, hts⟩ (ct_X0_level hE ⟨_, hR⟩ (xs (i + 1))) (va_cwSW 3 hts (lw_SW q780 q781 q46 q782) rfl rfl rfl (by decide +kernel) ⟨Nat.le_of_ble_eq_true rfl, Nat.le_of_ble_eq_true rfl⟩) (cc_pS hW0) rfl rfl hl.1 rfl (lv_room (Nat.le_of_ble_eq_true rfl)) dL_law_761 ⟨by show cells + 1 ≤ 600128; omega, by show slots + 6 ≤ 7301098; omega⟩) hL (fun H locs hP1 hL => ?_)
  obtain ⟨Y, hR⟩ := hP1
  generalize (k_level C o (xs (i + 1))) = k9 at hr9 hR ⊢
  refine lv_istore (lv' := [(5, .int k9.1), (4, .int (nI i)), (3, .ref (s0.heap.size + 128)), (2, .ref (s0.heap.size + 104)), (1, .ref s0.heap.size), (0, .ref b)]) hx hb dL_law_764 hl (by decide) rfl (fun ls hl => ?_)
  refine lv_aload_n hx hb dL_law_766 rfl (lv_at hl 3 rfl) ?_
  refine lv_aload_n hx hb dL_law_767 rfl (lv_at hl 5 rfl) ?_
  refine lv_iload hx hb dL_law_768 (lv_at hl 1 rfl) ?_
  refine lv_iconst (v := 1) hx hb dL_law_770 (by decide) ?_
  refine lv_iadd hx hb dL_law_771 ?_
  refine gx_ti (nI (i + 1)) (nI_add i 1) ?_
  refine va_sld hx hb hX hbl hbA (law_S hR hL) (i := nI (i + 1)) (nI_in (by omega) (by omega)) dL_law_772 ?_
  refine gx_ti (xs (i + 1)) (by rw [nI_clamp (by omega)]) ?_
  refine cc_v (va_runV (b := s0.heap.size + 104) (As := [.int (xs (i + 1))]) (rest := []) ⟨hx, hb, hml, hown, hts⟩ (ct_X11_level hE ⟨_, hR⟩ (xs (i + 1))) (cwV 1 hts (lw_V q1097 q1098 q1099 q61 q1100) rfl rfl rfl (by decide +kernel) ⟨Nat.le_of_ble_eq_true rfl, Nat.le_of_ble_eq_true rfl⟩) (cc_pV hW0 (cc_re hK hR.mo (show gcl[10]? = _ from rfl))) rfl rfl hl.1 rfl (lv_room (Nat.le_of_ble_eq_true rfl)) dL_law_773 ⟨by show cells + 1 + 0 ≤ 600128; omega, by show slots + 6 + 0 ≤ 7301098; omega⟩) hL (fun H locs hP1 hL => ?_)
  obtain ⟨Y, hR⟩ := hP1
  obtain ⟨e1, e2, hQ1⟩ := hr9
  generalize (mz M 0 (x_lev (xs (i + 1)))) = M1 at e1 hQ1 hR ⊢
  generalize (m_levr M (xs (i + 1))) = a9 at e2 ⊢
  refine lv_istore (lv' := [(6, .int a9), (5, .int k9.1), (4, .int (nI i)), (3, .ref (s0.heap.size + 128)), (2, .ref (s0.heap.size + 104)), (1, .ref s0.heap.size), (0, .ref b)]) hx hb dL_law_776 hl (by decide) rfl (fun ls hl => ?_)
  refine lv_aload_n hx hb dL_law_778 rfl (lv_at hl 4 rfl) ?_
  refine cc_v (va_runV (b := s0.heap.size + 104) (As := []) (rest := []) ⟨hx, hb, hml, hown, hts⟩ (ct_X11_thrown hE ⟨_, hR⟩) (cwV 0 hts (lw_V q969 q970 q971 q61 q972) rfl rfl rfl (by decide +kernel) ⟨Nat.le_of_ble_eq_true rfl, Nat.le_of_ble_eq_true rfl⟩) (cc_pV hW0 (cc_re hK hR.mo (show gcl[10]? = _ from rfl))) rfl rfl hl.1 rfl (lv_room (Nat.le_of_ble_eq_true rfl)) dL_law_779 ⟨by show cells + 1 + 0 ≤ 600128; omega, by show slots + 6 + 0 ≤ 7301098; omega⟩) hL (fun H locs hP1 hL => ?_)
  subst hP1
  refine lv_iload hx hb dL_law_782 (lv_at hl 1 rfl) ?_
  refine lv_icmp_eq (tgt := 789) hx hb dL_law_784 (by decide) (fun c1 => ?_) (fun c1 => absurd e1.symm c1)
  refine lv_iload hx hb dL_law_789 (lv_at hl 1 rfl) ?_
  refine lv_if_ne (tgt := 806) hx hb dL_law_791 (by decide) (fun c2 => ?_) (fun c2 => ?_)
  · skip
    refine lv_goto (tgt := 1428) hx hb dL_law_806 (by decide) ?_
    refine W.widen (k := cells + 300) (n := slots + 10800) (by omega) (by omega) ?_
    exact kk _ _ _ _ _ _ hQ1 ⟨_, hR⟩ (lv_sub hl [2, 3, 4, 5, 6] rfl) hL
  · skip
    refine lv_aload_n hx hb dL_law_794 rfl (lv_at hl 3 rfl) ?_
    refine lv_iconst (v := 0) hx hb dL_law_795 (by decide) ?_
    refine gx_lald (n := 1) hx hb hK 0 hR.out rfl 0 (by decide) (by decide) (by decide) dL_law_796 ?_
    refine lv_iload hx hb dL_law_797 (lv_at hl 0 rfl) ?_
    refine lv_i2l (v := a9.toInt64) hx hb dL_law_799 rfl ?_
    refine gx_lc_eq (tgt := 806) (pc1 := 801) hx hb rfl dL_law_800 dL_law_801 (by decide) (fun c3 => ?_) (fun c3 => absurd (e2 c2) c3)
    refine lv_goto (tgt := 1428) hx hb dL_law_806 (by decide) ?_
    refine W.widen (k := cells + 300) (n := slots + 10800) (by omega) (by omega) ?_
    exact kk _ _ _ _ _ _ hQ1 ⟨_, hR⟩ (lv_sub hl [2, 3, 4, 5, 6] rfl) hL
set_option maxHeartbeats 4000000 in
set_option maxRecDepth 100000 in
theorem law_c10 {l : Launch} {p : Program} {e : Env} {s0 : State} {m : MethodId} {below : List Frame} {meth : Method} {c : Code} {D : va_G} {DA : Nat → ClassId} {z0 b L : Nat} {xs : Nat → Int32} (hF : LF l p s0 m c D DA z0 b L xs) {C : CS} {M : MS} {o : Int64} {H : Heap} (hR : RR s0 D DA z0 C M o H) (hQ : Rel C M) {i : Nat} (hi : i + 6 ≤ L) {locs : List Loc} {ls : Array Slot} {cells slots : Nat} (hl : lv_has ls 8 [(4, .int (nI i)), (3, .ref (s0.heap.size + 128)), (2, .ref (s0.heap.size + 104)), (1, .ref s0.heap.size), (0, .ref b)]) (hL : gx_L s0.heap.size locs) (hroom : cells + 300 ≤ 600128 ∧ slots + 10800 ≤ 7301098) {Q : State → Prop} (kk : ∀ (C : CS) (M : MS) (o : Int64) (H : Heap) (locs : List Loc) (ls : Array Slot), Rel C M → RR s0 D DA z0 C M o H → lv_has ls 8 [(4, .int (nI i)), (3, .ref (s0.heap.size + 128)), (2, .ref (s0.heap.size + 104)), (1, .ref s0.heap.size), (0, .ref b)] → gx_L s0.heap.size locs → W p l e room_1 s0 m #[Value.ref b] below meth c H locs (cells + 300) (slots + 10800) Q (F0 m 1428 ls [])) : W p l e room_1 s0 m #[Value.ref b] below meth c H locs cells slots Q (F0 m 809 ls []) := by
  obtain ⟨hE, hx, hb, hml, hown, hts, hW0, hX, hbl, hL384⟩ := hF
  have hK := hE.K
  have hbA : ¬ (fun q : Nat => s0.heap.size ≤ q) b := Nat.not_le.mpr hbl
  obtain ⟨Y, hR⟩ := hR
  refine lv_aload_n hx hb dL_law_809 rfl (lv_at hl 3 rfl) ?_
  refine lv_aload_n hx hb dL_law_810 rfl (lv_at hl 4 rfl) ?_
  refine lv_iload hx hb dL_law_811 (lv_at hl 0 rfl) ?_
  refine lv_iconst (v := 1) hx hb dL_law_813 (by decide) ?_
  refine lv_iadd hx hb dL_law_814 ?_
  refine gx_ti (nI (i + 1)) (nI_add i 1) ?_
  refine va_sld hx hb hX hbl hbA (law_S hR hL) (i := nI (i + 1)) (nI_in (by omega) (by omega)) dL_law_815 ?_
  refine gx_ti (xs (i + 1)) (by rw [nI_clamp (by omega)]) ?_
  refine lv_aload_n hx hb dL_law_816 rfl (lv_at hl 4 rfl) ?_
  refine lv_iload hx hb dL_law_817 (lv_at hl 0 rfl) ?_
  refine lv_iconst (v := 2) hx hb dL_law_819 (by decide) ?_
  refine lv_iadd hx hb dL_law_820 ?_
  refine gx_ti (nI (i + 2)) (nI_add i 2) ?_
  refine va_sld hx hb hX hbl hbA (law_S hR hL) (i := nI (i + 2)) (nI_in (by omega) (by omega)) dL_law_821 ?_
  refine gx_ti (xs (i + 2)) (by rw [nI_clamp (by omega)]) ?_
  refine lv_aload_n hx hb dL_law_822 rfl (lv_at hl 1 rfl) ?_
  have hr9 := r_gross hQ o (xs (i + 1)) (xs (i + 2))
  refine cc_v (va_runSW (As := [.ref s0.heap.size, .int (xs (i + 1)), .int (xs (i + 2)), .ref (s0.heap.size + 128)]) (rest := []) ⟨hx, hb, hml, hown, hts⟩ (ct_X0_gross hE ⟨_, hR⟩ (xs (i + 1)) (xs (i + 2))) (va_cwSW 4 hts (lw_SW q787 q788 q46 q789) rfl rfl rfl (by decide +kernel) ⟨Nat.le_of_ble_eq_true rfl, Nat.le_of_ble_eq_true rfl⟩) (cc_pS hW0) rfl rfl hl.1 rfl (lv_room (Nat.le_of_ble_eq_true rfl)) dL_law_823 ⟨by show cells + 1 ≤ 600128; omega, by show slots + 6 ≤ 7301098; omega⟩) hL (fun H locs hP1 hL => ?_)
  obtain ⟨Y, hR⟩ := hP1
  generalize (k_gross C o (xs (i + 1)) (xs (i + 2))) = k9 at hr9 hR ⊢
  refine lv_istore (lv' := [(5, .int k9.1), (4, .int (nI i)), (3, .ref (s0.heap.size + 128)), (2, .ref (s0.heap.size + 104)), (1, .ref s0.heap.size), (0, .ref b)]) hx hb dL_law_826 hl (by decide) rfl (fun ls hl => ?_)
  refine lv_aload_n hx hb dL_law_828 rfl (lv_at hl 3 rfl) ?_
  refine lv_aload_n hx hb dL_law_829 rfl (lv_at hl 5 rfl) ?_
  refine lv_iload hx hb dL_law_830 (lv_at hl 1 rfl) ?_
  refine lv_iconst (v := 1) hx hb dL_law_832 (by decide) ?_
  refine lv_iadd hx hb dL_law_833 ?_
  refine gx_ti (nI (i + 1)) (nI_add i 1) ?_
  refine va_sld hx hb hX hbl hbA (law_S hR hL) (i := nI (i + 1)) (nI_in (by omega) (by omega)) dL_law_834 ?_
  refine gx_ti (xs (i + 1)) (by rw [nI_clamp (by omega)]) ?_
  refine lv_aload_n hx hb dL_law_835 rfl (lv_at hl 5 rfl) ?_
  refine lv_iload hx hb dL_law_836 (lv_at hl 1 rfl) ?_
  refine lv_iconst (v := 2) hx hb dL_law_838 (by decide) ?_
  refine lv_iadd hx hb dL_law_839 ?_
  refine gx_ti (nI (i + 2)) (nI_add i 2) ?_
  refine va_sld hx hb hX hbl hbA (law_S hR hL) (i := nI (i + 2)) (nI_in (by omega) (by omega)) dL_law_840 ?_
  refine gx_ti (xs (i + 2)) (by rw [nI_clamp (by omega)]) ?_
  refine cc_v (va_runV (b := s0.heap.size + 104) (As := [.int (xs (i + 1)), .int (xs (i + 2))]) (rest := []) ⟨hx, hb, hml, hown, hts⟩ (ct_X11_gross hE ⟨_, hR⟩ (xs (i + 1)) (xs (i + 2))) (cwV 2 hts (lw_V q1101 q1102 q1103 q61 q1104) rfl rfl rfl (by decide +kernel) ⟨Nat.le_of_ble_eq_true rfl, Nat.le_of_ble_eq_true rfl⟩) (cc_pV hW0 (cc_re hK hR.mo (show gcl[10]? = _ from rfl))) rfl rfl hl.1 rfl (lv_room (Nat.le_of_ble_eq_true rfl)) dL_law_841 ⟨by show cells + 1 + 0 ≤ 600128; omega, by show slots + 6 + 0 ≤ 7301098; omega⟩) hL (fun H locs hP1 hL => ?_)
  obtain ⟨Y, hR⟩ := hP1
  obtain ⟨e1, e2, hQ1⟩ := hr9
  generalize (mz M 0 (x_wrong M (xs (i + 1)) (xs (i + 2)))) = M1 at e1 hQ1 hR ⊢
  generalize (m_rd M 18 (xs (i + 1)) (xs (i + 2))) = a9 at e2 ⊢
  refine lv_lstore (lv' := [(6, .long a9), (5, .int k9.1), (4, .int (nI i)), (3, .ref (s0.heap.size + 128)), (2, .ref (s0.heap.size + 104)), (1, .ref s0.heap.size), (0, .ref b)]) hx hb dL_law_844 hl (by decide) rfl (fun ls hl => ?_)
  refine lv_aload_n hx hb dL_law_846 rfl (lv_at hl 4 rfl) ?_
  refine cc_v (va_runV (b := s0.heap.size + 104) (As := []) (rest := []) ⟨hx, hb, hml, hown, hts⟩ (ct_X11_thrown hE ⟨_, hR⟩) (cwV 0 hts (lw_V q969 q970 q971 q61 q972) rfl rfl rfl (by decide +kernel) ⟨Nat.le_of_ble_eq_true rfl, Nat.le_of_ble_eq_true rfl⟩) (cc_pV hW0 (cc_re hK hR.mo (show gcl[10]? = _ from rfl))) rfl rfl hl.1 rfl (lv_room (Nat.le_of_ble_eq_true rfl)) dL_law_847 ⟨by show cells + 1 + 0 ≤ 600128; omega, by show slots + 6 + 0 ≤ 7301098; omega⟩) hL (fun H locs hP1 hL => ?_)
  subst hP1
  refine lv_iload hx hb dL_law_850 (lv_at hl 1 rfl) ?_
  refine lv_icmp_eq (tgt := 857) hx hb dL_law_852 (by decide) (fun c1 => ?_) (fun c1 => absurd e1.symm c1)
  refine lv_iload hx hb dL_law_857 (lv_at hl 1 rfl) ?_
  refine lv_if_ne (tgt := 873) hx hb dL_law_859 (by decide) (fun c2 => ?_) (fun c2 => ?_)
  · skip
    refine lv_goto (tgt := 1428) hx hb dL_law_873 (by decide) ?_
    refine W.widen (k := cells + 300) (n := slots + 10800) (by omega) (by omega) ?_
    exact kk _ _ _ _ _ _ hQ1 ⟨_, hR⟩ (lv_sub hl [2, 3, 4, 5, 6] rfl) hL
  · skip
    refine lv_aload_n hx hb dL_law_862 rfl (lv_at hl 3 rfl) ?_
    refine lv_iconst (v := 0) hx hb dL_law_863 (by decide) ?_
    refine gx_lald (n := 1) hx hb hK 0 hR.out rfl 0 (by decide) (by decide) (by decide) dL_law_864 ?_
    refine lv_lload hx hb dL_law_865 (lv_at hl 0 rfl) ?_
    refine gx_lc_eq (tgt := 873) (pc1 := 868) hx hb rfl dL_law_867 dL_law_868 (by decide) (fun c3 => ?_) (fun c3 => absurd (e2 c2) c3)
    refine lv_goto (tgt := 1428) hx hb dL_law_873 (by decide) ?_
    refine W.widen (k := cells + 300) (n := slots + 10800) (by omega) (by omega) ?_
    exact kk _ _ _ _ _ _ hQ1 ⟨_, hR⟩ (lv_sub hl [2, 3, 4, 5, 6] rfl) hL
set_option maxHeartbeats 4000000 in
set_option maxRecDepth 100000 in
theorem law_c11 {l : Launch} {p : Program} {e : Env} {s0 : State} {m : MethodId} {below : List Frame} {meth : Method} {c : Code} {D : va_G} {DA : Nat → ClassId} {z0 b L : Nat} {xs : Nat → Int32} (hF : LF l p s0 m c D DA z0 b L xs) {C : CS} {M : MS} {o : Int64} {H : Heap} (hR : RR s0 D DA z0 C M o H) (hQ : Rel C M) {i : Nat} (hi : i + 6 ≤ L) {locs : List Loc} {ls : Array Slot} {cells slots : Nat} (hl : lv_has ls 8 [(4, .int (nI i)), (3, .ref (s0.heap.size + 128)), (2, .ref (s0.heap.size + 104)), (1, .ref s0.heap.size), (0, .ref b)]) (hL : gx_L s0.heap.size locs) (hroom : cells + 300 ≤ 600128 ∧ slots + 10800 ≤ 7301098) {Q : State → Prop} (kk : ∀ (C : CS) (M : MS) (o : Int64) (H : Heap) (locs : List Loc) (ls : Array Slot), Rel C M → RR s0 D DA z0 C M o H → lv_has ls 8 [(4, .int (nI i)), (3, .ref (s0.heap.size + 128)), (2, .ref (s0.heap.size + 104)), (1, .ref s0.heap.size), (0, .ref b)] → gx_L s0.heap.size locs → W p l e room_1 s0 m #[Value.ref b] below meth c H locs (cells + 300) (slots + 10800) Q (F0 m 1428 ls [])) : W p l e room_1 s0 m #[Value.ref b] below meth c H locs cells slots Q (F0 m 876 ls []) := by
  obtain ⟨hE, hx, hb, hml, hown, hts, hW0, hX, hbl, hL384⟩ := hF
  have hK := hE.K
  have hbA : ¬ (fun q : Nat => s0.heap.size ≤ q) b := Nat.not_le.mpr hbl
  obtain ⟨Y, hR⟩ := hR
  refine lv_aload_n hx hb dL_law_876 rfl (lv_at hl 3 rfl) ?_
  refine lv_aload_n hx hb dL_law_877 rfl (lv_at hl 4 rfl) ?_
  refine lv_iload hx hb dL_law_878 (lv_at hl 0 rfl) ?_
  refine lv_iconst (v := 1) hx hb dL_law_880 (by decide) ?_
  refine lv_iadd hx hb dL_law_881 ?_
  refine gx_ti (nI (i + 1)) (nI_add i 1) ?_
  refine va_sld hx hb hX hbl hbA (law_S hR hL) (i := nI (i + 1)) (nI_in (by omega) (by omega)) dL_law_882 ?_
  refine gx_ti (xs (i + 1)) (by rw [nI_clamp (by omega)]) ?_
  refine lv_aload_n hx hb dL_law_883 rfl (lv_at hl 4 rfl) ?_
  refine lv_iload hx hb dL_law_884 (lv_at hl 0 rfl) ?_
  refine lv_iconst (v := 2) hx hb dL_law_886 (by decide) ?_
  refine lv_iadd hx hb dL_law_887 ?_
  refine gx_ti (nI (i + 2)) (nI_add i 2) ?_
  refine va_sld hx hb hX hbl hbA (law_S hR hL) (i := nI (i + 2)) (nI_in (by omega) (by omega)) dL_law_888 ?_
  refine gx_ti (xs (i + 2)) (by rw [nI_clamp (by omega)]) ?_
  refine lv_aload_n hx hb dL_law_889 rfl (lv_at hl 1 rfl) ?_
  have hr9 := r_planned hQ o (xs (i + 1)) (xs (i + 2))
  refine cc_v (va_runSW (As := [.ref s0.heap.size, .int (xs (i + 1)), .int (xs (i + 2)), .ref (s0.heap.size + 128)]) (rest := []) ⟨hx, hb, hml, hown, hts⟩ (ct_X0_planned hE ⟨_, hR⟩ (xs (i + 1)) (xs (i + 2))) (va_cwSW 4 hts (lw_SW q798 q799 q46 q800) rfl rfl rfl (by decide +kernel) ⟨Nat.le_of_ble_eq_true rfl, Nat.le_of_ble_eq_true rfl⟩) (cc_pS hW0) rfl rfl hl.1 rfl (lv_room (Nat.le_of_ble_eq_true rfl)) dL_law_890 ⟨by show cells + 1 ≤ 600128; omega, by show slots + 6 ≤ 7301098; omega⟩) hL (fun H locs hP1 hL => ?_)
  obtain ⟨Y, hR⟩ := hP1
  generalize (k_planned C o (xs (i + 1)) (xs (i + 2))) = k9 at hr9 hR ⊢
  refine lv_istore (lv' := [(5, .int k9.1), (4, .int (nI i)), (3, .ref (s0.heap.size + 128)), (2, .ref (s0.heap.size + 104)), (1, .ref s0.heap.size), (0, .ref b)]) hx hb dL_law_893 hl (by decide) rfl (fun ls hl => ?_)
  refine lv_aload_n hx hb dL_law_895 rfl (lv_at hl 3 rfl) ?_
  refine lv_aload_n hx hb dL_law_896 rfl (lv_at hl 5 rfl) ?_
  refine lv_iload hx hb dL_law_897 (lv_at hl 1 rfl) ?_
  refine lv_iconst (v := 1) hx hb dL_law_899 (by decide) ?_
  refine lv_iadd hx hb dL_law_900 ?_
  refine gx_ti (nI (i + 1)) (nI_add i 1) ?_
  refine va_sld hx hb hX hbl hbA (law_S hR hL) (i := nI (i + 1)) (nI_in (by omega) (by omega)) dL_law_901 ?_
  refine gx_ti (xs (i + 1)) (by rw [nI_clamp (by omega)]) ?_
  refine lv_aload_n hx hb dL_law_902 rfl (lv_at hl 5 rfl) ?_
  refine lv_iload hx hb dL_law_903 (lv_at hl 1 rfl) ?_
  refine lv_iconst (v := 2) hx hb dL_law_905 (by decide) ?_
  refine lv_iadd hx hb dL_law_906 ?_
  refine gx_ti (nI (i + 2)) (nI_add i 2) ?_
  refine va_sld hx hb hX hbl hbA (law_S hR hL) (i := nI (i + 2)) (nI_in (by omega) (by omega)) dL_law_907 ?_
  refine gx_ti (xs (i + 2)) (by rw [nI_clamp (by omega)]) ?_
  refine cc_v (va_runV (b := s0.heap.size + 104) (As := [.int (xs (i + 1)), .int (xs (i + 2))]) (rest := []) ⟨hx, hb, hml, hown, hts⟩ (ct_X11_planned hE ⟨_, hR⟩ (xs (i + 1)) (xs (i + 2))) (cwV 2 hts (lw_V q1109 q1110 q1111 q61 q1112) rfl rfl rfl (by decide +kernel) ⟨Nat.le_of_ble_eq_true rfl, Nat.le_of_ble_eq_true rfl⟩) (cc_pV hW0 (cc_re hK hR.mo (show gcl[10]? = _ from rfl))) rfl rfl hl.1 rfl (lv_room (Nat.le_of_ble_eq_true rfl)) dL_law_908 ⟨by show cells + 1 + 0 ≤ 600128; omega, by show slots + 6 + 0 ≤ 7301098; omega⟩) hL (fun H locs hP1 hL => ?_)
  obtain ⟨Y, hR⟩ := hP1
  obtain ⟨e1, e2, hQ1⟩ := hr9
  generalize (mz M 0 (x_wrong M (xs (i + 1)) (xs (i + 2)))) = M1 at e1 hQ1 hR ⊢
  generalize (m_rd M 19 (xs (i + 1)) (xs (i + 2))) = a9 at e2 ⊢
  refine lv_lstore (lv' := [(6, .long a9), (5, .int k9.1), (4, .int (nI i)), (3, .ref (s0.heap.size + 128)), (2, .ref (s0.heap.size + 104)), (1, .ref s0.heap.size), (0, .ref b)]) hx hb dL_law_911 hl (by decide) rfl (fun ls hl => ?_)
  refine lv_aload_n hx hb dL_law_913 rfl (lv_at hl 4 rfl) ?_
  refine cc_v (va_runV (b := s0.heap.size + 104) (As := []) (rest := []) ⟨hx, hb, hml, hown, hts⟩ (ct_X11_thrown hE ⟨_, hR⟩) (cwV 0 hts (lw_V q969 q970 q971 q61 q972) rfl rfl rfl (by decide +kernel) ⟨Nat.le_of_ble_eq_true rfl, Nat.le_of_ble_eq_true rfl⟩) (cc_pV hW0 (cc_re hK hR.mo (show gcl[10]? = _ from rfl))) rfl rfl hl.1 rfl (lv_room (Nat.le_of_ble_eq_true rfl)) dL_law_914 ⟨by show cells + 1 + 0 ≤ 600128; omega, by show slots + 6 + 0 ≤ 7301098; omega⟩) hL (fun H locs hP1 hL => ?_)
  subst hP1
  refine lv_iload hx hb dL_law_917 (lv_at hl 1 rfl) ?_
  refine lv_icmp_eq (tgt := 924) hx hb dL_law_919 (by decide) (fun c1 => ?_) (fun c1 => absurd e1.symm c1)
  refine lv_iload hx hb dL_law_924 (lv_at hl 1 rfl) ?_
  refine lv_if_ne (tgt := 940) hx hb dL_law_926 (by decide) (fun c2 => ?_) (fun c2 => ?_)
  · skip
    refine lv_goto (tgt := 1428) hx hb dL_law_940 (by decide) ?_
    refine W.widen (k := cells + 300) (n := slots + 10800) (by omega) (by omega) ?_
    exact kk _ _ _ _ _ _ hQ1 ⟨_, hR⟩ (lv_sub hl [2, 3, 4, 5, 6] rfl) hL
  · skip
    refine lv_aload_n hx hb dL_law_929 rfl (lv_at hl 3 rfl) ?_
    refine lv_iconst (v := 0) hx hb dL_law_930 (by decide) ?_
    refine gx_lald (n := 1) hx hb hK 0 hR.out rfl 0 (by decide) (by decide) (by decide) dL_law_931 ?_
    refine lv_lload hx hb dL_law_932 (lv_at hl 0 rfl) ?_
    refine gx_lc_eq (tgt := 940) (pc1 := 935) hx hb rfl dL_law_934 dL_law_935 (by decide) (fun c3 => ?_) (fun c3 => absurd (e2 c2) c3)
    refine lv_goto (tgt := 1428) hx hb dL_law_940 (by decide) ?_
    refine W.widen (k := cells + 300) (n := slots + 10800) (by omega) (by omega) ?_
    exact kk _ _ _ _ _ _ hQ1 ⟨_, hR⟩ (lv_sub hl [2, 3, 4, 5, 6] rfl) hL
set_option maxHeartbeats 4000000 in
set_option maxRecDepth 100000 in
theorem law_c12 {l : Launch} {p : Program} {e : Env} {s0 : State} {m : MethodId} {below : List Frame} {meth : Method} {c : Code} {D : va_G} {DA : Nat → ClassId} {z0 b L : Nat} {xs : Nat → Int32} (hF : LF l p s0 m c D DA z0 b L xs) {C : CS} {M : MS} {o : Int64} {H : Heap} (hR : RR s0 D DA z0 C M o H) (hQ : Rel C M) {i : Nat} (hi : i + 6 ≤ L) {locs : List Loc} {ls : Array Slot} {cells slots : Nat} (hl : lv_has ls 8 [(4, .int (nI i)), (3, .ref (s0.heap.size + 128)), (2, .ref (s0.heap.size + 104)), (1, .ref s0.heap.size), (0, .ref b)]) (hL : gx_L s0.heap.size locs) (hroom : cells + 300 ≤ 600128 ∧ slots + 10800 ≤ 7301098) {Q : State → Prop} (kk : ∀ (C : CS) (M : MS) (o : Int64) (H : Heap) (locs : List Loc) (ls : Array Slot), Rel C M → RR s0 D DA z0 C M o H → lv_has ls 8 [(4, .int (nI i)), (3, .ref (s0.heap.size + 128)), (2, .ref (s0.heap.size + 104)), (1, .ref s0.heap.size), (0, .ref b)] → gx_L s0.heap.size locs → W p l e room_1 s0 m #[Value.ref b] below meth c H locs (cells + 300) (slots + 10800) Q (F0 m 1428 ls [])) : W p l e room_1 s0 m #[Value.ref b] below meth c H locs cells slots Q (F0 m 943 ls []) := by
  obtain ⟨hE, hx, hb, hml, hown, hts, hW0, hX, hbl, hL384⟩ := hF
  have hK := hE.K
  have hbA : ¬ (fun q : Nat => s0.heap.size ≤ q) b := Nat.not_le.mpr hbl
  obtain ⟨Y, hR⟩ := hR
  refine lv_aload_n hx hb dL_law_943 rfl (lv_at hl 3 rfl) ?_
  refine lv_aload_n hx hb dL_law_944 rfl (lv_at hl 4 rfl) ?_
  refine lv_iload hx hb dL_law_945 (lv_at hl 0 rfl) ?_
  refine lv_iconst (v := 1) hx hb dL_law_947 (by decide) ?_
  refine lv_iadd hx hb dL_law_948 ?_
  refine gx_ti (nI (i + 1)) (nI_add i 1) ?_
  refine va_sld hx hb hX hbl hbA (law_S hR hL) (i := nI (i + 1)) (nI_in (by omega) (by omega)) dL_law_949 ?_
  refine gx_ti (xs (i + 1)) (by rw [nI_clamp (by omega)]) ?_
  refine lv_aload_n hx hb dL_law_950 rfl (lv_at hl 4 rfl) ?_
  refine lv_iload hx hb dL_law_951 (lv_at hl 0 rfl) ?_
  refine lv_iconst (v := 2) hx hb dL_law_953 (by decide) ?_
  refine lv_iadd hx hb dL_law_954 ?_
  refine gx_ti (nI (i + 2)) (nI_add i 2) ?_
  refine va_sld hx hb hX hbl hbA (law_S hR hL) (i := nI (i + 2)) (nI_in (by omega) (by omega)) dL_law_955 ?_
  refine gx_ti (xs (i + 2)) (by rw [nI_clamp (by omega)]) ?_
  refine lv_aload_n hx hb dL_law_956 rfl (lv_at hl 1 rfl) ?_
  have hr9 := r_balance hQ o (xs (i + 1)) (xs (i + 2))
  refine cc_v (va_runSW (As := [.ref s0.heap.size, .int (xs (i + 1)), .int (xs (i + 2)), .ref (s0.heap.size + 128)]) (rest := []) ⟨hx, hb, hml, hown, hts⟩ (ct_X0_balance hE ⟨_, hR⟩ (xs (i + 1)) (xs (i + 2))) (va_cwSW 4 hts (lw_SW q805 q806 q46 q807) rfl rfl rfl (by decide +kernel) ⟨Nat.le_of_ble_eq_true rfl, Nat.le_of_ble_eq_true rfl⟩) (cc_pS hW0) rfl rfl hl.1 rfl (lv_room (Nat.le_of_ble_eq_true rfl)) dL_law_957 ⟨by show cells + 1 ≤ 600128; omega, by show slots + 6 ≤ 7301098; omega⟩) hL (fun H locs hP1 hL => ?_)
  obtain ⟨Y, hR⟩ := hP1
  generalize (k_balance C o (xs (i + 1)) (xs (i + 2))) = k9 at hr9 hR ⊢
  refine lv_istore (lv' := [(5, .int k9.1), (4, .int (nI i)), (3, .ref (s0.heap.size + 128)), (2, .ref (s0.heap.size + 104)), (1, .ref s0.heap.size), (0, .ref b)]) hx hb dL_law_960 hl (by decide) rfl (fun ls hl => ?_)
  refine lv_aload_n hx hb dL_law_962 rfl (lv_at hl 3 rfl) ?_
  refine lv_aload_n hx hb dL_law_963 rfl (lv_at hl 5 rfl) ?_
  refine lv_iload hx hb dL_law_964 (lv_at hl 1 rfl) ?_
  refine lv_iconst (v := 1) hx hb dL_law_966 (by decide) ?_
  refine lv_iadd hx hb dL_law_967 ?_
  refine gx_ti (nI (i + 1)) (nI_add i 1) ?_
  refine va_sld hx hb hX hbl hbA (law_S hR hL) (i := nI (i + 1)) (nI_in (by omega) (by omega)) dL_law_968 ?_
  refine gx_ti (xs (i + 1)) (by rw [nI_clamp (by omega)]) ?_
  refine lv_aload_n hx hb dL_law_969 rfl (lv_at hl 5 rfl) ?_
  refine lv_iload hx hb dL_law_970 (lv_at hl 1 rfl) ?_
  refine lv_iconst (v := 2) hx hb dL_law_972 (by decide) ?_
  refine lv_iadd hx hb dL_law_973 ?_
  refine gx_ti (nI (i + 2)) (nI_add i 2) ?_
  refine va_sld hx hb hX hbl hbA (law_S hR hL) (i := nI (i + 2)) (nI_in (by omega) (by omega)) dL_law_974 ?_
  refine gx_ti (xs (i + 2)) (by rw [nI_clamp (by omega)]) ?_
  refine cc_v (va_runV (b := s0.heap.size + 104) (As := [.int (xs (i + 1)), .int (xs (i + 2))]) (rest := []) ⟨hx, hb, hml, hown, hts⟩ (ct_X11_balance hE ⟨_, hR⟩ (xs (i + 1)) (xs (i + 2)) hQ.mc) (cwV 2 hts (lw_V q1113 q1114 q1115 q61 q1116) rfl rfl rfl (by decide +kernel) ⟨Nat.le_of_ble_eq_true rfl, Nat.le_of_ble_eq_true rfl⟩) (cc_pV hW0 (cc_re hK hR.mo (show gcl[10]? = _ from rfl))) rfl rfl hl.1 rfl (lv_room (Nat.le_of_ble_eq_true rfl)) dL_law_975 ⟨by show cells + 1 + 0 ≤ 600128; omega, by show slots + 6 + 0 ≤ 7301098; omega⟩) hL (fun H locs hP1 hL => ?_)
  obtain ⟨Y, hR⟩ := hP1
  obtain ⟨e1, e2, hQ1⟩ := hr9
  generalize (mz M 0 (x_wrong M (xs (i + 1)) (xs (i + 2)))) = M1 at e1 hQ1 hR ⊢
  generalize (m_balr M (xs (i + 1)) (xs (i + 2))) = a9 at e2 ⊢
  refine lv_lstore (lv' := [(6, .long a9), (5, .int k9.1), (4, .int (nI i)), (3, .ref (s0.heap.size + 128)), (2, .ref (s0.heap.size + 104)), (1, .ref s0.heap.size), (0, .ref b)]) hx hb dL_law_978 hl (by decide) rfl (fun ls hl => ?_)
  refine lv_aload_n hx hb dL_law_980 rfl (lv_at hl 4 rfl) ?_
  refine cc_v (va_runV (b := s0.heap.size + 104) (As := []) (rest := []) ⟨hx, hb, hml, hown, hts⟩ (ct_X11_thrown hE ⟨_, hR⟩) (cwV 0 hts (lw_V q969 q970 q971 q61 q972) rfl rfl rfl (by decide +kernel) ⟨Nat.le_of_ble_eq_true rfl, Nat.le_of_ble_eq_true rfl⟩) (cc_pV hW0 (cc_re hK hR.mo (show gcl[10]? = _ from rfl))) rfl rfl hl.1 rfl (lv_room (Nat.le_of_ble_eq_true rfl)) dL_law_981 ⟨by show cells + 1 + 0 ≤ 600128; omega, by show slots + 6 + 0 ≤ 7301098; omega⟩) hL (fun H locs hP1 hL => ?_)
  subst hP1
  refine lv_iload hx hb dL_law_984 (lv_at hl 1 rfl) ?_
  refine lv_icmp_eq (tgt := 991) hx hb dL_law_986 (by decide) (fun c1 => ?_) (fun c1 => absurd e1.symm c1)
  refine lv_iload hx hb dL_law_991 (lv_at hl 1 rfl) ?_
  refine lv_if_ne (tgt := 1007) hx hb dL_law_993 (by decide) (fun c2 => ?_) (fun c2 => ?_)
  · skip
    refine lv_goto (tgt := 1428) hx hb dL_law_1007 (by decide) ?_
    refine W.widen (k := cells + 300) (n := slots + 10800) (by omega) (by omega) ?_
    exact kk _ _ _ _ _ _ hQ1 ⟨_, hR⟩ (lv_sub hl [2, 3, 4, 5, 6] rfl) hL
  · skip
    refine lv_aload_n hx hb dL_law_996 rfl (lv_at hl 3 rfl) ?_
    refine lv_iconst (v := 0) hx hb dL_law_997 (by decide) ?_
    refine gx_lald (n := 1) hx hb hK 0 hR.out rfl 0 (by decide) (by decide) (by decide) dL_law_998 ?_
    refine lv_lload hx hb dL_law_999 (lv_at hl 0 rfl) ?_
    refine gx_lc_eq (tgt := 1007) (pc1 := 1002) hx hb rfl dL_law_1001 dL_law_1002 (by decide) (fun c3 => ?_) (fun c3 => absurd (e2 c2) c3)
    refine lv_goto (tgt := 1428) hx hb dL_law_1007 (by decide) ?_
    refine W.widen (k := cells + 300) (n := slots + 10800) (by omega) (by omega) ?_
    exact kk _ _ _ _ _ _ hQ1 ⟨_, hR⟩ (lv_sub hl [2, 3, 4, 5, 6] rfl) hL
set_option maxHeartbeats 4000000 in
set_option maxRecDepth 100000 in
theorem law_c13 {l : Launch} {p : Program} {e : Env} {s0 : State} {m : MethodId} {below : List Frame} {meth : Method} {c : Code} {D : va_G} {DA : Nat → ClassId} {z0 b L : Nat} {xs : Nat → Int32} (hF : LF l p s0 m c D DA z0 b L xs) {C : CS} {M : MS} {o : Int64} {H : Heap} (hR : RR s0 D DA z0 C M o H) (hQ : Rel C M) {i : Nat} (hi : i + 6 ≤ L) {locs : List Loc} {ls : Array Slot} {cells slots : Nat} (hl : lv_has ls 8 [(4, .int (nI i)), (3, .ref (s0.heap.size + 128)), (2, .ref (s0.heap.size + 104)), (1, .ref s0.heap.size), (0, .ref b)]) (hL : gx_L s0.heap.size locs) (hroom : cells + 300 ≤ 600128 ∧ slots + 10800 ≤ 7301098) {Q : State → Prop} (kk : ∀ (C : CS) (M : MS) (o : Int64) (H : Heap) (locs : List Loc) (ls : Array Slot), Rel C M → RR s0 D DA z0 C M o H → lv_has ls 8 [(4, .int (nI i)), (3, .ref (s0.heap.size + 128)), (2, .ref (s0.heap.size + 104)), (1, .ref s0.heap.size), (0, .ref b)] → gx_L s0.heap.size locs → W p l e room_1 s0 m #[Value.ref b] below meth c H locs (cells + 300) (slots + 10800) Q (F0 m 1428 ls [])) : W p l e room_1 s0 m #[Value.ref b] below meth c H locs cells slots Q (F0 m 1010 ls []) := by
  obtain ⟨hE, hx, hb, hml, hown, hts, hW0, hX, hbl, hL384⟩ := hF
  have hK := hE.K
  have hbA : ¬ (fun q : Nat => s0.heap.size ≤ q) b := Nat.not_le.mpr hbl
  obtain ⟨Y, hR⟩ := hR
  refine lv_aload_n hx hb dL_law_1010 rfl (lv_at hl 3 rfl) ?_
  refine lv_aload_n hx hb dL_law_1011 rfl (lv_at hl 4 rfl) ?_
  refine lv_iload hx hb dL_law_1012 (lv_at hl 0 rfl) ?_
  refine lv_iconst (v := 1) hx hb dL_law_1014 (by decide) ?_
  refine lv_iadd hx hb dL_law_1015 ?_
  refine gx_ti (nI (i + 1)) (nI_add i 1) ?_
  refine va_sld hx hb hX hbl hbA (law_S hR hL) (i := nI (i + 1)) (nI_in (by omega) (by omega)) dL_law_1016 ?_
  refine gx_ti (xs (i + 1)) (by rw [nI_clamp (by omega)]) ?_
  refine lv_aload_n hx hb dL_law_1017 rfl (lv_at hl 4 rfl) ?_
  refine lv_iload hx hb dL_law_1018 (lv_at hl 0 rfl) ?_
  refine lv_iconst (v := 2) hx hb dL_law_1020 (by decide) ?_
  refine lv_iadd hx hb dL_law_1021 ?_
  refine gx_ti (nI (i + 2)) (nI_add i 2) ?_
  refine va_sld hx hb hX hbl hbA (law_S hR hL) (i := nI (i + 2)) (nI_in (by omega) (by omega)) dL_law_1022 ?_
  refine gx_ti (xs (i + 2)) (by rw [nI_clamp (by omega)]) ?_
  refine lv_aload_n hx hb dL_law_1023 rfl (lv_at hl 4 rfl) ?_
  refine lv_iload hx hb dL_law_1024 (lv_at hl 0 rfl) ?_
  refine lv_iconst (v := 3) hx hb dL_law_1026 (by decide) ?_
  refine lv_iadd hx hb dL_law_1027 ?_
  refine gx_ti (nI (i + 3)) (nI_add i 3) ?_
  refine va_sld hx hb hX hbl hbA (law_S hR hL) (i := nI (i + 3)) (nI_in (by omega) (by omega)) dL_law_1028 ?_
  refine gx_ti (xs (i + 3)) (by rw [nI_clamp (by omega)]) ?_
  refine lv_aload_n hx hb dL_law_1029 rfl (lv_at hl 1 rfl) ?_
  have hr9 := r_peg hQ o (xs (i + 1)) (xs (i + 2)) (xs (i + 3))
  refine cc_v (va_runSW (As := [.ref s0.heap.size, .int (xs (i + 1)), .int (xs (i + 2)), .int (xs (i + 3)), .ref (s0.heap.size + 128)]) (rest := []) ⟨hx, hb, hml, hown, hts⟩ (ct_X0_peg hE ⟨_, hR⟩ (xs (i + 1)) (xs (i + 2)) (xs (i + 3)) hQ.cc) (va_cwSW 5 hts (lw_SW q812 q813 q46 q814) rfl rfl rfl (by decide +kernel) ⟨Nat.le_of_ble_eq_true rfl, Nat.le_of_ble_eq_true rfl⟩) (cc_pS hW0) rfl rfl hl.1 rfl (lv_room (Nat.le_of_ble_eq_true rfl)) dL_law_1030 ⟨by show cells + 1 ≤ 600128; omega, by show slots + 6 ≤ 7301098; omega⟩) hL (fun H locs hP1 hL => ?_)
  obtain ⟨Y, hR⟩ := hP1
  generalize (k_peg C o (xs (i + 1)) (xs (i + 2)) (xs (i + 3))) = k9 at hr9 hR ⊢
  refine lv_istore (lv' := [(5, .int k9.1), (4, .int (nI i)), (3, .ref (s0.heap.size + 128)), (2, .ref (s0.heap.size + 104)), (1, .ref s0.heap.size), (0, .ref b)]) hx hb dL_law_1033 hl (by decide) rfl (fun ls hl => ?_)
  refine lv_aload_n hx hb dL_law_1035 rfl (lv_at hl 3 rfl) ?_
  refine lv_aload_n hx hb dL_law_1036 rfl (lv_at hl 5 rfl) ?_
  refine lv_iload hx hb dL_law_1037 (lv_at hl 1 rfl) ?_
  refine lv_iconst (v := 1) hx hb dL_law_1039 (by decide) ?_
  refine lv_iadd hx hb dL_law_1040 ?_
  refine gx_ti (nI (i + 1)) (nI_add i 1) ?_
  refine va_sld hx hb hX hbl hbA (law_S hR hL) (i := nI (i + 1)) (nI_in (by omega) (by omega)) dL_law_1041 ?_
  refine gx_ti (xs (i + 1)) (by rw [nI_clamp (by omega)]) ?_
  refine lv_aload_n hx hb dL_law_1042 rfl (lv_at hl 5 rfl) ?_
  refine lv_iload hx hb dL_law_1043 (lv_at hl 1 rfl) ?_
  refine lv_iconst (v := 2) hx hb dL_law_1045 (by decide) ?_
  refine lv_iadd hx hb dL_law_1046 ?_
  refine gx_ti (nI (i + 2)) (nI_add i 2) ?_
  refine va_sld hx hb hX hbl hbA (law_S hR hL) (i := nI (i + 2)) (nI_in (by omega) (by omega)) dL_law_1047 ?_
  refine gx_ti (xs (i + 2)) (by rw [nI_clamp (by omega)]) ?_
  refine lv_aload_n hx hb dL_law_1048 rfl (lv_at hl 5 rfl) ?_
  refine lv_iload hx hb dL_law_1049 (lv_at hl 1 rfl) ?_
  refine lv_iconst (v := 3) hx hb dL_law_1051 (by decide) ?_
  refine lv_iadd hx hb dL_law_1052 ?_
  refine gx_ti (nI (i + 3)) (nI_add i 3) ?_
  refine va_sld hx hb hX hbl hbA (law_S hR hL) (i := nI (i + 3)) (nI_in (by omega) (by omega)) dL_law_1053 ?_
  refine gx_ti (xs (i + 3)) (by rw [nI_clamp (by omega)]) ?_
  refine cc_v (va_runV (b := s0.heap.size + 104) (As := [.int (xs (i + 1)), .int (xs (i + 2)), .int (xs (i + 3))]) (rest := []) ⟨hx, hb, hml, hown, hts⟩ (ct_X11_peg hE ⟨_, hR⟩ (xs (i + 1)) (xs (i + 2)) (xs (i + 3)) hQ.mc) (cwV 3 hts (lw_V q1117 q1118 q1119 q61 q1120) rfl rfl rfl (by decide +kernel) ⟨Nat.le_of_ble_eq_true rfl, Nat.le_of_ble_eq_true rfl⟩) (cc_pV hW0 (cc_re hK hR.mo (show gcl[10]? = _ from rfl))) rfl rfl hl.1 rfl (lv_room (Nat.le_of_ble_eq_true rfl)) dL_law_1054 ⟨by show cells + 1 + 0 ≤ 600128; omega, by show slots + 6 + 0 ≤ 7301098; omega⟩) hL (fun H locs hP1 hL => ?_)
  obtain ⟨Y, hR⟩ := hP1
  obtain ⟨e1, e2, hQ1⟩ := hr9
  generalize (mz M 0 (x_peg M (xs (i + 1)) (xs (i + 2)) (xs (i + 3)))) = M1 at e1 hQ1 hR ⊢
  generalize (m_pegr M (xs (i + 1)) (xs (i + 2)) (xs (i + 3))) = a9 at e2 ⊢
  refine lv_lstore (lv' := [(6, .long a9), (5, .int k9.1), (4, .int (nI i)), (3, .ref (s0.heap.size + 128)), (2, .ref (s0.heap.size + 104)), (1, .ref s0.heap.size), (0, .ref b)]) hx hb dL_law_1057 hl (by decide) rfl (fun ls hl => ?_)
  refine lv_aload_n hx hb dL_law_1059 rfl (lv_at hl 4 rfl) ?_
  refine cc_v (va_runV (b := s0.heap.size + 104) (As := []) (rest := []) ⟨hx, hb, hml, hown, hts⟩ (ct_X11_thrown hE ⟨_, hR⟩) (cwV 0 hts (lw_V q969 q970 q971 q61 q972) rfl rfl rfl (by decide +kernel) ⟨Nat.le_of_ble_eq_true rfl, Nat.le_of_ble_eq_true rfl⟩) (cc_pV hW0 (cc_re hK hR.mo (show gcl[10]? = _ from rfl))) rfl rfl hl.1 rfl (lv_room (Nat.le_of_ble_eq_true rfl)) dL_law_1060 ⟨by show cells + 1 + 0 ≤ 600128; omega, by show slots + 6 + 0 ≤ 7301098; omega⟩) hL (fun H locs hP1 hL => ?_)
  subst hP1
  refine lv_iload hx hb dL_law_1063 (lv_at hl 1 rfl) ?_
  refine lv_icmp_eq (tgt := 1070) hx hb dL_law_1065 (by decide) (fun c1 => ?_) (fun c1 => absurd e1.symm c1)
  refine lv_iload hx hb dL_law_1070 (lv_at hl 1 rfl) ?_
  refine lv_if_ne (tgt := 1086) hx hb dL_law_1072 (by decide) (fun c2 => ?_) (fun c2 => ?_)
  · skip
    refine lv_goto (tgt := 1428) hx hb dL_law_1086 (by decide) ?_
    refine W.widen (k := cells + 300) (n := slots + 10800) (by omega) (by omega) ?_
    exact kk _ _ _ _ _ _ hQ1 ⟨_, hR⟩ (lv_sub hl [2, 3, 4, 5, 6] rfl) hL
  · skip
    refine lv_aload_n hx hb dL_law_1075 rfl (lv_at hl 3 rfl) ?_
    refine lv_iconst (v := 0) hx hb dL_law_1076 (by decide) ?_
    refine gx_lald (n := 1) hx hb hK 0 hR.out rfl 0 (by decide) (by decide) (by decide) dL_law_1077 ?_
    refine lv_lload hx hb dL_law_1078 (lv_at hl 0 rfl) ?_
    refine gx_lc_eq (tgt := 1086) (pc1 := 1081) hx hb rfl dL_law_1080 dL_law_1081 (by decide) (fun c3 => ?_) (fun c3 => absurd (e2 c2) c3)
    refine lv_goto (tgt := 1428) hx hb dL_law_1086 (by decide) ?_
    refine W.widen (k := cells + 300) (n := slots + 10800) (by omega) (by omega) ?_
    exact kk _ _ _ _ _ _ hQ1 ⟨_, hR⟩ (lv_sub hl [2, 3, 4, 5, 6] rfl) hL
set_option maxHeartbeats 4000000 in
set_option maxRecDepth 100000 in
theorem law_c14 {l : Launch} {p : Program} {e : Env} {s0 : State} {m : MethodId} {below : List Frame} {meth : Method} {c : Code} {D : va_G} {DA : Nat → ClassId} {z0 b L : Nat} {xs : Nat → Int32} (hF : LF l p s0 m c D DA z0 b L xs) {C : CS} {M : MS} {o : Int64} {H : Heap} (hR : RR s0 D DA z0 C M o H) (hQ : Rel C M) {i : Nat} (hi : i + 6 ≤ L) {locs : List Loc} {ls : Array Slot} {cells slots : Nat} (hl : lv_has ls 8 [(4, .int (nI i)), (3, .ref (s0.heap.size + 128)), (2, .ref (s0.heap.size + 104)), (1, .ref s0.heap.size), (0, .ref b)]) (hL : gx_L s0.heap.size locs) (hroom : cells + 300 ≤ 600128 ∧ slots + 10800 ≤ 7301098) {Q : State → Prop} (kk : ∀ (C : CS) (M : MS) (o : Int64) (H : Heap) (locs : List Loc) (ls : Array Slot), Rel C M → RR s0 D DA z0 C M o H → lv_has ls 8 [(4, .int (nI i)), (3, .ref (s0.heap.size + 128)), (2, .ref (s0.heap.size + 104)), (1, .ref s0.heap.size), (0, .ref b)] → gx_L s0.heap.size locs → W p l e room_1 s0 m #[Value.ref b] below meth c H locs (cells + 300) (slots + 10800) Q (F0 m 1428 ls [])) : W p l e room_1 s0 m #[Value.ref b] below meth c H locs cells slots Q (F0 m 1089 ls []) := by
  obtain ⟨hE, hx, hb, hml, hown, hts, hW0, hX, hbl, hL384⟩ := hF
  have hK := hE.K
  have hbA : ¬ (fun q : Nat => s0.heap.size ≤ q) b := Nat.not_le.mpr hbl
  obtain ⟨Y, hR⟩ := hR
  refine lv_aload_n hx hb dL_law_1089 rfl (lv_at hl 3 rfl) ?_
  refine lv_aload_n hx hb dL_law_1090 rfl (lv_at hl 4 rfl) ?_
  refine lv_iload hx hb dL_law_1091 (lv_at hl 0 rfl) ?_
  refine lv_iconst (v := 1) hx hb dL_law_1093 (by decide) ?_
  refine lv_iadd hx hb dL_law_1094 ?_
  refine gx_ti (nI (i + 1)) (nI_add i 1) ?_
  refine va_sld hx hb hX hbl hbA (law_S hR hL) (i := nI (i + 1)) (nI_in (by omega) (by omega)) dL_law_1095 ?_
  refine gx_ti (xs (i + 1)) (by rw [nI_clamp (by omega)]) ?_
  refine lv_aload_n hx hb dL_law_1096 rfl (lv_at hl 4 rfl) ?_
  refine lv_iload hx hb dL_law_1097 (lv_at hl 0 rfl) ?_
  refine lv_iconst (v := 2) hx hb dL_law_1099 (by decide) ?_
  refine lv_iadd hx hb dL_law_1100 ?_
  refine gx_ti (nI (i + 2)) (nI_add i 2) ?_
  refine va_sld hx hb hX hbl hbA (law_S hR hL) (i := nI (i + 2)) (nI_in (by omega) (by omega)) dL_law_1101 ?_
  refine gx_ti (xs (i + 2)) (by rw [nI_clamp (by omega)]) ?_
  refine lv_aload_n hx hb dL_law_1102 rfl (lv_at hl 4 rfl) ?_
  refine lv_iload hx hb dL_law_1103 (lv_at hl 0 rfl) ?_
  refine lv_iconst (v := 3) hx hb dL_law_1105 (by decide) ?_
  refine lv_iadd hx hb dL_law_1106 ?_
  refine gx_ti (nI (i + 3)) (nI_add i 3) ?_
  refine va_sld hx hb hX hbl hbA (law_S hR hL) (i := nI (i + 3)) (nI_in (by omega) (by omega)) dL_law_1107 ?_
  refine gx_ti (xs (i + 3)) (by rw [nI_clamp (by omega)]) ?_
  refine lv_aload_n hx hb dL_law_1108 rfl (lv_at hl 1 rfl) ?_
  have hr9 := r_promise hQ o (xs (i + 1)) (xs (i + 2)) (xs (i + 3))
  refine cc_v (va_runSW (As := [.ref s0.heap.size, .int (xs (i + 1)), .int (xs (i + 2)), .int (xs (i + 3)), .ref (s0.heap.size + 128)]) (rest := []) ⟨hx, hb, hml, hown, hts⟩ (ct_X0_promise hE ⟨_, hR⟩ (xs (i + 1)) (xs (i + 2)) (xs (i + 3))) (va_cwSW 5 hts (lw_SW q837 q838 q46 q839) rfl rfl rfl (by decide +kernel) ⟨Nat.le_of_ble_eq_true rfl, Nat.le_of_ble_eq_true rfl⟩) (cc_pS hW0) rfl rfl hl.1 rfl (lv_room (Nat.le_of_ble_eq_true rfl)) dL_law_1109 ⟨by show cells + 1 ≤ 600128; omega, by show slots + 6 ≤ 7301098; omega⟩) hL (fun H locs hP1 hL => ?_)
  obtain ⟨Y, hR⟩ := hP1
  generalize (k_promise C o (xs (i + 1)) (xs (i + 2)) (xs (i + 3))) = k9 at hr9 hR ⊢
  refine lv_istore (lv' := [(5, .int k9.1), (4, .int (nI i)), (3, .ref (s0.heap.size + 128)), (2, .ref (s0.heap.size + 104)), (1, .ref s0.heap.size), (0, .ref b)]) hx hb dL_law_1112 hl (by decide) rfl (fun ls hl => ?_)
  refine lv_aload_n hx hb dL_law_1114 rfl (lv_at hl 3 rfl) ?_
  refine lv_aload_n hx hb dL_law_1115 rfl (lv_at hl 5 rfl) ?_
  refine lv_iload hx hb dL_law_1116 (lv_at hl 1 rfl) ?_
  refine lv_iconst (v := 1) hx hb dL_law_1118 (by decide) ?_
  refine lv_iadd hx hb dL_law_1119 ?_
  refine gx_ti (nI (i + 1)) (nI_add i 1) ?_
  refine va_sld hx hb hX hbl hbA (law_S hR hL) (i := nI (i + 1)) (nI_in (by omega) (by omega)) dL_law_1120 ?_
  refine gx_ti (xs (i + 1)) (by rw [nI_clamp (by omega)]) ?_
  refine lv_aload_n hx hb dL_law_1121 rfl (lv_at hl 5 rfl) ?_
  refine lv_iload hx hb dL_law_1122 (lv_at hl 1 rfl) ?_
  refine lv_iconst (v := 2) hx hb dL_law_1124 (by decide) ?_
  refine lv_iadd hx hb dL_law_1125 ?_
  refine gx_ti (nI (i + 2)) (nI_add i 2) ?_
  refine va_sld hx hb hX hbl hbA (law_S hR hL) (i := nI (i + 2)) (nI_in (by omega) (by omega)) dL_law_1126 ?_
  refine gx_ti (xs (i + 2)) (by rw [nI_clamp (by omega)]) ?_
  refine lv_aload_n hx hb dL_law_1127 rfl (lv_at hl 5 rfl) ?_
  refine lv_iload hx hb dL_law_1128 (lv_at hl 1 rfl) ?_
  refine lv_iconst (v := 3) hx hb dL_law_1130 (by decide) ?_
  refine lv_iadd hx hb dL_law_1131 ?_
  refine gx_ti (nI (i + 3)) (nI_add i 3) ?_
  refine va_sld hx hb hX hbl hbA (law_S hR hL) (i := nI (i + 3)) (nI_in (by omega) (by omega)) dL_law_1132 ?_
  refine gx_ti (xs (i + 3)) (by rw [nI_clamp (by omega)]) ?_
  refine cc_v (va_runV (b := s0.heap.size + 104) (As := [.int (xs (i + 1)), .int (xs (i + 2)), .int (xs (i + 3))]) (rest := []) ⟨hx, hb, hml, hown, hts⟩ (ct_X11_promise hE ⟨_, hR⟩ (xs (i + 1)) (xs (i + 2)) (xs (i + 3)) hQ.mc) (cwV 3 hts (lw_V q1125 q1126 q1127 q61 q1128) rfl rfl rfl (by decide +kernel) ⟨Nat.le_of_ble_eq_true rfl, Nat.le_of_ble_eq_true rfl⟩) (cc_pV hW0 (cc_re hK hR.mo (show gcl[10]? = _ from rfl))) rfl rfl hl.1 rfl (lv_room (Nat.le_of_ble_eq_true rfl)) dL_law_1133 ⟨by show cells + 1 + 0 ≤ 600128; omega, by show slots + 6 + 0 ≤ 7301098; omega⟩) hL (fun H locs hP1 hL => ?_)
  obtain ⟨Y, hR⟩ := hP1
  obtain ⟨e1, e2, hQ1⟩ := hr9
  generalize (mz M 0 (x_prom M (xs (i + 1)) (xs (i + 2)) (xs (i + 3)))) = M1 at e1 hQ1 hR ⊢
  generalize (m_prr M (xs (i + 1)) (xs (i + 2)) (xs (i + 3))) = a9 at e2 ⊢
  refine lv_istore (lv' := [(6, .int a9), (5, .int k9.1), (4, .int (nI i)), (3, .ref (s0.heap.size + 128)), (2, .ref (s0.heap.size + 104)), (1, .ref s0.heap.size), (0, .ref b)]) hx hb dL_law_1136 hl (by decide) rfl (fun ls hl => ?_)
  refine lv_aload_n hx hb dL_law_1138 rfl (lv_at hl 4 rfl) ?_
  refine cc_v (va_runV (b := s0.heap.size + 104) (As := []) (rest := []) ⟨hx, hb, hml, hown, hts⟩ (ct_X11_thrown hE ⟨_, hR⟩) (cwV 0 hts (lw_V q969 q970 q971 q61 q972) rfl rfl rfl (by decide +kernel) ⟨Nat.le_of_ble_eq_true rfl, Nat.le_of_ble_eq_true rfl⟩) (cc_pV hW0 (cc_re hK hR.mo (show gcl[10]? = _ from rfl))) rfl rfl hl.1 rfl (lv_room (Nat.le_of_ble_eq_true rfl)) dL_law_1139 ⟨by show cells + 1 + 0 ≤ 600128; omega, by show slots + 6 + 0 ≤ 7301098; omega⟩) hL (fun H locs hP1 hL => ?_)
  subst hP1
  refine lv_iload hx hb dL_law_1142 (lv_at hl 1 rfl) ?_
  refine lv_icmp_eq (tgt := 1149) hx hb dL_law_1144 (by decide) (fun c1 => ?_) (fun c1 => absurd e1.symm c1)
  refine lv_iload hx hb dL_law_1149 (lv_at hl 1 rfl) ?_
  refine lv_if_ne (tgt := 1166) hx hb dL_law_1151 (by decide) (fun c2 => ?_) (fun c2 => ?_)
  · skip
    refine lv_goto (tgt := 1428) hx hb dL_law_1166 (by decide) ?_
    refine W.widen (k := cells + 300) (n := slots + 10800) (by omega) (by omega) ?_
    exact kk _ _ _ _ _ _ hQ1 ⟨_, hR⟩ (lv_sub hl [2, 3, 4, 5, 6] rfl) hL
  · skip
    refine lv_aload_n hx hb dL_law_1154 rfl (lv_at hl 3 rfl) ?_
    refine lv_iconst (v := 0) hx hb dL_law_1155 (by decide) ?_
    refine gx_lald (n := 1) hx hb hK 0 hR.out rfl 0 (by decide) (by decide) (by decide) dL_law_1156 ?_
    refine lv_iload hx hb dL_law_1157 (lv_at hl 0 rfl) ?_
    refine lv_i2l (v := a9.toInt64) hx hb dL_law_1159 rfl ?_
    refine gx_lc_eq (tgt := 1166) (pc1 := 1161) hx hb rfl dL_law_1160 dL_law_1161 (by decide) (fun c3 => ?_) (fun c3 => absurd (e2 c2) c3)
    refine lv_goto (tgt := 1428) hx hb dL_law_1166 (by decide) ?_
    refine W.widen (k := cells + 300) (n := slots + 10800) (by omega) (by omega) ?_
    exact kk _ _ _ _ _ _ hQ1 ⟨_, hR⟩ (lv_sub hl [2, 3, 4, 5, 6] rfl) hL
set_option maxHeartbeats 4000000 in
set_option maxRecDepth 100000 in
theorem law_c15 {l : Launch} {p : Program} {e : Env} {s0 : State} {m : MethodId} {below : List Frame} {meth : Method} {c : Code} {D : va_G} {DA : Nat → ClassId} {z0 b L : Nat} {xs : Nat → Int32} (hF : LF l p s0 m c D DA z0 b L xs) {C : CS} {M : MS} {o : Int64} {H : Heap} (hR : RR s0 D DA z0 C M o H) (hQ : Rel C M) {i : Nat} (hi : i + 6 ≤ L) {locs : List Loc} {ls : Array Slot} {cells slots : Nat} (hl : lv_has ls 8 [(4, .int (nI i)), (3, .ref (s0.heap.size + 128)), (2, .ref (s0.heap.size + 104)), (1, .ref s0.heap.size), (0, .ref b)]) (hL : gx_L s0.heap.size locs) (hroom : cells + 300 ≤ 600128 ∧ slots + 10800 ≤ 7301098) {Q : State → Prop} (kk : ∀ (C : CS) (M : MS) (o : Int64) (H : Heap) (locs : List Loc) (ls : Array Slot), Rel C M → RR s0 D DA z0 C M o H → lv_has ls 8 [(4, .int (nI i)), (3, .ref (s0.heap.size + 128)), (2, .ref (s0.heap.size + 104)), (1, .ref s0.heap.size), (0, .ref b)] → gx_L s0.heap.size locs → W p l e room_1 s0 m #[Value.ref b] below meth c H locs (cells + 300) (slots + 10800) Q (F0 m 1428 ls [])) : W p l e room_1 s0 m #[Value.ref b] below meth c H locs cells slots Q (F0 m 1169 ls []) := by
  obtain ⟨hE, hx, hb, hml, hown, hts, hW0, hX, hbl, hL384⟩ := hF
  have hK := hE.K
  have hbA : ¬ (fun q : Nat => s0.heap.size ≤ q) b := Nat.not_le.mpr hbl
  obtain ⟨Y, hR⟩ := hR
  refine lv_aload_n hx hb dL_law_1169 rfl (lv_at hl 3 rfl) ?_
  refine lv_aload_n hx hb dL_law_1170 rfl (lv_at hl 4 rfl) ?_
  refine lv_iload hx hb dL_law_1171 (lv_at hl 0 rfl) ?_
  refine lv_iconst (v := 1) hx hb dL_law_1173 (by decide) ?_
  refine lv_iadd hx hb dL_law_1174 ?_
  refine gx_ti (nI (i + 1)) (nI_add i 1) ?_
  refine va_sld hx hb hX hbl hbA (law_S hR hL) (i := nI (i + 1)) (nI_in (by omega) (by omega)) dL_law_1175 ?_
  refine gx_ti (xs (i + 1)) (by rw [nI_clamp (by omega)]) ?_
  refine lv_aload_n hx hb dL_law_1176 rfl (lv_at hl 4 rfl) ?_
  refine lv_iload hx hb dL_law_1177 (lv_at hl 0 rfl) ?_
  refine lv_iconst (v := 2) hx hb dL_law_1179 (by decide) ?_
  refine lv_iadd hx hb dL_law_1180 ?_
  refine gx_ti (nI (i + 2)) (nI_add i 2) ?_
  refine va_sld hx hb hX hbl hbA (law_S hR hL) (i := nI (i + 2)) (nI_in (by omega) (by omega)) dL_law_1181 ?_
  refine gx_ti (xs (i + 2)) (by rw [nI_clamp (by omega)]) ?_
  refine lv_aload_n hx hb dL_law_1182 rfl (lv_at hl 4 rfl) ?_
  refine lv_iload hx hb dL_law_1183 (lv_at hl 0 rfl) ?_
  refine lv_iconst (v := 3) hx hb dL_law_1185 (by decide) ?_
  refine lv_iadd hx hb dL_law_1186 ?_
  refine gx_ti (nI (i + 3)) (nI_add i 3) ?_
  refine va_sld hx hb hX hbl hbA (law_S hR hL) (i := nI (i + 3)) (nI_in (by omega) (by omega)) dL_law_1187 ?_
  refine gx_ti (xs (i + 3)) (by rw [nI_clamp (by omega)]) ?_
  refine lv_aload_n hx hb dL_law_1188 rfl (lv_at hl 1 rfl) ?_
  have hr9 := r_reserve hQ o (xs (i + 1)) (xs (i + 2)) (xs (i + 3))
  refine cc_v (va_runSW (As := [.ref s0.heap.size, .int (xs (i + 1)), .int (xs (i + 2)), .int (xs (i + 3)), .ref (s0.heap.size + 128)]) (rest := []) ⟨hx, hb, hml, hown, hts⟩ (ct_X0_reserve hE ⟨_, hR⟩ (xs (i + 1)) (xs (i + 2)) (xs (i + 3))) (va_cwSW 5 hts (lw_SW q848 q849 q46 q850) rfl rfl rfl (by decide +kernel) ⟨Nat.le_of_ble_eq_true rfl, Nat.le_of_ble_eq_true rfl⟩) (cc_pS hW0) rfl rfl hl.1 rfl (lv_room (Nat.le_of_ble_eq_true rfl)) dL_law_1189 ⟨by show cells + 2 ≤ 600128; omega, by show slots + 39 ≤ 7301098; omega⟩) hL (fun H locs hP1 hL => ?_)
  obtain ⟨Y, hR⟩ := hP1
  generalize (k_reserve C o (xs (i + 1)) (xs (i + 2)) (xs (i + 3))) = k9 at hr9 hR ⊢
  refine lv_istore (lv' := [(5, .int k9.1), (4, .int (nI i)), (3, .ref (s0.heap.size + 128)), (2, .ref (s0.heap.size + 104)), (1, .ref s0.heap.size), (0, .ref b)]) hx hb dL_law_1192 hl (by decide) rfl (fun ls hl => ?_)
  refine lv_aload_n hx hb dL_law_1194 rfl (lv_at hl 3 rfl) ?_
  refine lv_aload_n hx hb dL_law_1195 rfl (lv_at hl 5 rfl) ?_
  refine lv_iload hx hb dL_law_1196 (lv_at hl 1 rfl) ?_
  refine lv_iconst (v := 1) hx hb dL_law_1198 (by decide) ?_
  refine lv_iadd hx hb dL_law_1199 ?_
  refine gx_ti (nI (i + 1)) (nI_add i 1) ?_
  refine va_sld hx hb hX hbl hbA (law_S hR hL) (i := nI (i + 1)) (nI_in (by omega) (by omega)) dL_law_1200 ?_
  refine gx_ti (xs (i + 1)) (by rw [nI_clamp (by omega)]) ?_
  refine lv_aload_n hx hb dL_law_1201 rfl (lv_at hl 5 rfl) ?_
  refine lv_iload hx hb dL_law_1202 (lv_at hl 1 rfl) ?_
  refine lv_iconst (v := 2) hx hb dL_law_1204 (by decide) ?_
  refine lv_iadd hx hb dL_law_1205 ?_
  refine gx_ti (nI (i + 2)) (nI_add i 2) ?_
  refine va_sld hx hb hX hbl hbA (law_S hR hL) (i := nI (i + 2)) (nI_in (by omega) (by omega)) dL_law_1206 ?_
  refine gx_ti (xs (i + 2)) (by rw [nI_clamp (by omega)]) ?_
  refine lv_aload_n hx hb dL_law_1207 rfl (lv_at hl 5 rfl) ?_
  refine lv_iload hx hb dL_law_1208 (lv_at hl 1 rfl) ?_
  refine lv_iconst (v := 3) hx hb dL_law_1210 (by decide) ?_
  refine lv_iadd hx hb dL_law_1211 ?_
  refine gx_ti (nI (i + 3)) (nI_add i 3) ?_
  refine va_sld hx hb hX hbl hbA (law_S hR hL) (i := nI (i + 3)) (nI_in (by omega) (by omega)) dL_law_1212 ?_
  refine gx_ti (xs (i + 3)) (by rw [nI_clamp (by omega)]) ?_
  refine cc_v (va_runV (b := s0.heap.size + 104) (As := [.int (xs (i + 1)), .int (xs (i + 2)), .int (xs (i + 3))]) (rest := []) ⟨hx, hb, hml, hown, hts⟩ (ct_X11_reserve hE ⟨_, hR⟩ (xs (i + 1)) (xs (i + 2)) (xs (i + 3)) hQ.mc) (cwV 3 hts (lw_V q1133 q1134 q1135 q61 q1136) rfl rfl rfl (by decide +kernel) ⟨Nat.le_of_ble_eq_true rfl, Nat.le_of_ble_eq_true rfl⟩) (cc_pV hW0 (cc_re hK hR.mo (show gcl[10]? = _ from rfl))) rfl rfl hl.1 rfl (lv_room (Nat.le_of_ble_eq_true rfl)) dL_law_1213 ⟨by show cells + 2 + 0 ≤ 600128; omega, by show slots + 39 + 0 ≤ 7301098; omega⟩) hL (fun H locs hP1 hL => ?_)
  obtain ⟨Y, hR⟩ := hP1
  obtain ⟨e1, e2, hQ1⟩ := hr9
  generalize (m_res M (xs (i + 1)) (xs (i + 2)) (xs (i + 3))) = M1 at e1 hQ1 hR ⊢
  generalize (m_resr M (xs (i + 1)) (xs (i + 2)) (xs (i + 3))) = a9 at e2 ⊢
  refine lv_istore (lv' := [(6, .int a9), (5, .int k9.1), (4, .int (nI i)), (3, .ref (s0.heap.size + 128)), (2, .ref (s0.heap.size + 104)), (1, .ref s0.heap.size), (0, .ref b)]) hx hb dL_law_1216 hl (by decide) rfl (fun ls hl => ?_)
  refine lv_aload_n hx hb dL_law_1218 rfl (lv_at hl 4 rfl) ?_
  refine cc_v (va_runV (b := s0.heap.size + 104) (As := []) (rest := []) ⟨hx, hb, hml, hown, hts⟩ (ct_X11_thrown hE ⟨_, hR⟩) (cwV 0 hts (lw_V q969 q970 q971 q61 q972) rfl rfl rfl (by decide +kernel) ⟨Nat.le_of_ble_eq_true rfl, Nat.le_of_ble_eq_true rfl⟩) (cc_pV hW0 (cc_re hK hR.mo (show gcl[10]? = _ from rfl))) rfl rfl hl.1 rfl (lv_room (Nat.le_of_ble_eq_true rfl)) dL_law_1219 ⟨by show cells + 2 + 0 ≤ 600128; omega, by show slots + 39 + 0 ≤ 7301098; omega⟩) hL (fun H locs hP1 hL => ?_)
  subst hP1
  refine lv_iload hx hb dL_law_1222 (lv_at hl 1 rfl) ?_
  refine lv_icmp_eq (tgt := 1229) hx hb dL_law_1224 (by decide) (fun c1 => ?_) (fun c1 => absurd e1.symm c1)
  refine lv_iload hx hb dL_law_1229 (lv_at hl 1 rfl) ?_
  refine lv_if_ne (tgt := 1246) hx hb dL_law_1231 (by decide) (fun c2 => ?_) (fun c2 => ?_)
  · skip
    refine lv_goto (tgt := 1428) hx hb dL_law_1246 (by decide) ?_
    refine W.widen (k := cells + 300) (n := slots + 10800) (by omega) (by omega) ?_
    exact kk _ _ _ _ _ _ hQ1 ⟨_, hR⟩ (lv_sub hl [2, 3, 4, 5, 6] rfl) hL
  · skip
    refine lv_aload_n hx hb dL_law_1234 rfl (lv_at hl 3 rfl) ?_
    refine lv_iconst (v := 0) hx hb dL_law_1235 (by decide) ?_
    refine gx_lald (n := 1) hx hb hK 0 hR.out rfl 0 (by decide) (by decide) (by decide) dL_law_1236 ?_
    refine lv_iload hx hb dL_law_1237 (lv_at hl 0 rfl) ?_
    refine lv_i2l (v := a9.toInt64) hx hb dL_law_1239 rfl ?_
    refine gx_lc_eq (tgt := 1246) (pc1 := 1241) hx hb rfl dL_law_1240 dL_law_1241 (by decide) (fun c3 => ?_) (fun c3 => absurd (e2 c2) c3)
    refine lv_goto (tgt := 1428) hx hb dL_law_1246 (by decide) ?_
    refine W.widen (k := cells + 300) (n := slots + 10800) (by omega) (by omega) ?_
    exact kk _ _ _ _ _ _ hQ1 ⟨_, hR⟩ (lv_sub hl [2, 3, 4, 5, 6] rfl) hL
set_option maxHeartbeats 4000000 in
set_option maxRecDepth 100000 in
theorem law_c16 {l : Launch} {p : Program} {e : Env} {s0 : State} {m : MethodId} {below : List Frame} {meth : Method} {c : Code} {D : va_G} {DA : Nat → ClassId} {z0 b L : Nat} {xs : Nat → Int32} (hF : LF l p s0 m c D DA z0 b L xs) {C : CS} {M : MS} {o : Int64} {H : Heap} (hR : RR s0 D DA z0 C M o H) (hQ : Rel C M) {i : Nat} (hi : i + 6 ≤ L) {locs : List Loc} {ls : Array Slot} {cells slots : Nat} (hl : lv_has ls 8 [(4, .int (nI i)), (3, .ref (s0.heap.size + 128)), (2, .ref (s0.heap.size + 104)), (1, .ref s0.heap.size), (0, .ref b)]) (hL : gx_L s0.heap.size locs) (hroom : cells + 300 ≤ 600128 ∧ slots + 10800 ≤ 7301098) {Q : State → Prop} (kk : ∀ (C : CS) (M : MS) (o : Int64) (H : Heap) (locs : List Loc) (ls : Array Slot), Rel C M → RR s0 D DA z0 C M o H → lv_has ls 8 [(4, .int (nI i)), (3, .ref (s0.heap.size + 128)), (2, .ref (s0.heap.size + 104)), (1, .ref s0.heap.size), (0, .ref b)] → gx_L s0.heap.size locs → W p l e room_1 s0 m #[Value.ref b] below meth c H locs (cells + 300) (slots + 10800) Q (F0 m 1428 ls [])) : W p l e room_1 s0 m #[Value.ref b] below meth c H locs cells slots Q (F0 m 1249 ls []) := by
  obtain ⟨hE, hx, hb, hml, hown, hts, hW0, hX, hbl, hL384⟩ := hF
  have hK := hE.K
  have hbA : ¬ (fun q : Nat => s0.heap.size ≤ q) b := Nat.not_le.mpr hbl
  obtain ⟨Y, hR⟩ := hR
  refine lv_aload_n hx hb dL_law_1249 rfl (lv_at hl 3 rfl) ?_
  refine lv_aload_n hx hb dL_law_1250 rfl (lv_at hl 4 rfl) ?_
  refine lv_iload hx hb dL_law_1251 (lv_at hl 0 rfl) ?_
  refine lv_iconst (v := 1) hx hb dL_law_1253 (by decide) ?_
  refine lv_iadd hx hb dL_law_1254 ?_
  refine gx_ti (nI (i + 1)) (nI_add i 1) ?_
  refine va_sld hx hb hX hbl hbA (law_S hR hL) (i := nI (i + 1)) (nI_in (by omega) (by omega)) dL_law_1255 ?_
  refine gx_ti (xs (i + 1)) (by rw [nI_clamp (by omega)]) ?_
  refine lv_aload_n hx hb dL_law_1256 rfl (lv_at hl 1 rfl) ?_
  have hr9 := r_giveBack hQ o (xs (i + 1))
  refine cc_v (va_runSW (As := [.ref s0.heap.size, .int (xs (i + 1)), .ref (s0.heap.size + 128)]) (rest := []) ⟨hx, hb, hml, hown, hts⟩ (ct_X0_giveBack hE ⟨_, hR⟩ (xs (i + 1))) (va_cwSW 3 hts (lw_SW q855 q856 q46 q857) rfl rfl rfl (by decide +kernel) ⟨Nat.le_of_ble_eq_true rfl, Nat.le_of_ble_eq_true rfl⟩) (cc_pS hW0) rfl rfl hl.1 rfl (lv_room (Nat.le_of_ble_eq_true rfl)) dL_law_1257 ⟨by show cells + 1 ≤ 600128; omega, by show slots + 6 ≤ 7301098; omega⟩) hL (fun H locs hP1 hL => ?_)
  obtain ⟨Y, hR⟩ := hP1
  generalize (k_giveBack C o (xs (i + 1))) = k9 at hr9 hR ⊢
  refine lv_istore (lv' := [(5, .int k9.1), (4, .int (nI i)), (3, .ref (s0.heap.size + 128)), (2, .ref (s0.heap.size + 104)), (1, .ref s0.heap.size), (0, .ref b)]) hx hb dL_law_1260 hl (by decide) rfl (fun ls hl => ?_)
  refine lv_aload_n hx hb dL_law_1262 rfl (lv_at hl 3 rfl) ?_
  refine lv_aload_n hx hb dL_law_1263 rfl (lv_at hl 5 rfl) ?_
  refine lv_iload hx hb dL_law_1264 (lv_at hl 1 rfl) ?_
  refine lv_iconst (v := 1) hx hb dL_law_1266 (by decide) ?_
  refine lv_iadd hx hb dL_law_1267 ?_
  refine gx_ti (nI (i + 1)) (nI_add i 1) ?_
  refine va_sld hx hb hX hbl hbA (law_S hR hL) (i := nI (i + 1)) (nI_in (by omega) (by omega)) dL_law_1268 ?_
  refine gx_ti (xs (i + 1)) (by rw [nI_clamp (by omega)]) ?_
  refine cc_v (va_runV (b := s0.heap.size + 104) (As := [.int (xs (i + 1))]) (rest := []) ⟨hx, hb, hml, hown, hts⟩ (ct_X11_giveBack hE ⟨_, hR⟩ (xs (i + 1)) hQ.mc) (cwV 1 hts (lw_V q1137 q1138 q1139 q61 q1140) rfl rfl rfl (by decide +kernel) ⟨Nat.le_of_ble_eq_true rfl, Nat.le_of_ble_eq_true rfl⟩) (cc_pV hW0 (cc_re hK hR.mo (show gcl[10]? = _ from rfl))) rfl rfl hl.1 rfl (lv_room (Nat.le_of_ble_eq_true rfl)) dL_law_1269 ⟨by show cells + 1 + 0 ≤ 600128; omega, by show slots + 6 + 0 ≤ 7301098; omega⟩) hL (fun H locs hP1 hL => ?_)
  obtain ⟨Y, hR⟩ := hP1
  obtain ⟨e1, e2, hQ1⟩ := hr9
  generalize (m_gb M (xs (i + 1))) = M1 at e1 hQ1 hR ⊢
  generalize (m_gbr M (xs (i + 1))) = a9 at e2 ⊢
  refine lv_istore (lv' := [(6, .int a9), (5, .int k9.1), (4, .int (nI i)), (3, .ref (s0.heap.size + 128)), (2, .ref (s0.heap.size + 104)), (1, .ref s0.heap.size), (0, .ref b)]) hx hb dL_law_1272 hl (by decide) rfl (fun ls hl => ?_)
  refine lv_aload_n hx hb dL_law_1274 rfl (lv_at hl 4 rfl) ?_
  refine cc_v (va_runV (b := s0.heap.size + 104) (As := []) (rest := []) ⟨hx, hb, hml, hown, hts⟩ (ct_X11_thrown hE ⟨_, hR⟩) (cwV 0 hts (lw_V q969 q970 q971 q61 q972) rfl rfl rfl (by decide +kernel) ⟨Nat.le_of_ble_eq_true rfl, Nat.le_of_ble_eq_true rfl⟩) (cc_pV hW0 (cc_re hK hR.mo (show gcl[10]? = _ from rfl))) rfl rfl hl.1 rfl (lv_room (Nat.le_of_ble_eq_true rfl)) dL_law_1275 ⟨by show cells + 1 + 0 ≤ 600128; omega, by show slots + 6 + 0 ≤ 7301098; omega⟩) hL (fun H locs hP1 hL => ?_)
  subst hP1
  refine lv_iload hx hb dL_law_1278 (lv_at hl 1 rfl) ?_
  refine lv_icmp_eq (tgt := 1285) hx hb dL_law_1280 (by decide) (fun c1 => ?_) (fun c1 => absurd e1.symm c1)
  refine lv_iload hx hb dL_law_1285 (lv_at hl 1 rfl) ?_
  refine lv_if_ne (tgt := 1302) hx hb dL_law_1287 (by decide) (fun c2 => ?_) (fun c2 => ?_)
  · skip
    refine lv_goto (tgt := 1428) hx hb dL_law_1302 (by decide) ?_
    refine W.widen (k := cells + 300) (n := slots + 10800) (by omega) (by omega) ?_
    exact kk _ _ _ _ _ _ hQ1 ⟨_, hR⟩ (lv_sub hl [2, 3, 4, 5, 6] rfl) hL
  · skip
    refine lv_aload_n hx hb dL_law_1290 rfl (lv_at hl 3 rfl) ?_
    refine lv_iconst (v := 0) hx hb dL_law_1291 (by decide) ?_
    refine gx_lald (n := 1) hx hb hK 0 hR.out rfl 0 (by decide) (by decide) (by decide) dL_law_1292 ?_
    refine lv_iload hx hb dL_law_1293 (lv_at hl 0 rfl) ?_
    refine lv_i2l (v := a9.toInt64) hx hb dL_law_1295 rfl ?_
    refine gx_lc_eq (tgt := 1302) (pc1 := 1297) hx hb rfl dL_law_1296 dL_law_1297 (by decide) (fun c3 => ?_) (fun c3 => absurd (e2 c2) c3)
    refine lv_goto (tgt := 1428) hx hb dL_law_1302 (by decide) ?_
    refine W.widen (k := cells + 300) (n := slots + 10800) (by omega) (by omega) ?_
    exact kk _ _ _ _ _ _ hQ1 ⟨_, hR⟩ (lv_sub hl [2, 3, 4, 5, 6] rfl) hL
set_option maxHeartbeats 4000000 in
set_option maxRecDepth 100000 in
theorem law_c17 {l : Launch} {p : Program} {e : Env} {s0 : State} {m : MethodId} {below : List Frame} {meth : Method} {c : Code} {D : va_G} {DA : Nat → ClassId} {z0 b L : Nat} {xs : Nat → Int32} (hF : LF l p s0 m c D DA z0 b L xs) {C : CS} {M : MS} {o : Int64} {H : Heap} (hR : RR s0 D DA z0 C M o H) (hQ : Rel C M) {i : Nat} (hi : i + 6 ≤ L) {locs : List Loc} {ls : Array Slot} {cells slots : Nat} (hl : lv_has ls 8 [(4, .int (nI i)), (3, .ref (s0.heap.size + 128)), (2, .ref (s0.heap.size + 104)), (1, .ref s0.heap.size), (0, .ref b)]) (hL : gx_L s0.heap.size locs) (hroom : cells + 300 ≤ 600128 ∧ slots + 10800 ≤ 7301098) {Q : State → Prop} (kk : ∀ (C : CS) (M : MS) (o : Int64) (H : Heap) (locs : List Loc) (ls : Array Slot), Rel C M → RR s0 D DA z0 C M o H → lv_has ls 8 [(4, .int (nI i)), (3, .ref (s0.heap.size + 128)), (2, .ref (s0.heap.size + 104)), (1, .ref s0.heap.size), (0, .ref b)] → gx_L s0.heap.size locs → W p l e room_1 s0 m #[Value.ref b] below meth c H locs (cells + 300) (slots + 10800) Q (F0 m 1428 ls [])) : W p l e room_1 s0 m #[Value.ref b] below meth c H locs cells slots Q (F0 m 1305 ls []) := by
  obtain ⟨hE, hx, hb, hml, hown, hts, hW0, hX, hbl, hL384⟩ := hF
  have hK := hE.K
  have hbA : ¬ (fun q : Nat => s0.heap.size ≤ q) b := Nat.not_le.mpr hbl
  obtain ⟨Y, hR⟩ := hR
  refine lv_aload_n hx hb dL_law_1305 rfl (lv_at hl 3 rfl) ?_
  refine lv_aload_n hx hb dL_law_1306 rfl (lv_at hl 4 rfl) ?_
  refine lv_iload hx hb dL_law_1307 (lv_at hl 0 rfl) ?_
  refine lv_iconst (v := 1) hx hb dL_law_1309 (by decide) ?_
  refine lv_iadd hx hb dL_law_1310 ?_
  refine gx_ti (nI (i + 1)) (nI_add i 1) ?_
  refine va_sld hx hb hX hbl hbA (law_S hR hL) (i := nI (i + 1)) (nI_in (by omega) (by omega)) dL_law_1311 ?_
  refine gx_ti (xs (i + 1)) (by rw [nI_clamp (by omega)]) ?_
  refine lv_aload_n hx hb dL_law_1312 rfl (lv_at hl 4 rfl) ?_
  refine lv_iload hx hb dL_law_1313 (lv_at hl 0 rfl) ?_
  refine lv_iconst (v := 2) hx hb dL_law_1315 (by decide) ?_
  refine lv_iadd hx hb dL_law_1316 ?_
  refine gx_ti (nI (i + 2)) (nI_add i 2) ?_
  refine va_sld hx hb hX hbl hbA (law_S hR hL) (i := nI (i + 2)) (nI_in (by omega) (by omega)) dL_law_1317 ?_
  refine gx_ti (xs (i + 2)) (by rw [nI_clamp (by omega)]) ?_
  refine lv_aload_n hx hb dL_law_1318 rfl (lv_at hl 1 rfl) ?_
  have hr9 := r_load hQ o (xs (i + 1)) (xs (i + 2))
  refine cc_v (va_runSW (As := [.ref s0.heap.size, .int (xs (i + 1)), .int (xs (i + 2)), .ref (s0.heap.size + 128)]) (rest := []) ⟨hx, hb, hml, hown, hts⟩ (ct_X0_load hE ⟨_, hR⟩ (xs (i + 1)) (xs (i + 2)) hQ.cc) (va_cwSW 4 hts (lw_SW q862 q863 q46 q864) rfl rfl rfl (by decide +kernel) ⟨Nat.le_of_ble_eq_true rfl, Nat.le_of_ble_eq_true rfl⟩) (cc_pS hW0) rfl rfl hl.1 rfl (lv_room (Nat.le_of_ble_eq_true rfl)) dL_law_1319 ⟨by show cells + 1 ≤ 600128; omega, by show slots + 6 ≤ 7301098; omega⟩) hL (fun H locs hP1 hL => ?_)
  obtain ⟨Y, hR⟩ := hP1
  generalize (k_load C o (xs (i + 1)) (xs (i + 2))) = k9 at hr9 hR ⊢
  refine lv_istore (lv' := [(5, .int k9.1), (4, .int (nI i)), (3, .ref (s0.heap.size + 128)), (2, .ref (s0.heap.size + 104)), (1, .ref s0.heap.size), (0, .ref b)]) hx hb dL_law_1322 hl (by decide) rfl (fun ls hl => ?_)
  refine lv_aload_n hx hb dL_law_1324 rfl (lv_at hl 3 rfl) ?_
  refine lv_aload_n hx hb dL_law_1325 rfl (lv_at hl 5 rfl) ?_
  refine lv_iload hx hb dL_law_1326 (lv_at hl 1 rfl) ?_
  refine lv_iconst (v := 1) hx hb dL_law_1328 (by decide) ?_
  refine lv_iadd hx hb dL_law_1329 ?_
  refine gx_ti (nI (i + 1)) (nI_add i 1) ?_
  refine va_sld hx hb hX hbl hbA (law_S hR hL) (i := nI (i + 1)) (nI_in (by omega) (by omega)) dL_law_1330 ?_
  refine gx_ti (xs (i + 1)) (by rw [nI_clamp (by omega)]) ?_
  refine lv_aload_n hx hb dL_law_1331 rfl (lv_at hl 5 rfl) ?_
  refine lv_iload hx hb dL_law_1332 (lv_at hl 1 rfl) ?_
  refine lv_iconst (v := 2) hx hb dL_law_1334 (by decide) ?_
  refine lv_iadd hx hb dL_law_1335 ?_
  refine gx_ti (nI (i + 2)) (nI_add i 2) ?_
  refine va_sld hx hb hX hbl hbA (law_S hR hL) (i := nI (i + 2)) (nI_in (by omega) (by omega)) dL_law_1336 ?_
  refine gx_ti (xs (i + 2)) (by rw [nI_clamp (by omega)]) ?_
  refine cc_v (va_runV (b := s0.heap.size + 104) (As := [.int (xs (i + 1)), .int (xs (i + 2))]) (rest := []) ⟨hx, hb, hml, hown, hts⟩ (ct_X11_load hE ⟨_, hR⟩ (xs (i + 1)) (xs (i + 2)) hQ.mc) (cwV 2 hts (lw_V q1141 q1142 q1143 q61 q1144) rfl rfl rfl (by decide +kernel) ⟨Nat.le_of_ble_eq_true rfl, Nat.le_of_ble_eq_true rfl⟩) (cc_pV hW0 (cc_re hK hR.mo (show gcl[10]? = _ from rfl))) rfl rfl hl.1 rfl (lv_room (Nat.le_of_ble_eq_true rfl)) dL_law_1337 ⟨by show cells + 1 + 0 ≤ 600128; omega, by show slots + 6 + 0 ≤ 7301098; omega⟩) hL (fun H locs hP1 hL => ?_)
  obtain ⟨Y, hR⟩ := hP1
  obtain ⟨e1, e2, hQ1⟩ := hr9
  generalize (mz M 0 (x_load M (xs (i + 1)) (xs (i + 2)))) = M1 at e1 hQ1 hR ⊢
  generalize (m_ldr M (xs (i + 1)) (xs (i + 2))) = a9 at e2 ⊢
  refine lv_lstore (lv' := [(6, .long a9), (5, .int k9.1), (4, .int (nI i)), (3, .ref (s0.heap.size + 128)), (2, .ref (s0.heap.size + 104)), (1, .ref s0.heap.size), (0, .ref b)]) hx hb dL_law_1340 hl (by decide) rfl (fun ls hl => ?_)
  refine lv_aload_n hx hb dL_law_1342 rfl (lv_at hl 4 rfl) ?_
  refine cc_v (va_runV (b := s0.heap.size + 104) (As := []) (rest := []) ⟨hx, hb, hml, hown, hts⟩ (ct_X11_thrown hE ⟨_, hR⟩) (cwV 0 hts (lw_V q969 q970 q971 q61 q972) rfl rfl rfl (by decide +kernel) ⟨Nat.le_of_ble_eq_true rfl, Nat.le_of_ble_eq_true rfl⟩) (cc_pV hW0 (cc_re hK hR.mo (show gcl[10]? = _ from rfl))) rfl rfl hl.1 rfl (lv_room (Nat.le_of_ble_eq_true rfl)) dL_law_1343 ⟨by show cells + 1 + 0 ≤ 600128; omega, by show slots + 6 + 0 ≤ 7301098; omega⟩) hL (fun H locs hP1 hL => ?_)
  subst hP1
  refine lv_iload hx hb dL_law_1346 (lv_at hl 1 rfl) ?_
  refine lv_icmp_eq (tgt := 1353) hx hb dL_law_1348 (by decide) (fun c1 => ?_) (fun c1 => absurd e1.symm c1)
  refine lv_iload hx hb dL_law_1353 (lv_at hl 1 rfl) ?_
  refine lv_if_ne (tgt := 1369) hx hb dL_law_1355 (by decide) (fun c2 => ?_) (fun c2 => ?_)
  · skip
    refine lv_goto (tgt := 1428) hx hb dL_law_1369 (by decide) ?_
    refine W.widen (k := cells + 300) (n := slots + 10800) (by omega) (by omega) ?_
    exact kk _ _ _ _ _ _ hQ1 ⟨_, hR⟩ (lv_sub hl [2, 3, 4, 5, 6] rfl) hL
  · skip
    refine lv_aload_n hx hb dL_law_1358 rfl (lv_at hl 3 rfl) ?_
    refine lv_iconst (v := 0) hx hb dL_law_1359 (by decide) ?_
    refine gx_lald (n := 1) hx hb hK 0 hR.out rfl 0 (by decide) (by decide) (by decide) dL_law_1360 ?_
    refine lv_lload hx hb dL_law_1361 (lv_at hl 0 rfl) ?_
    refine gx_lc_eq (tgt := 1369) (pc1 := 1364) hx hb rfl dL_law_1363 dL_law_1364 (by decide) (fun c3 => ?_) (fun c3 => absurd (e2 c2) c3)
    refine lv_goto (tgt := 1428) hx hb dL_law_1369 (by decide) ?_
    refine W.widen (k := cells + 300) (n := slots + 10800) (by omega) (by omega) ?_
    exact kk _ _ _ _ _ _ hQ1 ⟨_, hR⟩ (lv_sub hl [2, 3, 4, 5, 6] rfl) hL
set_option maxHeartbeats 4000000 in
set_option maxRecDepth 100000 in
theorem law_c18 {l : Launch} {p : Program} {e : Env} {s0 : State} {m : MethodId} {below : List Frame} {meth : Method} {c : Code} {D : va_G} {DA : Nat → ClassId} {z0 b L : Nat} {xs : Nat → Int32} (hF : LF l p s0 m c D DA z0 b L xs) {C : CS} {M : MS} {o : Int64} {H : Heap} (hR : RR s0 D DA z0 C M o H) (hQ : Rel C M) {i : Nat} (hi : i + 6 ≤ L) {locs : List Loc} {ls : Array Slot} {cells slots : Nat} (hl : lv_has ls 8 [(4, .int (nI i)), (3, .ref (s0.heap.size + 128)), (2, .ref (s0.heap.size + 104)), (1, .ref s0.heap.size), (0, .ref b)]) (hL : gx_L s0.heap.size locs) (hroom : cells + 300 ≤ 600128 ∧ slots + 10800 ≤ 7301098) {Q : State → Prop} (kk : ∀ (C : CS) (M : MS) (o : Int64) (H : Heap) (locs : List Loc) (ls : Array Slot), Rel C M → RR s0 D DA z0 C M o H → lv_has ls 8 [(4, .int (nI i)), (3, .ref (s0.heap.size + 128)), (2, .ref (s0.heap.size + 104)), (1, .ref s0.heap.size), (0, .ref b)] → gx_L s0.heap.size locs → W p l e room_1 s0 m #[Value.ref b] below meth c H locs (cells + 300) (slots + 10800) Q (F0 m 1428 ls [])) : W p l e room_1 s0 m #[Value.ref b] below meth c H locs cells slots Q (F0 m 1372 ls []) := by
  obtain ⟨hE, hx, hb, hml, hown, hts, hW0, hX, hbl, hL384⟩ := hF
  have hK := hE.K
  have hbA : ¬ (fun q : Nat => s0.heap.size ≤ q) b := Nat.not_le.mpr hbl
  obtain ⟨Y, hR⟩ := hR
  refine lv_aload_n hx hb dL_law_1372 rfl (lv_at hl 3 rfl) ?_
  refine lv_aload_n hx hb dL_law_1373 rfl (lv_at hl 4 rfl) ?_
  refine lv_iload hx hb dL_law_1374 (lv_at hl 0 rfl) ?_
  refine lv_iconst (v := 1) hx hb dL_law_1376 (by decide) ?_
  refine lv_iadd hx hb dL_law_1377 ?_
  refine gx_ti (nI (i + 1)) (nI_add i 1) ?_
  refine va_sld hx hb hX hbl hbA (law_S hR hL) (i := nI (i + 1)) (nI_in (by omega) (by omega)) dL_law_1378 ?_
  refine gx_ti (xs (i + 1)) (by rw [nI_clamp (by omega)]) ?_
  refine lv_aload_n hx hb dL_law_1379 rfl (lv_at hl 1 rfl) ?_
  have hr9 := r_count hQ o (xs (i + 1))
  refine cc_v (va_runSW (As := [.ref s0.heap.size, .int (xs (i + 1)), .ref (s0.heap.size + 128)]) (rest := []) ⟨hx, hb, hml, hown, hts⟩ (ct_X0_count hE ⟨_, hR⟩ (xs (i + 1))) (va_cwSW 3 hts (lw_SW q869 q870 q46 q871) rfl rfl rfl (by decide +kernel) ⟨Nat.le_of_ble_eq_true rfl, Nat.le_of_ble_eq_true rfl⟩) (cc_pS hW0) rfl rfl hl.1 rfl (lv_room (Nat.le_of_ble_eq_true rfl)) dL_law_1380 ⟨by show cells + 1 ≤ 600128; omega, by show slots + 6 ≤ 7301098; omega⟩) hL (fun H locs hP1 hL => ?_)
  obtain ⟨Y, hR⟩ := hP1
  generalize (k_count C o (xs (i + 1))) = k9 at hr9 hR ⊢
  refine lv_istore (lv' := [(5, .int k9.1), (4, .int (nI i)), (3, .ref (s0.heap.size + 128)), (2, .ref (s0.heap.size + 104)), (1, .ref s0.heap.size), (0, .ref b)]) hx hb dL_law_1383 hl (by decide) rfl (fun ls hl => ?_)
  refine lv_aload_n hx hb dL_law_1385 rfl (lv_at hl 3 rfl) ?_
  refine lv_aload_n hx hb dL_law_1386 rfl (lv_at hl 5 rfl) ?_
  refine lv_iload hx hb dL_law_1387 (lv_at hl 1 rfl) ?_
  refine lv_iconst (v := 1) hx hb dL_law_1389 (by decide) ?_
  refine lv_iadd hx hb dL_law_1390 ?_
  refine gx_ti (nI (i + 1)) (nI_add i 1) ?_
  refine va_sld hx hb hX hbl hbA (law_S hR hL) (i := nI (i + 1)) (nI_in (by omega) (by omega)) dL_law_1391 ?_
  refine gx_ti (xs (i + 1)) (by rw [nI_clamp (by omega)]) ?_
  refine cc_v (va_runV (b := s0.heap.size + 104) (As := [.int (xs (i + 1))]) (rest := []) ⟨hx, hb, hml, hown, hts⟩ (ct_X11_count hE ⟨_, hR⟩ (xs (i + 1)) hQ.mc) (cwV 1 hts (lw_V q1145 q1146 q1147 q61 q1148) rfl rfl rfl (by decide +kernel) ⟨Nat.le_of_ble_eq_true rfl, Nat.le_of_ble_eq_true rfl⟩) (cc_pV hW0 (cc_re hK hR.mo (show gcl[10]? = _ from rfl))) rfl rfl hl.1 rfl (lv_room (Nat.le_of_ble_eq_true rfl)) dL_law_1392 ⟨by show cells + 1 + 0 ≤ 600128; omega, by show slots + 6 + 0 ≤ 7301098; omega⟩) hL (fun H locs hP1 hL => ?_)
  obtain ⟨Y, hR⟩ := hP1
  obtain ⟨e1, e2, hQ1⟩ := hr9
  generalize (mz M 0 (x_count M (xs (i + 1)))) = M1 at e1 hQ1 hR ⊢
  generalize (m_cnt M (xs (i + 1))) = a9 at e2 ⊢
  refine lv_istore (lv' := [(6, .int a9), (5, .int k9.1), (4, .int (nI i)), (3, .ref (s0.heap.size + 128)), (2, .ref (s0.heap.size + 104)), (1, .ref s0.heap.size), (0, .ref b)]) hx hb dL_law_1395 hl (by decide) rfl (fun ls hl => ?_)
  refine lv_aload_n hx hb dL_law_1397 rfl (lv_at hl 4 rfl) ?_
  refine cc_v (va_runV (b := s0.heap.size + 104) (As := []) (rest := []) ⟨hx, hb, hml, hown, hts⟩ (ct_X11_thrown hE ⟨_, hR⟩) (cwV 0 hts (lw_V q969 q970 q971 q61 q972) rfl rfl rfl (by decide +kernel) ⟨Nat.le_of_ble_eq_true rfl, Nat.le_of_ble_eq_true rfl⟩) (cc_pV hW0 (cc_re hK hR.mo (show gcl[10]? = _ from rfl))) rfl rfl hl.1 rfl (lv_room (Nat.le_of_ble_eq_true rfl)) dL_law_1398 ⟨by show cells + 1 + 0 ≤ 600128; omega, by show slots + 6 + 0 ≤ 7301098; omega⟩) hL (fun H locs hP1 hL => ?_)
  subst hP1
  refine lv_iload hx hb dL_law_1401 (lv_at hl 1 rfl) ?_
  refine lv_icmp_eq (tgt := 1408) hx hb dL_law_1403 (by decide) (fun c1 => ?_) (fun c1 => absurd e1.symm c1)
  refine lv_iload hx hb dL_law_1408 (lv_at hl 1 rfl) ?_
  refine lv_if_ne (tgt := 1425) hx hb dL_law_1410 (by decide) (fun c2 => ?_) (fun c2 => ?_)
  · skip
    refine lv_goto (tgt := 1428) hx hb dL_law_1425 (by decide) ?_
    refine W.widen (k := cells + 300) (n := slots + 10800) (by omega) (by omega) ?_
    exact kk _ _ _ _ _ _ hQ1 ⟨_, hR⟩ (lv_sub hl [2, 3, 4, 5, 6] rfl) hL
  · skip
    refine lv_aload_n hx hb dL_law_1413 rfl (lv_at hl 3 rfl) ?_
    refine lv_iconst (v := 0) hx hb dL_law_1414 (by decide) ?_
    refine gx_lald (n := 1) hx hb hK 0 hR.out rfl 0 (by decide) (by decide) (by decide) dL_law_1415 ?_
    refine lv_iload hx hb dL_law_1416 (lv_at hl 0 rfl) ?_
    refine lv_i2l (v := a9.toInt64) hx hb dL_law_1418 rfl ?_
    refine gx_lc_eq (tgt := 1425) (pc1 := 1420) hx hb rfl dL_law_1419 dL_law_1420 (by decide) (fun c3 => ?_) (fun c3 => absurd (e2 c2) c3)
    refine lv_goto (tgt := 1428) hx hb dL_law_1425 (by decide) ?_
    refine W.widen (k := cells + 300) (n := slots + 10800) (by omega) (by omega) ?_
    exact kk _ _ _ _ _ _ hQ1 ⟨_, hR⟩ (lv_sub hl [2, 3, 4, 5, 6] rfl) hL
set_option maxHeartbeats 4000000 in
set_option maxRecDepth 100000 in
theorem law_c8 {l : Launch} {p : Program} {e : Env} {s0 : State} {m : MethodId} {below : List Frame} {meth : Method} {c : Code} {D : va_G} {DA : Nat → ClassId} {z0 b L : Nat} {xs : Nat → Int32} (hF : LF l p s0 m c D DA z0 b L xs) {C : CS} {M : MS} {o : Int64} {H : Heap} (hR : RR s0 D DA z0 C M o H) (hQ : Rel C M) {i : Nat} (hi : i + 6 ≤ L) {locs : List Loc} {ls : Array Slot} {cells slots : Nat} (hl : lv_has ls 8 [(4, .int (nI i)), (3, .ref (s0.heap.size + 128)), (2, .ref (s0.heap.size + 104)), (1, .ref s0.heap.size), (0, .ref b)]) (hL : gx_L s0.heap.size locs) (hroom : cells + 300 ≤ 600128 ∧ slots + 10800 ≤ 7301098) {Q : State → Prop} (kk : ∀ (C : CS) (M : MS) (o : Int64) (H : Heap) (locs : List Loc) (ls : Array Slot), Rel C M → RR s0 D DA z0 C M o H → lv_has ls 8 [(4, .int (nI i)), (3, .ref (s0.heap.size + 128)), (2, .ref (s0.heap.size + 104)), (1, .ref s0.heap.size), (0, .ref b)] → gx_L s0.heap.size locs → W p l e room_1 s0 m #[Value.ref b] below meth c H locs (cells + 300) (slots + 10800) Q (F0 m 1428 ls [])) : W p l e room_1 s0 m #[Value.ref b] below meth c H locs cells slots Q (F0 m 740 ls []) := by
  obtain ⟨hE, hx, hb, hml, hown, hts, hW0, hX, hbl, hL384⟩ := hF
  have hK := hE.K
  have hbA : ¬ (fun q : Nat => s0.heap.size ≤ q) b := Nat.not_le.mpr hbl
  obtain ⟨Y, hR⟩ := hR
  obtain ⟨N, hN, hpos, hend, hans, hQ1⟩ := r_replan hQ
  refine lv_aload_n hx hb dL_law_740 rfl (lv_at hl 3 rfl) ?_
  refine cc_v (va_runV (b := s0.heap.size) (As := []) (rest := []) ⟨hx, hb, hml, hown, hts⟩ (ct_X1_replan hE ⟨_, hR⟩ hQ.cc hQ.qi hN hpos hend) (cwV 0 hts (lw_V q303 q304 q305 q47 q306) rfl rfl rfl (by decide +kernel) ⟨Nat.le_of_ble_eq_true rfl, Nat.le_of_ble_eq_true rfl⟩) (cc_pV hW0 (cc_re hK hR.np (show gcl[0]? = _ from rfl))) rfl rfl hl.1 rfl (lv_room (Nat.le_of_ble_eq_true rfl)) dL_law_741 ⟨by show cells + 300 ≤ 600128; omega, by show slots + 10800 ≤ 7301098; omega⟩) hL (fun H locs hP1 hL => ?_)
  obtain ⟨Y, hR⟩ := hP1
  generalize c_it (c_r0 C 12) N = Z at hans hQ1 hR ⊢
  refine lv_aload_n hx hb dL_law_744 rfl (lv_at hl 2 rfl) ?_
  refine cc_v (va_runV (b := s0.heap.size + 104) (As := []) (rest := [.int (nI Z.2)]) ⟨hx, hb, hml, hown, hts⟩ (ct_X11_replan hE ⟨_, hR⟩ hQ.mc) (cwV 0 hts (lw_V q1040 q1041 q1042 q61 q1043) rfl rfl rfl (by decide +kernel) ⟨Nat.le_of_ble_eq_true rfl, Nat.le_of_ble_eq_true rfl⟩) (cc_pV hW0 (cc_re hK hR.mo (show gcl[10]? = _ from rfl))) rfl rfl hl.1 rfl (lv_room (Nat.le_of_ble_eq_true rfl)) dL_law_745 ⟨by show cells + 300 + 0 ≤ 600128; omega, by show slots + 10800 + 0 ≤ 7301098; omega⟩) hL (fun H locs hP1 hL => ?_)
  obtain ⟨Y, hR⟩ := hP1
  refine lv_icmp_eq (tgt := 1428) hx hb dL_law_748 (by decide) (fun c1 => ?_) (fun c1 => absurd hans c1)
  refine W.widen (k := cells + 300) (n := slots + 10800) (by omega) (by omega) ?_
  exact kk _ _ _ _ _ _ hQ1 ⟨_, hR⟩ hl hL
