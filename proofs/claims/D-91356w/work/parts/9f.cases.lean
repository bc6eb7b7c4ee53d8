/-! ===== the law's cases ===== -/
/-- what the model's methods ask, out of the relation -/
theorem RL.m {D : va_G} {f : Nat → Int} {g : Nat → Int → Int} {N : Nat → Nat} {M : Nat → Nat → Nat} {P : List PR} {F : Nat → Int} {G : Nat → Int → Int} (hR : RL D f g N M P F G) : (1 ≤ F 2 ∧ F 2 ≤ 5) ∧ (2 ≤ F 3 ∧ F 3 ≤ 6) ∧ (∀ j, 0 ≤ j → j < 6 → 0 ≤ G 12 j ∧ G 12 j ≤ 3) ∧ (∀ j, 0 ≤ j → j < 5 → 1 ≤ G 10 j ∧ G 10 j ≤ 50) ∧ (∀ j, 0 ≤ j → j < 6 → 0 ≤ G 11 j ∧ G 11 j ≤ 400) ∧ (∀ j, 0 ≤ j → j + 1 < F 3 → G 11 j < G 11 (j + 1)) ∧ (0 ≤ F 5 ∧ F 5 ≤ 400) ∧ (0 ≤ F 7 ∧ F 7 ≤ 8) ∧ (0 ≤ F 8 ∧ F 8 ≤ 55) ∧ (∀ j, 0 ≤ j → j < F 8 → (0 ≤ G 14 j ∧ G 14 j ≤ 4) ∧ (0 ≤ G 15 j ∧ G 15 j ≤ 5) ∧ (0 ≤ G 16 j ∧ G 16 j ≤ 2) ∧ (0 ≤ G 17 j ∧ G 17 j ≤ 1)) ∧ (∀ j, 0 ≤ j → j < 400 → 0 ≤ G 13 j ∧ G 13 j ≤ 255) ∧ (0 ≤ F 9 ∧ F 9 ≤ 2000) ∧ (∀ j, 0 ≤ j → j < F 8 → G 14 j < F 2 ∧ G 15 j < F 3 ∧ (G 16 j ≠ 1 → G 15 j + 1 < F 3)) := by
  obtain ⟨⟨hF, hS, ht2, hkd, hth, hht, hri, htp, h7, hN7, hnp, hN6, hpt, hPL, hkc, hkb, hv, hPS⟩, ⟨e0, e1, e2, e9, e10, e7, e6, e11⟩, ⟨g3, g4, g5, g8, g24, g25, g26, g27⟩, hk8, hpl⟩ := id hR
  rw [← e0, ← e1, ← e9, ← e7, ← e6, ← e11, ← g3, ← g4, ← g5, ← g8, ← g24, ← g25, ← g26, ← g27]
  refine ⟨hF, hS, hkd, hth, hht, hri, htp, h7, hnp, hpt, fun j _ _ => tpS_rg _ _, by omega, fun j j0 j1 => ?_⟩
  have := hPL.1 j j0 j1
  unfold PPr at this
  omega
/-- the loop's step behind a case -/
def KK (p : Program) (l : Launch) (e : Env) (s : State) (m : MethodId) (b : Nat) (below : List Frame) (meth : Method) (c : Code) (D : va_G) (A : Nat → Prop) (t : Nat) (h h2 : Nat → Nat) (qo : Nat) : Prop :=
  ∀ (h' : Nat → Nat) (f' : Nat → Int) (g' : Nat → Int → Int) (N' : Nat → Nat) (M' : Nat → Nat → Nat) (P' : List PR) (F' : Nat → Int) (G' : Nat → Int → Int) (o' : Nat → Int64), h' 0 = h 0 → RL D f' g' N' M' P' F' G' → GO p l e room_1 s m #[.ref b] below meth c 7 D A A (200 + 900 * (t + 1)) (140000 + 5100 * (t + 1)) (lw_Z below #[.ref b] s) (mW D h2 F' G' ++ ((qo, oC D o') :: bW D h' f' g' N' M' P')) 1368 [(0, .ref b), (1, .ref (h 0)), (2, .ref (h2 36)), (3, .ref qo), (4, .int (iI (6 * (t : Int))))] []
set_option maxHeartbeats 4000000 in
set_option maxRecDepth 100000 in
theorem lc_0 {p : Program} {l : Launch} {e : Env} {s : State} {m : MethodId} {below : List Frame} {meth : Method} {c : Code} {D : va_G} {A : Nat → Prop} {b L : Nat} {xs : Nat → Int32} {t : Nat} {h : Nat → Nat} {f : Nat → Int} {g : Nat → Int → Int} {N : Nat → Nat} {M : Nat → Nat → Nat} {P : List PR} {h2 : Nat → Nat} {F : Nat → Int} {G : Nat → Int → Int} {qo : Nat} {o : Nat → Int64} (C : CX p l s m #[.ref b] meth c RX0 code 7 ret D A) (hX : va_X b L xs s s.heap) (hbl : b < s.heap.size) (hbA : ¬ A b) (hL : L ≤ 384) (ht : 6 * t + 6 ≤ L) (hR : RL D f g N M P F G) (K : KK p l e s m b below meth c D A t h h2 qo) : GO p l e room_1 s m #[.ref b] below meth c 7 D A A (200 + 900 * t) (140000 + 5100 * t) (lw_Z below #[.ref b] s) (mW D h2 F G ++ ((qo, oC D o) :: bW D h f g N M P)) 140 [(0, .ref b), (1, .ref (h 0)), (2, .ref (h2 36)), (3, .ref qo), (4, .int (iI (6 * (t : Int))))] [] := by
  obtain ⟨hF, hS, ht2, hkd, hth, hht, hri, htp, h7, hN7, hnp, hN6, hpt, hPL, hkc, hkb, hv, hPS⟩ := id hR.1
  obtain ⟨mF, mS, mkd, mth, mht, mri, mtp, mpl, mnp, mpt, mtv, mkm, mpx⟩ := hR.m
  have ht2' : t ≤ 63 := by omega
  refine g_aload_n C dL_law_140 rfl 1 rfl ?_
  refine g_aload_n C dL_law_141 rfl 0 rfl ?_
  refine g_iload C dL_law_142 4 rfl ?_
  refine g_iconst C dL_law_144 ?_
  refine g_iadd C dL_law_145 ?_
  refine g_sld C hX hbl hbA hL (by omega) dL_law_146 ?_
  refine g_aload_n C dL_law_147 rfl 0 rfl ?_
  refine g_iload C dL_law_148 4 rfl ?_
  refine g_iconst C dL_law_150 ?_
  refine g_iadd C dL_law_151 ?_
  refine g_sld C hX hbl hbA hL (by omega) dL_law_152 ?_
  refine g_callVU C (c_X1_book l D C.hl h f g N M (ptW (M 6) (g 24) (g 25) (g 26) (g 27) (f 6) ++ plW D P) (sq xs ((6 * (t : Int)) + 1)) (sq xs ((6 * (t : Int)) + 2)) hnp hN6 (by omega) (by omega) (sq_rg _ _) (sq_rg _ _)) (As := [.int (iI (sq xs ((6 * (t : Int)) + 1))), .int (iI (sq xs ((6 * (t : Int)) + 2)))]) (n := 2) (lw_V q570 q427 q428 q48 q429) (by decide +kernel) rfl rfl ⟨Nat.le_of_ble_eq_true rfl, Nat.le_of_ble_eq_true rfl⟩ (rcv C 25 (ci := 1) rfl rfl rfl) rfl rfl (Nat.le_of_ble_eq_true rfl) ⟨(by show 200 + 900 * t + 110 ≤ 601024; omega), (by show 140000 + 5100 * t + 220 ≤ 7293034; omega)⟩ dL_law_153 (wr := mW D h2 F G ++ [(qo, oC D o)]) (by rw [List.append_assoc]; exact Sb.rf) exT_b hex_t (fun v w hp => ?_) kx_nu
  obtain ⟨z, rfl, hd⟩ := hp
  refine g_ws (ws' := mW D h2 F G ++ ((qo, oC D o) :: w)) (List.append_assoc _ _ _) ?_
  refine g_aload_n C dL_law_156 rfl 2 rfl ?_
  refine g_aload_n C dL_law_157 rfl 0 rfl ?_
  refine g_iload C dL_law_158 4 rfl ?_
  refine g_iconst C dL_law_160 ?_
  refine g_iadd C dL_law_161 ?_
  refine g_sld C hX hbl hbA hL (by omega) dL_law_162 ?_
  refine g_aload_n C dL_law_163 rfl 0 rfl ?_
  refine g_iload C dL_law_164 4 rfl ?_
  refine g_iconst C dL_law_166 ?_
  refine g_iadd C dL_law_167 ?_
  refine g_sld C hX hbl hbA hL (by omega) dL_law_168 ?_
  refine g_callVU C (c_X3_book l D C.hl h2 F G (sq xs ((6 * (t : Int)) + 1)) (sq xs ((6 * (t : Int)) + 2)) (sq_rg _ _) (sq_rg _ _)) (As := [.int (iI (sq xs ((6 * (t : Int)) + 1))), .int (iI (sq xs ((6 * (t : Int)) + 2)))]) (n := 2) (lw_V q1110 q1111 q1112 q69 q1113) (by decide +kernel) rfl rfl ⟨Nat.le_of_ble_eq_true rfl, Nat.le_of_ble_eq_true rfl⟩ (rcv C 0 (ci := 0) rfl rfl rfl) rfl rfl (Nat.le_of_ble_eq_true rfl) ⟨(by show 200 + 900 * t + 110 + 0 ≤ 601024; omega), (by show 140000 + 5100 * t + 220 + 0 ≤ 7293034; omega)⟩ dL_law_169 (wr := ((qo, oC D o) :: w)) Sb.comm exT_b hex_t (fun v w hp => ?_) kx_nu
  obtain ⟨zb, rfl, F', G', hm, rfl⟩ := hp
  refine g_sb (ws' := mW D h2 F' G' ++ ((qo, oC D o) :: w)) Sb.comm ?_
  obtain ⟨hzz, hN⟩ := L_book (h := h) hR hd hm
  refine g_icmp_same C (tgt := 1368) hzz dL_law_172 (by decide) ?_
  obtain ⟨h', f', g', N', M', P', he, hw, hR'⟩ := hN
  refine g_ws (ws' := mW D h2 F' G' ++ ((qo, oC D o) :: bW D h' f' g' N' M' P')) (congrArg (fun w9 => mW D h2 F' G' ++ ((qo, oC D o) :: w9)) hw) ?_
  refine g_widen (k := 200 + 900 * (t + 1)) (n := 140000 + 5100 * (t + 1)) (by omega) (by omega) ?_
  exact K h' f' g' N' M' P' F' G' o he hR'
set_option maxHeartbeats 4000000 in
set_option maxRecDepth 100000 in
theorem lc_1 {p : Program} {l : Launch} {e : Env} {s : State} {m : MethodId} {below : List Frame} {meth : Method} {c : Code} {D : va_G} {A : Nat → Prop} {b L : Nat} {xs : Nat → Int32} {t : Nat} {h : Nat → Nat} {f : Nat → Int} {g : Nat → Int → Int} {N : Nat → Nat} {M : Nat → Nat → Nat} {P : List PR} {h2 : Nat → Nat} {F : Nat → Int} {G : Nat → Int → Int} {qo : Nat} {o : Nat → Int64} (C : CX p l s m #[.ref b] meth c RX0 code 7 ret D A) (hX : va_X b L xs s s.heap) (hbl : b < s.heap.size) (hbA : ¬ A b) (hL : L ≤ 384) (ht : 6 * t + 6 ≤ L) (hR : RL D f g N M P F G) (K : KK p l e s m b below meth c D A t h h2 qo) : GO p l e room_1 s m #[.ref b] below meth c 7 D A A (200 + 900 * t) (140000 + 5100 * t) (lw_Z below #[.ref b] s) (mW D h2 F G ++ ((qo, oC D o) :: bW D h f g N M P)) 177 [(0, .ref b), (1, .ref (h 0)), (2, .ref (h2 36)), (3, .ref qo), (4, .int (iI (6 * (t : Int))))] [] := by
  obtain ⟨hF, hS, ht2, hkd, hth, hht, hri, htp, h7, hN7, hnp, hN6, hpt, hPL, hkc, hkb, hv, hPS⟩ := id hR.1
  obtain ⟨mF, mS, mkd, mth, mht, mri, mtp, mpl, mnp, mpt, mtv, mkm, mpx⟩ := hR.m
  have ht2' : t ≤ 63 := by omega
  refine g_aload_n C dL_law_177 rfl 1 rfl ?_
  refine g_aload_n C dL_law_178 rfl 0 rfl ?_
  refine g_iload C dL_law_179 4 rfl ?_
  refine g_iconst C dL_law_181 ?_
  refine g_iadd C dL_law_182 ?_
  refine g_sld C hX hbl hbA hL (by omega) dL_law_183 ?_
  refine g_aload_n C dL_law_184 rfl 0 rfl ?_
  refine g_iload C dL_law_185 4 rfl ?_
  refine g_iconst C dL_law_187 ?_
  refine g_iadd C dL_law_188 ?_
  refine g_sld C hX hbl hbA hL (by omega) dL_law_189 ?_
  refine g_aload_n C dL_law_190 rfl 3 rfl ?_
  refine g_callSUH C (c_X0_thick l D C.hl h f g N M (ptW (M 6) (g 24) (g 25) (g 26) (g 27) (f 6) ++ plW D P) (sq xs ((6 * (t : Int)) + 1)) (sq xs ((6 * (t : Int)) + 2)) hF h7 (sq_rg _ _) (sq_rg _ _) qo o) (As := [.ref (h 0), .int (iI (sq xs ((6 * (t : Int)) + 1))), .int (iI (sq xs ((6 * (t : Int)) + 2))), .ref qo]) (n := 4) (lw_SW q661 q662 q47 q663) (by decide +kernel) rfl rfl ⟨Nat.le_of_ble_eq_true rfl, Nat.le_of_ble_eq_true rfl⟩ rfl rfl (Nat.le_of_ble_eq_true rfl) ⟨(by show 200 + 900 * t + 1 ≤ 601024; omega), (by show 140000 + 5100 * t + 6 ≤ 7293034; omega)⟩ dL_law_191 (wr := mW D h2 F G) Sb.rf exT_b hex_t (fun v w hp => ?_) kx_nu
  obtain ⟨k_, rfl, z, o', w1, hd, rfl⟩ := hp
  refine g_istore C dL_law_194 (lv' := [(0, .ref b), (1, .ref (h 0)), (2, .ref (h2 36)), (3, .ref qo), (4, .int (iI (6 * (t : Int)))), (5, .int (iI k_))]) [1, 2, 3, 4, 5, 0] rfl (Nat.le_of_ble_eq_true rfl) ?_
  refine g_aload_n C dL_law_196 rfl 2 rfl ?_
  refine g_aload_n C dL_law_197 rfl 0 rfl ?_
  refine g_iload C dL_law_198 4 rfl ?_
  refine g_iconst C dL_law_200 ?_
  refine g_iadd C dL_law_201 ?_
  refine g_sld C hX hbl hbA hL (by omega) dL_law_202 ?_
  refine g_aload_n C dL_law_203 rfl 0 rfl ?_
  refine g_iload C dL_law_204 4 rfl ?_
  refine g_iconst C dL_law_206 ?_
  refine g_iadd C dL_law_207 ?_
  refine g_sld C hX hbl hbA hL (by omega) dL_law_208 ?_
  refine g_callVU C (c_X3_thick l D C.hl h2 F G (sq xs ((6 * (t : Int)) + 1)) (sq xs ((6 * (t : Int)) + 2)) mF mpl (sq_rg _ _) (sq_rg _ _)) (As := [.int (iI (sq xs ((6 * (t : Int)) + 1))), .int (iI (sq xs ((6 * (t : Int)) + 2)))]) (n := 2) (lw_V q1114 q1115 q1116 q69 q1117) (by decide +kernel) rfl rfl ⟨Nat.le_of_ble_eq_true rfl, Nat.le_of_ble_eq_true rfl⟩ (rcv C 0 (ci := 0) rfl rfl rfl) rfl rfl (Nat.le_of_ble_eq_true rfl) ⟨(by show 200 + 900 * t + 1 + 0 ≤ 601024; omega), (by show 140000 + 5100 * t + 6 + 0 ≤ 7293034; omega)⟩ dL_law_209 (wr := ((qo, oC D o') :: w1)) Sb.comm exT_b hex_t (fun v w hp => ?_) kx_nu
  obtain ⟨zb, rfl, F', G', hm, rfl⟩ := hp
  refine g_sb (ws' := mW D h2 F' G' ++ ((qo, oC D o') :: w1)) Sb.comm ?_
  obtain ⟨⟨hc1, hc2, hc3⟩, hN⟩ := L_thick (h := h) hR hd hm
  refine g_istore C dL_law_212 (lv' := [(0, .ref b), (1, .ref (h 0)), (2, .ref (h2 36)), (3, .ref qo), (4, .int (iI (6 * (t : Int)))), (5, .int (iI k_)), (6, .int (iI zb))]) [1, 2, 3, 4, 5, 6, 0] rfl (Nat.le_of_ble_eq_true rfl) ?_
  refine g_aload_n C dL_law_214 rfl 2 rfl ?_
  refine g_callVR C (c_X3_thrown l D C.hl h2 F' G') (As := []) (n := 0) (lw_V q1106 q1107 q1108 q69 q1109) (by decide +kernel) rfl rfl ⟨Nat.le_of_ble_eq_true rfl, Nat.le_of_ble_eq_true rfl⟩ (rcv C 0 (ci := 0) rfl rfl rfl) rfl rfl (Nat.le_of_ble_eq_true rfl) ⟨(by show 200 + 900 * t + 1 + 0 ≤ 601024; omega), (by show 140000 + 5100 * t + 6 + 0 ≤ 7293034; omega)⟩ dL_law_215 Sb.lt exT_b hex_t (fun v w hp => ?_) kx_n
  obtain ⟨z9, rfl, rfl⟩ := hp
  refine g_iload C dL_law_218 5 rfl ?_
  refine g_icmp_same C (tgt := 225) hc1 dL_law_220 (by decide) ?_
  refine g_iload C dL_law_225 5 rfl ?_
  refine g_if_ne C (tgt := 249) dL_law_227 (by decide) (by omega) (fun hk => ?_) (fun hk => ?_)
  ·
    refine g_goto C (tgt := 1368) dL_law_249 (by decide) ?_
    obtain ⟨h', f', g', N', M', P', he, hw, hR'⟩ := hN
    refine g_ws (ws' := mW D h2 F' G' ++ ((qo, oC D o') :: bW D h' f' g' N' M' P')) (congrArg (fun w9 => mW D h2 F' G' ++ ((qo, oC D o') :: w9)) hw) ?_
    refine g_lv [0, 1, 2, 3, 4] rfl ?_
    refine g_widen (k := 200 + 900 * (t + 1)) (n := 140000 + 5100 * (t + 1)) (by omega) (by omega) ?_
    exact K h' f' g' N' M' P' F' G' o' he hR'
  ·
    refine g_aload_n C dL_law_230 rfl 3 rfl ?_
    refine g_iconst C dL_law_231 ?_
    refine g_lald C 24 (v := o' 0) rfl (by omega) (by decide) rfl dL_law_232 ?_
    refine g_iload C dL_law_233 6 rfl ?_
    rcases (hc3 hk).1 with h0 | h0
    · refine g_if_eq C (tgt := 242) dL_law_235 (by decide) (by rw [h0]; decide) (fun _ => ?_) (fun hq => absurd h0 hq)
      refine g_lconst C dL_law_242 (v := 0) rfl ?_
      refine g_lcmp C (z := 0) dL_law_243 (by rw [(hc3 hk).2, h0, l64_0]; exact lcmp_same _) ?_
      refine g_if_eq C (tgt := 249) dL_law_244 (by decide) (by decide) (fun _ => ?_) (fun hq => absurd rfl hq)
      refine g_goto C (tgt := 1368) dL_law_249 (by decide) ?_
      obtain ⟨h', f', g', N', M', P', he, hw, hR'⟩ := hN
      refine g_ws (ws' := mW D h2 F' G' ++ ((qo, oC D o') :: bW D h' f' g' N' M' P')) (congrArg (fun w9 => mW D h2 F' G' ++ ((qo, oC D o') :: w9)) hw) ?_
      refine g_lv [0, 1, 2, 3, 4] rfl ?_
      refine g_widen (k := 200 + 900 * (t + 1)) (n := 140000 + 5100 * (t + 1)) (by omega) (by omega) ?_
      exact K h' f' g' N' M' P' F' G' o' he hR'
    · refine g_if_eq C (tgt := 242) dL_law_235 (by decide) (by rw [h0]; decide) (fun hq => absurd (h0.symm.trans hq) (by decide)) (fun _ => ?_)
      refine g_lconst C dL_law_238 (v := 1) rfl ?_
      refine g_goto C (tgt := 243) dL_law_239 (by decide) ?_
      refine g_lcmp C (z := 0) dL_law_243 (by rw [(hc3 hk).2, h0, l64_1]; exact lcmp_same _) ?_
      refine g_if_eq C (tgt := 249) dL_law_244 (by decide) (by decide) (fun _ => ?_) (fun hq => absurd rfl hq)
      refine g_goto C (tgt := 1368) dL_law_249 (by decide) ?_
      obtain ⟨h', f', g', N', M', P', he, hw, hR'⟩ := hN
      refine g_ws (ws' := mW D h2 F' G' ++ ((qo, oC D o') :: bW D h' f' g' N' M' P')) (congrArg (fun w9 => mW D h2 F' G' ++ ((qo, oC D o') :: w9)) hw) ?_
      refine g_lv [0, 1, 2, 3, 4] rfl ?_
      refine g_widen (k := 200 + 900 * (t + 1)) (n := 140000 + 5100 * (t + 1)) (by omega) (by omega) ?_
      exact K h' f' g' N' M' P' F' G' o' he hR'
set_option maxHeartbeats 4000000 in
set_option maxRecDepth 100000 in
theorem lc_2 {p : Program} {l : Launch} {e : Env} {s : State} {m : MethodId} {below : List Frame} {meth : Method} {c : Code} {D : va_G} {A : Nat → Prop} {b L : Nat} {xs : Nat → Int32} {t : Nat} {h : Nat → Nat} {f : Nat → Int} {g : Nat → Int → Int} {N : Nat → Nat} {M : Nat → Nat → Nat} {P : List PR} {h2 : Nat → Nat} {F : Nat → Int} {G : Nat → Int → Int} {qo : Nat} {o : Nat → Int64} (C : CX p l s m #[.ref b] meth c RX0 code 7 ret D A) (hX : va_X b L xs s s.heap) (hbl : b < s.heap.size) (hbA : ¬ A b) (hL : L ≤ 384) (ht : 6 * t + 6 ≤ L) (hR : RL D f g N M P F G) (K : KK p l e s m b below meth c D A t h h2 qo) : GO p l e room_1 s m #[.ref b] below meth c 7 D A A (200 + 900 * t) (140000 + 5100 * t) (lw_Z below #[.ref b] s) (mW D h2 F G ++ ((qo, oC D o) :: bW D h f g N M P)) 252 [(0, .ref b), (1, .ref (h 0)), (2, .ref (h2 36)), (3, .ref qo), (4, .int (iI (6 * (t : Int))))] [] := by
  obtain ⟨hF, hS, ht2, hkd, hth, hht, hri, htp, h7, hN7, hnp, hN6, hpt, hPL, hkc, hkb, hv, hPS⟩ := id hR.1
  obtain ⟨mF, mS, mkd, mth, mht, mri, mtp, mpl, mnp, mpt, mtv, mkm, mpx⟩ := hR.m
  have ht2' : t ≤ 63 := by omega
  refine g_aload_n C dL_law_252 rfl 1 rfl ?_
  refine g_aload_n C dL_law_253 rfl 0 rfl ?_
  refine g_iload C dL_law_254 4 rfl ?_
  refine g_iconst C dL_law_256 ?_
  refine g_iadd C dL_law_257 ?_
  refine g_sld C hX hbl hbA hL (by omega) dL_law_258 ?_
  refine g_callVU C (c_X1_thread l D C.hl h f g N M (ptW (M 6) (g 24) (g 25) (g 26) (g 27) (f 6) ++ plW D P) (sq xs ((6 * (t : Int)) + 1)) h7 (sq_rg _ _)) (As := [.int (iI (sq xs ((6 * (t : Int)) + 1)))]) (n := 1) (lw_V q571 q572 q573 q48 q574) (by decide +kernel) rfl rfl ⟨Nat.le_of_ble_eq_true rfl, Nat.le_of_ble_eq_true rfl⟩ (rcv C 25 (ci := 1) rfl rfl rfl) rfl rfl (Nat.le_of_ble_eq_true rfl) ⟨(by show 200 + 900 * t + 0 ≤ 601024; omega), (by show 140000 + 5100 * t + 0 ≤ 7293034; omega)⟩ dL_law_259 (wr := mW D h2 F G ++ [(qo, oC D o)]) (by rw [List.append_assoc]; exact Sb.rf) exT_b hex_t (fun v w hp => ?_) kx_nu
  obtain ⟨z, rfl, hd⟩ := hp
  refine g_ws (ws' := mW D h2 F G ++ ((qo, oC D o) :: w)) (List.append_assoc _ _ _) ?_
  refine g_aload_n C dL_law_262 rfl 2 rfl ?_
  refine g_aload_n C dL_law_263 rfl 0 rfl ?_
  refine g_iload C dL_law_264 4 rfl ?_
  refine g_iconst C dL_law_266 ?_
  refine g_iadd C dL_law_267 ?_
  refine g_sld C hX hbl hbA hL (by omega) dL_law_268 ?_
  refine g_callVU C (c_X3_thread l D C.hl h2 F G (sq xs ((6 * (t : Int)) + 1)) mpl (sq_rg _ _)) (As := [.int (iI (sq xs ((6 * (t : Int)) + 1)))]) (n := 1) (lw_V q1126 q1127 q1128 q69 q1129) (by decide +kernel) rfl rfl ⟨Nat.le_of_ble_eq_true rfl, Nat.le_of_ble_eq_true rfl⟩ (rcv C 0 (ci := 0) rfl rfl rfl) rfl rfl (Nat.le_of_ble_eq_true rfl) ⟨(by show 200 + 900 * t + 0 + 0 ≤ 601024; omega), (by show 140000 + 5100 * t + 0 + 0 ≤ 7293034; omega)⟩ dL_law_269 (wr := ((qo, oC D o) :: w)) Sb.comm exT_b hex_t (fun v w hp => ?_) kx_nu
  obtain ⟨zb, rfl, F', G', hm, rfl⟩ := hp
  refine g_sb (ws' := mW D h2 F' G' ++ ((qo, oC D o) :: w)) Sb.comm ?_
  obtain ⟨hzz, hN⟩ := L_thread (h := h) hR hd hm
  refine g_icmp_same C (tgt := 1368) hzz dL_law_272 (by decide) ?_
  obtain ⟨h', f', g', N', M', P', he, hw, hR'⟩ := hN
  refine g_ws (ws' := mW D h2 F' G' ++ ((qo, oC D o) :: bW D h' f' g' N' M' P')) (congrArg (fun w9 => mW D h2 F' G' ++ ((qo, oC D o) :: w9)) hw) ?_
  refine g_widen (k := 200 + 900 * (t + 1)) (n := 140000 + 5100 * (t + 1)) (by omega) (by omega) ?_
  exact K h' f' g' N' M' P' F' G' o he hR'
set_option maxHeartbeats 4000000 in
set_option maxRecDepth 100000 in
theorem lc_3 {p : Program} {l : Launch} {e : Env} {s : State} {m : MethodId} {below : List Frame} {meth : Method} {c : Code} {D : va_G} {A : Nat → Prop} {b L : Nat} {xs : Nat → Int32} {t : Nat} {h : Nat → Nat} {f : Nat → Int} {g : Nat → Int → Int} {N : Nat → Nat} {M : Nat → Nat → Nat} {P : List PR} {h2 : Nat → Nat} {F : Nat → Int} {G : Nat → Int → Int} {qo : Nat} {o : Nat → Int64} (C : CX p l s m #[.ref b] meth c RX0 code 7 ret D A) (hX : va_X b L xs s s.heap) (hbl : b < s.heap.size) (hbA : ¬ A b) (hL : L ≤ 384) (ht : 6 * t + 6 ≤ L) (hR : RL D f g N M P F G) (K : KK p l e s m b below meth c D A t h h2 qo) : GO p l e room_1 s m #[.ref b] below meth c 7 D A A (200 + 900 * t) (140000 + 5100 * t) (lw_Z below #[.ref b] s) (mW D h2 F G ++ ((qo, oC D o) :: bW D h f g N M P)) 277 [(0, .ref b), (1, .ref (h 0)), (2, .ref (h2 36)), (3, .ref qo), (4, .int (iI (6 * (t : Int))))] [] := by
  obtain ⟨hF, hS, ht2, hkd, hth, hht, hri, htp, h7, hN7, hnp, hN6, hpt, hPL, hkc, hkb, hv, hPS⟩ := id hR.1
  obtain ⟨mF, mS, mkd, mth, mht, mri, mtp, mpl, mnp, mpt, mtv, mkm, mpx⟩ := hR.m
  have ht2' : t ≤ 63 := by omega
  refine g_aload_n C dL_law_277 rfl 1 rfl ?_
  refine g_aload_n C dL_law_278 rfl 0 rfl ?_
  refine g_iload C dL_law_279 4 rfl ?_
  refine g_iconst C dL_law_281 ?_
  refine g_iadd C dL_law_282 ?_
  refine g_sld C hX hbl hbA hL (by omega) dL_law_283 ?_
  refine g_aload_n C dL_law_284 rfl 0 rfl ?_
  refine g_iload C dL_law_285 4 rfl ?_
  refine g_iconst C dL_law_287 ?_
  refine g_iadd C dL_law_288 ?_
  refine g_sld C hX hbl hbA hL (by omega) dL_law_289 ?_
  refine g_callVU C (c_X1_heights l D C.hl h f g N M (ptW (M 6) (g 24) (g 25) (g 26) (g 27) (f 6) ++ plW D P) (sq xs ((6 * (t : Int)) + 1)) (sq xs ((6 * (t : Int)) + 2)) hS h7 (sq_rg _ _) (sq_rg _ _)) (As := [.int (iI (sq xs ((6 * (t : Int)) + 1))), .int (iI (sq xs ((6 * (t : Int)) + 2)))]) (n := 2) (lw_V q579 q580 q581 q48 q582) (by decide +kernel) rfl rfl ⟨Nat.le_of_ble_eq_true rfl, Nat.le_of_ble_eq_true rfl⟩ (rcv C 25 (ci := 1) rfl rfl rfl) rfl rfl (Nat.le_of_ble_eq_true rfl) ⟨(by show 200 + 900 * t + 0 ≤ 601024; omega), (by show 140000 + 5100 * t + 0 ≤ 7293034; omega)⟩ dL_law_290 (wr := mW D h2 F G ++ [(qo, oC D o)]) (by rw [List.append_assoc]; exact Sb.rf) exT_b hex_t (fun v w hp => ?_) kx_nu
  obtain ⟨z, rfl, hd⟩ := hp
  refine g_ws (ws' := mW D h2 F G ++ ((qo, oC D o) :: w)) (List.append_assoc _ _ _) ?_
  refine g_aload_n C dL_law_293 rfl 2 rfl ?_
  refine g_aload_n C dL_law_294 rfl 0 rfl ?_
  refine g_iload C dL_law_295 4 rfl ?_
  refine g_iconst C dL_law_297 ?_
  refine g_iadd C dL_law_298 ?_
  refine g_sld C hX hbl hbA hL (by omega) dL_law_299 ?_
  refine g_aload_n C dL_law_300 rfl 0 rfl ?_
  refine g_iload C dL_law_301 4 rfl ?_
  refine g_iconst C dL_law_303 ?_
  refine g_iadd C dL_law_304 ?_
  refine g_sld C hX hbl hbA hL (by omega) dL_law_305 ?_
  refine g_callVU C (c_X3_heights l D C.hl h2 F G (sq xs ((6 * (t : Int)) + 1)) (sq xs ((6 * (t : Int)) + 2)) mS mpl (sq_rg _ _) (sq_rg _ _)) (As := [.int (iI (sq xs ((6 * (t : Int)) + 1))), .int (iI (sq xs ((6 * (t : Int)) + 2)))]) (n := 2) (lw_V q1130 q1131 q1132 q69 q1133) (by decide +kernel) rfl rfl ⟨Nat.le_of_ble_eq_true rfl, Nat.le_of_ble_eq_true rfl⟩ (rcv C 0 (ci := 0) rfl rfl rfl) rfl rfl (Nat.le_of_ble_eq_true rfl) ⟨(by show 200 + 900 * t + 0 + 0 ≤ 601024; omega), (by show 140000 + 5100 * t + 0 + 0 ≤ 7293034; omega)⟩ dL_law_306 (wr := ((qo, oC D o) :: w)) Sb.comm exT_b hex_t (fun v w hp => ?_) kx_nu
  obtain ⟨zb, rfl, F', G', hm, rfl⟩ := hp
  refine g_sb (ws' := mW D h2 F' G' ++ ((qo, oC D o) :: w)) Sb.comm ?_
  obtain ⟨hzz, hN⟩ := L_heights (h := h) hR hd hm
  refine g_icmp_same C (tgt := 1368) hzz dL_law_309 (by decide) ?_
  obtain ⟨h', f', g', N', M', P', he, hw, hR'⟩ := hN
  refine g_ws (ws' := mW D h2 F' G' ++ ((qo, oC D o) :: bW D h' f' g' N' M' P')) (congrArg (fun w9 => mW D h2 F' G' ++ ((qo, oC D o) :: w9)) hw) ?_
  refine g_widen (k := 200 + 900 * (t + 1)) (n := 140000 + 5100 * (t + 1)) (by omega) (by omega) ?_
  exact K h' f' g' N' M' P' F' G' o he hR'
set_option maxHeartbeats 4000000 in
set_option maxRecDepth 100000 in
theorem lc_4 {p : Program} {l : Launch} {e : Env} {s : State} {m : MethodId} {below : List Frame} {meth : Method} {c : Code} {D : va_G} {A : Nat → Prop} {b L : Nat} {xs : Nat → Int32} {t : Nat} {h : Nat → Nat} {f : Nat → Int} {g : Nat → Int → Int} {N : Nat → Nat} {M : Nat → Nat → Nat} {P : List PR} {h2 : Nat → Nat} {F : Nat → Int} {G : Nat → Int → Int} {qo : Nat} {o : Nat → Int64} (C : CX p l s m #[.ref b] meth c RX0 code 7 ret D A) (hX : va_X b L xs s s.heap) (hbl : b < s.heap.size) (hbA : ¬ A b) (hL : L ≤ 384) (ht : 6 * t + 6 ≤ L) (hR : RL D f g N M P F G) (K : KK p l e s m b below meth c D A t h h2 qo) : GO p l e room_1 s m #[.ref b] below meth c 7 D A A (200 + 900 * t) (140000 + 5100 * t) (lw_Z below #[.ref b] s) (mW D h2 F G ++ ((qo, oC D o) :: bW D h f g N M P)) 314 [(0, .ref b), (1, .ref (h 0)), (2, .ref (h2 36)), (3, .ref qo), (4, .int (iI (6 * (t : Int))))] [] := by
  obtain ⟨hF, hS, ht2, hkd, hth, hht, hri, htp, h7, hN7, hnp, hN6, hpt, hPL, hkc, hkb, hv, hPS⟩ := id hR.1
  obtain ⟨mF, mS, mkd, mth, mht, mri, mtp, mpl, mnp, mpt, mtv, mkm, mpx⟩ := hR.m
  have ht2' : t ≤ 63 := by omega
  refine g_aload_n C dL_law_314 rfl 1 rfl ?_
  refine g_aload_n C dL_law_315 rfl 0 rfl ?_
  refine g_iload C dL_law_316 4 rfl ?_
  refine g_iconst C dL_law_318 ?_
  refine g_iadd C dL_law_319 ?_
  refine g_sld C hX hbl hbA hL (by omega) dL_law_320 ?_
  refine g_aload_n C dL_law_321 rfl 0 rfl ?_
  refine g_iload C dL_law_322 4 rfl ?_
  refine g_iconst C dL_law_324 ?_
  refine g_iadd C dL_law_325 ?_
  refine g_sld C hX hbl hbA hL (by omega) dL_law_326 ?_
  refine g_aload_n C dL_law_327 rfl 3 rfl ?_
  refine g_callSUH C (c_X0_kind l D C.hl h f g N M (ptW (M 6) (g 24) (g 25) (g 26) (g 27) (f 6) ++ plW D P) (sq xs ((6 * (t : Int)) + 1)) (sq xs ((6 * (t : Int)) + 2)) hF hS hkd h7 hnp hN6 (sq_rg _ _) (sq_rg _ _) qo o) (As := [.ref (h 0), .int (iI (sq xs ((6 * (t : Int)) + 1))), .int (iI (sq xs ((6 * (t : Int)) + 2))), .ref qo]) (n := 4) (lw_SW q697 q698 q47 q699) (by decide +kernel) rfl rfl ⟨Nat.le_of_ble_eq_true rfl, Nat.le_of_ble_eq_true rfl⟩ rfl rfl (Nat.le_of_ble_eq_true rfl) ⟨(by show 200 + 900 * t + 111 ≤ 601024; omega), (by show 140000 + 5100 * t + 226 ≤ 7293034; omega)⟩ dL_law_328 (wr := mW D h2 F G) Sb.rf exT_b hex_t (fun v w hp => ?_) kx_nu
  obtain ⟨k_, rfl, z, o', w1, hd, rfl⟩ := hp
  refine g_istore C dL_law_331 (lv' := [(0, .ref b), (1, .ref (h 0)), (2, .ref (h2 36)), (3, .ref qo), (4, .int (iI (6 * (t : Int)))), (5, .int (iI k_))]) [1, 2, 3, 4, 5, 0] rfl (Nat.le_of_ble_eq_true rfl) ?_
  refine g_aload_n C dL_law_333 rfl 2 rfl ?_
  refine g_aload_n C dL_law_334 rfl 0 rfl ?_
  refine g_iload C dL_law_335 4 rfl ?_
  refine g_iconst C dL_law_337 ?_
  refine g_iadd C dL_law_338 ?_
  refine g_sld C hX hbl hbA hL (by omega) dL_law_339 ?_
  refine g_aload_n C dL_law_340 rfl 0 rfl ?_
  refine g_iload C dL_law_341 4 rfl ?_
  refine g_iconst C dL_law_343 ?_
  refine g_iadd C dL_law_344 ?_
  refine g_sld C hX hbl hbA hL (by omega) dL_law_345 ?_
  refine g_callVU C (c_X3_kind l D C.hl h2 F G (sq xs ((6 * (t : Int)) + 1)) (sq xs ((6 * (t : Int)) + 2)) mF mS mkd mpl (sq_rg _ _) (sq_rg _ _)) (As := [.int (iI (sq xs ((6 * (t : Int)) + 1))), .int (iI (sq xs ((6 * (t : Int)) + 2)))]) (n := 2) (lw_V q1134 q1135 q1136 q69 q1137) (by decide +kernel) rfl rfl ⟨Nat.le_of_ble_eq_true rfl, Nat.le_of_ble_eq_true rfl⟩ (rcv C 0 (ci := 0) rfl rfl rfl) rfl rfl (Nat.le_of_ble_eq_true rfl) ⟨(by show 200 + 900 * t + 111 + 0 ≤ 601024; omega), (by show 140000 + 5100 * t + 226 + 0 ≤ 7293034; omega)⟩ dL_law_346 (wr := ((qo, oC D o') :: w1)) Sb.comm exT_b hex_t (fun v w hp => ?_) kx_nu
  obtain ⟨zb, rfl, F', G', hm, rfl⟩ := hp
  refine g_sb (ws' := mW D h2 F' G' ++ ((qo, oC D o') :: w1)) Sb.comm ?_
  obtain ⟨⟨hc1, hc2, hc3⟩, hN⟩ := L_kind (h := h) hR hd hm
  refine g_istore C dL_law_349 (lv' := [(0, .ref b), (1, .ref (h 0)), (2, .ref (h2 36)), (3, .ref qo), (4, .int (iI (6 * (t : Int)))), (5, .int (iI k_)), (6, .int (iI zb))]) [1, 2, 3, 4, 5, 6, 0] rfl (Nat.le_of_ble_eq_true rfl) ?_
  refine g_aload_n C dL_law_351 rfl 2 rfl ?_
  refine g_callVR C (c_X3_thrown l D C.hl h2 F' G') (As := []) (n := 0) (lw_V q1106 q1107 q1108 q69 q1109) (by decide +kernel) rfl rfl ⟨Nat.le_of_ble_eq_true rfl, Nat.le_of_ble_eq_true rfl⟩ (rcv C 0 (ci := 0) rfl rfl rfl) rfl rfl (Nat.le_of_ble_eq_true rfl) ⟨(by show 200 + 900 * t + 111 + 0 ≤ 601024; omega), (by show 140000 + 5100 * t + 226 + 0 ≤ 7293034; omega)⟩ dL_law_352 Sb.lt exT_b hex_t (fun v w hp => ?_) kx_n
  obtain ⟨z9, rfl, rfl⟩ := hp
  refine g_iload C dL_law_355 5 rfl ?_
  refine g_icmp_same C (tgt := 362) hc1 dL_law_357 (by decide) ?_
  refine g_iload C dL_law_362 5 rfl ?_
  refine g_if_ne C (tgt := 386) dL_law_364 (by decide) (by omega) (fun hk => ?_) (fun hk => ?_)
  ·
    refine g_goto C (tgt := 1368) dL_law_386 (by decide) ?_
    obtain ⟨h', f', g', N', M', P', he, hw, hR'⟩ := hN
    refine g_ws (ws' := mW D h2 F' G' ++ ((qo, oC D o') :: bW D h' f' g' N' M' P')) (congrArg (fun w9 => mW D h2 F' G' ++ ((qo, oC D o') :: w9)) hw) ?_
    refine g_lv [0, 1, 2, 3, 4] rfl ?_
    refine g_widen (k := 200 + 900 * (t + 1)) (n := 140000 + 5100 * (t + 1)) (by omega) (by omega) ?_
    exact K h' f' g' N' M' P' F' G' o' he hR'
  ·
    refine g_aload_n C dL_law_367 rfl 3 rfl ?_
    refine g_iconst C dL_law_368 ?_
    refine g_lald C 24 (v := o' 0) rfl (by omega) (by decide) rfl dL_law_369 ?_
    refine g_iload C dL_law_370 6 rfl ?_
    rcases (hc3 hk).1 with h0 | h0
    · refine g_if_eq C (tgt := 379) dL_law_372 (by decide) (by rw [h0]; decide) (fun _ => ?_) (fun hq => absurd h0 hq)
      refine g_lconst C dL_law_379 (v := 0) rfl ?_
      refine g_lcmp C (z := 0) dL_law_380 (by rw [(hc3 hk).2, h0, l64_0]; exact lcmp_same _) ?_
      refine g_if_eq C (tgt := 386) dL_law_381 (by decide) (by decide) (fun _ => ?_) (fun hq => absurd rfl hq)
      refine g_goto C (tgt := 1368) dL_law_386 (by decide) ?_
      obtain ⟨h', f', g', N', M', P', he, hw, hR'⟩ := hN
      refine g_ws (ws' := mW D h2 F' G' ++ ((qo, oC D o') :: bW D h' f' g' N' M' P')) (congrArg (fun w9 => mW D h2 F' G' ++ ((qo, oC D o') :: w9)) hw) ?_
      refine g_lv [0, 1, 2, 3, 4] rfl ?_
      refine g_widen (k := 200 + 900 * (t + 1)) (n := 140000 + 5100 * (t + 1)) (by omega) (by omega) ?_
      exact K h' f' g' N' M' P' F' G' o' he hR'
    · refine g_if_eq C (tgt := 379) dL_law_372 (by decide) (by rw [h0]; decide) (fun hq => absurd (h0.symm.trans hq) (by decide)) (fun _ => ?_)
      refine g_lconst C dL_law_375 (v := 1) rfl ?_
      refine g_goto C (tgt := 380) dL_law_376 (by decide) ?_
      refine g_lcmp C (z := 0) dL_law_380 (by rw [(hc3 hk).2, h0, l64_1]; exact lcmp_same _) ?_
      refine g_if_eq C (tgt := 386) dL_law_381 (by decide) (by decide) (fun _ => ?_) (fun hq => absurd rfl hq)
      refine g_goto C (tgt := 1368) dL_law_386 (by decide) ?_
      obtain ⟨h', f', g', N', M', P', he, hw, hR'⟩ := hN
      refine g_ws (ws' := mW D h2 F' G' ++ ((qo, oC D o') :: bW D h' f' g' N' M' P')) (congrArg (fun w9 => mW D h2 F' G' ++ ((qo, oC D o') :: w9)) hw) ?_
      refine g_lv [0, 1, 2, 3, 4] rfl ?_
      refine g_widen (k := 200 + 900 * (t + 1)) (n := 140000 + 5100 * (t + 1)) (by omega) (by omega) ?_
      exact K h' f' g' N' M' P' F' G' o' he hR'
set_option maxHeartbeats 4000000 in
set_option maxRecDepth 100000 in
theorem lc_5 {p : Program} {l : Launch} {e : Env} {s : State} {m : MethodId} {below : List Frame} {meth : Method} {c : Code} {D : va_G} {A : Nat → Prop} {b L : Nat} {xs : Nat → Int32} {t : Nat} {h : Nat → Nat} {f : Nat → Int} {g : Nat → Int → Int} {N : Nat → Nat} {M : Nat → Nat → Nat} {P : List PR} {h2 : Nat → Nat} {F : Nat → Int} {G : Nat → Int → Int} {qo : Nat} {o : Nat → Int64} (C : CX p l s m #[.ref b] meth c RX0 code 7 ret D A) (hX : va_X b L xs s s.heap) (hbl : b < s.heap.size) (hbA : ¬ A b) (hL : L ≤ 384) (ht : 6 * t + 6 ≤ L) (hR : RL D f g N M P F G) (K : KK p l e s m b below meth c D A t h h2 qo) : GO p l e room_1 s m #[.ref b] below meth c 7 D A A (200 + 900 * t) (140000 + 5100 * t) (lw_Z below #[.ref b] s) (mW D h2 F G ++ ((qo, oC D o) :: bW D h f g N M P)) 389 [(0, .ref b), (1, .ref (h 0)), (2, .ref (h2 36)), (3, .ref qo), (4, .int (iI (6 * (t : Int))))] [] := by
  obtain ⟨hF, hS, ht2, hkd, hth, hht, hri, htp, h7, hN7, hnp, hN6, hpt, hPL, hkc, hkb, hv, hPS⟩ := id hR.1
  obtain ⟨mF, mS, mkd, mth, mht, mri, mtp, mpl, mnp, mpt, mtv, mkm, mpx⟩ := hR.m
  have ht2' : t ≤ 63 := by omega
  refine g_aload_n C dL_law_389 rfl 1 rfl ?_
  refine g_callVR C (c_X1_parts l D C.hl h f g N M (ptW (M 6) (g 24) (g 25) (g 26) (g 27) (f 6) ++ plW D P)) (As := []) (n := 0) (lw_V q583 q584 q585 q48 q586) (by decide +kernel) rfl rfl ⟨Nat.le_of_ble_eq_true rfl, Nat.le_of_ble_eq_true rfl⟩ (rcv C 25 (ci := 1) rfl rfl rfl) rfl rfl (Nat.le_of_ble_eq_true rfl) ⟨(by show 200 + 900 * t + 0 ≤ 601024; omega), (by show 140000 + 5100 * t + 0 ≤ 7293034; omega)⟩ dL_law_390 (Sb.tr Sb.rt (Sb.rt (a := [(qo, oC D o)]))) exT_b hex_t (fun v w hp => ?_) kx_n
  obtain ⟨z, rfl, hd⟩ := hp
  refine g_aload_n C dL_law_393 rfl 2 rfl ?_
  refine g_callVU C (c_X3_parts l D C.hl h2 F G) (As := []) (n := 0) (lw_V q1142 q1143 q1144 q69 q1145) (by decide +kernel) rfl rfl ⟨Nat.le_of_ble_eq_true rfl, Nat.le_of_ble_eq_true rfl⟩ (rcv C 0 (ci := 0) rfl rfl rfl) rfl rfl (Nat.le_of_ble_eq_true rfl) ⟨(by show 200 + 900 * t + 0 + 0 ≤ 601024; omega), (by show 140000 + 5100 * t + 0 + 0 ≤ 7293034; omega)⟩ dL_law_394 (wr := ((qo, oC D o) :: (bW D h f g N M P))) Sb.comm exT_b hex_t (fun v w hp => ?_) kx_nu
  obtain ⟨zb, rfl, hzb, rfl⟩ := hp
  obtain ⟨F', hF'⟩ : ∃ F', F' = up F 1 0 := ⟨_, rfl⟩
  obtain ⟨G', hG'⟩ : ∃ G', G' = G := ⟨_, rfl⟩
  refine g_sb (ws' := mW D h2 F' G' ++ ((qo, oC D o) :: (bW D h f g N M P))) (by rw [hF', hG']; exact Sb.comm) ?_
  have hm : zb = F 8 ∧ F' = up F 1 0 ∧ G' = G := ⟨hzb, hF', hG'⟩
  obtain ⟨hzz, hN⟩ := L_parts (h := h) hR hd hm
  refine g_icmp_same C (tgt := 1368) hzz dL_law_397 (by decide) ?_
  obtain ⟨h', f', g', N', M', P', he, hw, hR'⟩ := hN
  refine g_ws (ws' := mW D h2 F' G' ++ ((qo, oC D o) :: bW D h' f' g' N' M' P')) (congrArg (fun w9 => mW D h2 F' G' ++ ((qo, oC D o) :: w9)) hw) ?_
  refine g_widen (k := 200 + 900 * (t + 1)) (n := 140000 + 5100 * (t + 1)) (by omega) (by omega) ?_
  exact K h' f' g' N' M' P' F' G' o he hR'
set_option maxHeartbeats 4000000 in
set_option maxRecDepth 100000 in
theorem lc_6 {p : Program} {l : Launch} {e : Env} {s : State} {m : MethodId} {below : List Frame} {meth : Method} {c : Code} {D : va_G} {A : Nat → Prop} {b L : Nat} {xs : Nat → Int32} {t : Nat} {h : Nat → Nat} {f : Nat → Int} {g : Nat → Int → Int} {N : Nat → Nat} {M : Nat → Nat → Nat} {P : List PR} {h2 : Nat → Nat} {F : Nat → Int} {G : Nat → Int → Int} {qo : Nat} {o : Nat → Int64} (C : CX p l s m #[.ref b] meth c RX0 code 7 ret D A) (hX : va_X b L xs s s.heap) (hbl : b < s.heap.size) (hbA : ¬ A b) (hL : L ≤ 384) (ht : 6 * t + 6 ≤ L) (hR : RL D f g N M P F G) (K : KK p l e s m b below meth c D A t h h2 qo) : GO p l e room_1 s m #[.ref b] below meth c 7 D A A (200 + 900 * t) (140000 + 5100 * t) (lw_Z below #[.ref b] s) (mW D h2 F G ++ ((qo, oC D o) :: bW D h f g N M P)) 402 [(0, .ref b), (1, .ref (h 0)), (2, .ref (h2 36)), (3, .ref qo), (4, .int (iI (6 * (t : Int))))] [] := by
  obtain ⟨hF, hS, ht2, hkd, hth, hht, hri, htp, h7, hN7, hnp, hN6, hpt, hPL, hkc, hkb, hv, hPS⟩ := id hR.1
  obtain ⟨mF, mS, mkd, mth, mht, mri, mtp, mpl, mnp, mpt, mtv, mkm, mpx⟩ := hR.m
  have ht2' : t ≤ 63 := by omega
  refine g_aload_n C dL_law_402 rfl 1 rfl ?_
  refine g_aload_n C dL_law_403 rfl 0 rfl ?_
  refine g_iload C dL_law_404 4 rfl ?_
  refine g_iconst C dL_law_406 ?_
  refine g_iadd C dL_law_407 ?_
  refine g_sld C hX hbl hbA hL (by omega) dL_law_408 ?_
  refine g_aload_n C dL_law_409 rfl 0 rfl ?_
  refine g_iload C dL_law_410 4 rfl ?_
  refine g_iconst C dL_law_412 ?_
  refine g_iadd C dL_law_413 ?_
  refine g_sld C hX hbl hbA hL (by omega) dL_law_414 ?_
  refine g_aload_n C dL_law_415 rfl 3 rfl ?_
  refine g_callSUH C (c_X0_part l D C.hl h f g N M (plW D P) (sq xs ((6 * (t : Int)) + 1)) (sq xs ((6 * (t : Int)) + 2)) hnp hN6 hpt (sq_rg _ _) (sq_rg _ _) qo o) (As := [.ref (h 0), .int (iI (sq xs ((6 * (t : Int)) + 1))), .int (iI (sq xs ((6 * (t : Int)) + 2))), .ref qo]) (n := 4) (lw_SW q708 q709 q47 q710) (by decide +kernel) rfl rfl ⟨Nat.le_of_ble_eq_true rfl, Nat.le_of_ble_eq_true rfl⟩ rfl rfl (Nat.le_of_ble_eq_true rfl) ⟨(by show 200 + 900 * t + 2 ≤ 601024; omega), (by show 140000 + 5100 * t + 12 ≤ 7293034; omega)⟩ dL_law_416 (wr := mW D h2 F G) Sb.rf exT_b hex_t (fun v w hp => ?_) kx_nu
  obtain ⟨k_, rfl, z, o', hd, rfl⟩ := hp
  refine g_istore C dL_law_419 (lv' := [(0, .ref b), (1, .ref (h 0)), (2, .ref (h2 36)), (3, .ref qo), (4, .int (iI (6 * (t : Int)))), (5, .int (iI k_))]) [1, 2, 3, 4, 5, 0] rfl (Nat.le_of_ble_eq_true rfl) ?_
  refine g_aload_n C dL_law_421 rfl 2 rfl ?_
  refine g_aload_n C dL_law_422 rfl 0 rfl ?_
  refine g_iload C dL_law_423 4 rfl ?_
  refine g_iconst C dL_law_425 ?_
  refine g_iadd C dL_law_426 ?_
  refine g_sld C hX hbl hbA hL (by omega) dL_law_427 ?_
  refine g_aload_n C dL_law_428 rfl 0 rfl ?_
  refine g_iload C dL_law_429 4 rfl ?_
  refine g_iconst C dL_law_431 ?_
  refine g_iadd C dL_law_432 ?_
  refine g_sld C hX hbl hbA hL (by omega) dL_law_433 ?_
  refine g_callVU C (c_X3_part_2 l D C.hl h2 F G (sq xs ((6 * (t : Int)) + 1)) (sq xs ((6 * (t : Int)) + 2)) mnp mpt (sq_rg _ _) (sq_rg _ _)) (As := [.int (iI (sq xs ((6 * (t : Int)) + 1))), .int (iI (sq xs ((6 * (t : Int)) + 2)))]) (n := 2) (lw_V q1146 q1147 q1148 q69 q1149) (by decide +kernel) rfl rfl ⟨Nat.le_of_ble_eq_true rfl, Nat.le_of_ble_eq_true rfl⟩ (rcv C 0 (ci := 0) rfl rfl rfl) rfl rfl (Nat.le_of_ble_eq_true rfl) ⟨(by show 200 + 900 * t + 2 + 0 ≤ 601024; omega), (by show 140000 + 5100 * t + 12 + 0 ≤ 7293034; omega)⟩ dL_law_434 (wr := ((qo, oC D o') :: (bW D h f g N M P))) Sb.comm exT_b hex_t (fun v w hp => ?_) kx_nu
  obtain ⟨zb, rfl, F', G', hm, rfl⟩ := hp
  refine g_sb (ws' := mW D h2 F' G' ++ ((qo, oC D o') :: (bW D h f g N M P))) Sb.comm ?_
  obtain ⟨⟨hc1, hc2, hc3⟩, hN⟩ := L_part (h := h) hR hd hm
  refine g_istore C dL_law_437 (lv' := [(0, .ref b), (1, .ref (h 0)), (2, .ref (h2 36)), (3, .ref qo), (4, .int (iI (6 * (t : Int)))), (5, .int (iI k_)), (6, .int (iI zb))]) [1, 2, 3, 4, 5, 6, 0] rfl (Nat.le_of_ble_eq_true rfl) ?_
  refine g_aload_n C dL_law_439 rfl 2 rfl ?_
  refine g_callVR C (c_X3_thrown l D C.hl h2 F' G') (As := []) (n := 0) (lw_V q1106 q1107 q1108 q69 q1109) (by decide +kernel) rfl rfl ⟨Nat.le_of_ble_eq_true rfl, Nat.le_of_ble_eq_true rfl⟩ (rcv C 0 (ci := 0) rfl rfl rfl) rfl rfl (Nat.le_of_ble_eq_true rfl) ⟨(by show 200 + 900 * t + 2 + 0 ≤ 601024; omega), (by show 140000 + 5100 * t + 12 + 0 ≤ 7293034; omega)⟩ dL_law_440 Sb.lt exT_b hex_t (fun v w hp => ?_) kx_n
  obtain ⟨z9, rfl, rfl⟩ := hp
  refine g_iload C dL_law_443 5 rfl ?_
  refine g_icmp_same C (tgt := 450) hc1 dL_law_445 (by decide) ?_
  refine g_iload C dL_law_450 5 rfl ?_
  refine g_if_ne C (tgt := 467) dL_law_452 (by decide) (by omega) (fun hk => ?_) (fun hk => ?_)
  ·
    refine g_goto C (tgt := 1368) dL_law_467 (by decide) ?_
    obtain ⟨h', f', g', N', M', P', he, hw, hR'⟩ := hN
    refine g_ws (ws' := mW D h2 F' G' ++ ((qo, oC D o') :: bW D h' f' g' N' M' P')) (congrArg (fun w9 => mW D h2 F' G' ++ ((qo, oC D o') :: w9)) hw) ?_
    refine g_lv [0, 1, 2, 3, 4] rfl ?_
    refine g_widen (k := 200 + 900 * (t + 1)) (n := 140000 + 5100 * (t + 1)) (by omega) (by omega) ?_
    exact K h' f' g' N' M' P' F' G' o' he hR'
  ·
    refine g_aload_n C dL_law_455 rfl 3 rfl ?_
    refine g_iconst C dL_law_456 ?_
    refine g_lald C 24 (v := o' 0) rfl (by omega) (by decide) rfl dL_law_457 ?_
    refine g_iload C dL_law_458 6 rfl ?_
    refine g_i2l C dL_law_460 rfl ?_
    refine g_lcmp C (z := 0) dL_law_461 (by rw [hc3 hk]; exact lcmp_same _) ?_
    refine g_if_eq C (tgt := 467) dL_law_462 (by decide) (by decide) (fun _ => ?_) (fun hq => absurd rfl hq)
    refine g_goto C (tgt := 1368) dL_law_467 (by decide) ?_
    obtain ⟨h', f', g', N', M', P', he, hw, hR'⟩ := hN
    refine g_ws (ws' := mW D h2 F' G' ++ ((qo, oC D o') :: bW D h' f' g' N' M' P')) (congrArg (fun w9 => mW D h2 F' G' ++ ((qo, oC D o') :: w9)) hw) ?_
    refine g_lv [0, 1, 2, 3, 4] rfl ?_
    refine g_widen (k := 200 + 900 * (t + 1)) (n := 140000 + 5100 * (t + 1)) (by omega) (by omega) ?_
    exact K h' f' g' N' M' P' F' G' o' he hR'
set_option maxHeartbeats 4000000 in
set_option maxRecDepth 100000 in
theorem lc_7 {p : Program} {l : Launch} {e : Env} {s : State} {m : MethodId} {below : List Frame} {meth : Method} {c : Code} {D : va_G} {A : Nat → Prop} {b L : Nat} {xs : Nat → Int32} {t : Nat} {h : Nat → Nat} {f : Nat → Int} {g : Nat → Int → Int} {N : Nat → Nat} {M : Nat → Nat → Nat} {P : List PR} {h2 : Nat → Nat} {F : Nat → Int} {G : Nat → Int → Int} {qo : Nat} {o : Nat → Int64} (C : CX p l s m #[.ref b] meth c RX0 code 7 ret D A) (hX : va_X b L xs s s.heap) (hbl : b < s.heap.size) (hbA : ¬ A b) (hL : L ≤ 384) (ht : 6 * t + 6 ≤ L) (hR : RL D f g N M P F G) (K : KK p l e s m b below meth c D A t h h2 qo) : GO p l e room_1 s m #[.ref b] below meth c 7 D A A (200 + 900 * t) (140000 + 5100 * t) (lw_Z below #[.ref b] s) (mW D h2 F G ++ ((qo, oC D o) :: bW D h f g N M P)) 470 [(0, .ref b), (1, .ref (h 0)), (2, .ref (h2 36)), (3, .ref qo), (4, .int (iI (6 * (t : Int))))] [] := by
  obtain ⟨hF, hS, ht2, hkd, hth, hht, hri, htp, h7, hN7, hnp, hN6, hpt, hPL, hkc, hkb, hv, hPS⟩ := id hR.1
  obtain ⟨mF, mS, mkd, mth, mht, mri, mtp, mpl, mnp, mpt, mtv, mkm, mpx⟩ := hR.m
  have ht2' : t ≤ 63 := by omega
  by_cases hq : sq xs (6 * (t : Int) + 2) = 0
  ·
    refine g_aload_n C dL_law_470 rfl 1 rfl ?_
    refine g_aload_n C dL_law_471 rfl 0 rfl ?_
    refine g_iload C dL_law_472 4 rfl ?_
    refine g_iconst C dL_law_474 ?_
    refine g_iadd C dL_law_475 ?_
    refine g_sld C hX hbl hbA hL (by omega) dL_law_476 ?_
    refine g_aload_n C dL_law_477 rfl 0 rfl ?_
    refine g_iload C dL_law_478 4 rfl ?_
    refine g_iconst C dL_law_480 ?_
    refine g_iadd C dL_law_481 ?_
    refine g_sld C hX hbl hbA hL (by omega) dL_law_482 ?_
    refine g_if_eq C (tgt := 490) dL_law_483 (by decide) (sq_rg _ _) (fun _ => ?_) (fun hq' => absurd hq hq')
    refine g_iconst C dL_law_490 ?_
    refine g_aload_n C dL_law_491 rfl 3 rfl ?_
    refine g_callSUH C (c_X0_need l D C.hl h f g N M (plW D P) (sq xs ((6 * (t : Int)) + 1)) 0 hnp hN6 hpt (sq_rg _ _) (by decide) qo o) (As := [.ref (h 0), .int (iI (sq xs ((6 * (t : Int)) + 1))), .int (iI 0), .ref qo]) (n := 4) (lw_SW q719 q720 q47 q721) (by decide +kernel) rfl rfl ⟨Nat.le_of_ble_eq_true rfl, Nat.le_of_ble_eq_true rfl⟩ rfl rfl (Nat.le_of_ble_eq_true rfl) ⟨(by show 200 + 900 * t + 1 ≤ 601024; omega), (by show 140000 + 5100 * t + 6 ≤ 7293034; omega)⟩ dL_law_492 (wr := mW D h2 F G) Sb.rf exT_b hex_t (fun v w hp => ?_) kx_nu
    obtain ⟨k_, rfl, z, o', w1, hd, rfl⟩ := hp
    refine g_istore C dL_law_495 (lv' := [(0, .ref b), (1, .ref (h 0)), (2, .ref (h2 36)), (3, .ref qo), (4, .int (iI (6 * (t : Int)))), (5, .int (iI k_))]) [1, 2, 3, 4, 5, 0] rfl (Nat.le_of_ble_eq_true rfl) ?_
    refine g_aload_n C dL_law_497 rfl 2 rfl ?_
    refine g_aload_n C dL_law_498 rfl 0 rfl ?_
    refine g_iload C dL_law_499 4 rfl ?_
    refine g_iconst C dL_law_501 ?_
    refine g_iadd C dL_law_502 ?_
    refine g_sld C hX hbl hbA hL (by omega) dL_law_503 ?_
    refine g_aload_n C dL_law_504 rfl 0 rfl ?_
    refine g_iload C dL_law_505 4 rfl ?_
    refine g_iconst C dL_law_507 ?_
    refine g_iadd C dL_law_508 ?_
    refine g_sld C hX hbl hbA hL (by omega) dL_law_509 ?_
    refine g_if_eq C (tgt := 517) dL_law_510 (by decide) (sq_rg _ _) (fun _ => ?_) (fun hq' => absurd hq hq')
    refine g_iconst C dL_law_517 ?_
    refine g_callVU C (c_X3_need l D C.hl h2 F G (sq xs ((6 * (t : Int)) + 1)) 0 mnp mpt (sq_rg _ _) (by decide)) (As := [.int (iI (sq xs ((6 * (t : Int)) + 1))), .int (iI 0)]) (n := 2) (lw_V q1158 q1159 q1160 q69 q1161) (by decide +kernel) rfl rfl ⟨Nat.le_of_ble_eq_true rfl, Nat.le_of_ble_eq_true rfl⟩ (rcv C 0 (ci := 0) rfl rfl rfl) rfl rfl (Nat.le_of_ble_eq_true rfl) ⟨(by show 200 + 900 * t + 1 + 0 ≤ 601024; omega), (by show 140000 + 5100 * t + 6 + 0 ≤ 7293034; omega)⟩ dL_law_518 (wr := ((qo, oC D o') :: w1)) Sb.comm exT_b hex_t (fun v w hp => ?_) kx_nu
    obtain ⟨zb, rfl, F', G', hm, rfl⟩ := hp
    refine g_sb (ws' := mW D h2 F' G' ++ ((qo, oC D o') :: w1)) Sb.comm ?_
    obtain ⟨⟨hc1, hc2, hc3⟩, hN⟩ := L_need (h := h) (by decide) hR hd hm
    refine g_istore C dL_law_521 (lv' := [(0, .ref b), (1, .ref (h 0)), (2, .ref (h2 36)), (3, .ref qo), (4, .int (iI (6 * (t : Int)))), (5, .int (iI k_)), (6, .int (iI zb))]) [1, 2, 3, 4, 5, 6, 0] rfl (Nat.le_of_ble_eq_true rfl) ?_
    refine g_aload_n C dL_law_523 rfl 2 rfl ?_
    refine g_callVR C (c_X3_thrown l D C.hl h2 F' G') (As := []) (n := 0) (lw_V q1106 q1107 q1108 q69 q1109) (by decide +kernel) rfl rfl ⟨Nat.le_of_ble_eq_true rfl, Nat.le_of_ble_eq_true rfl⟩ (rcv C 0 (ci := 0) rfl rfl rfl) rfl rfl (Nat.le_of_ble_eq_true rfl) ⟨(by show 200 + 900 * t + 1 + 0 ≤ 601024; omega), (by show 140000 + 5100 * t + 6 + 0 ≤ 7293034; omega)⟩ dL_law_524 Sb.lt exT_b hex_t (fun v w hp => ?_) kx_n
    obtain ⟨z9, rfl, rfl⟩ := hp
    refine g_iload C dL_law_527 5 rfl ?_
    refine g_icmp_same C (tgt := 534) hc1 dL_law_529 (by decide) ?_
    refine g_iload C dL_law_534 5 rfl ?_
    refine g_if_ne C (tgt := 558) dL_law_536 (by decide) (by omega) (fun hk => ?_) (fun hk => ?_)
    ·
      refine g_goto C (tgt := 1368) dL_law_558 (by decide) ?_
      obtain ⟨h', f', g', N', M', P', he, hw, hR'⟩ := hN
      refine g_ws (ws' := mW D h2 F' G' ++ ((qo, oC D o') :: bW D h' f' g' N' M' P')) (congrArg (fun w9 => mW D h2 F' G' ++ ((qo, oC D o') :: w9)) hw) ?_
      refine g_lv [0, 1, 2, 3, 4] rfl ?_
      refine g_widen (k := 200 + 900 * (t + 1)) (n := 140000 + 5100 * (t + 1)) (by omega) (by omega) ?_
      exact K h' f' g' N' M' P' F' G' o' he hR'
    ·
      refine g_aload_n C dL_law_539 rfl 3 rfl ?_
      refine g_iconst C dL_law_540 ?_
      refine g_lald C 24 (v := o' 0) rfl (by omega) (by decide) rfl dL_law_541 ?_
      refine g_iload C dL_law_542 6 rfl ?_
      rcases (hc3 hk).1 with h0 | h0
      · refine g_if_eq C (tgt := 551) dL_law_544 (by decide) (by rw [h0]; decide) (fun _ => ?_) (fun hq => absurd h0 hq)
        refine g_lconst C dL_law_551 (v := 0) rfl ?_
        refine g_lcmp C (z := 0) dL_law_552 (by rw [(hc3 hk).2, h0, l64_0]; exact lcmp_same _) ?_
        refine g_if_eq C (tgt := 558) dL_law_553 (by decide) (by decide) (fun _ => ?_) (fun hq => absurd rfl hq)
        refine g_goto C (tgt := 1368) dL_law_558 (by decide) ?_
        obtain ⟨h', f', g', N', M', P', he, hw, hR'⟩ := hN
        refine g_ws (ws' := mW D h2 F' G' ++ ((qo, oC D o') :: bW D h' f' g' N' M' P')) (congrArg (fun w9 => mW D h2 F' G' ++ ((qo, oC D o') :: w9)) hw) ?_
        refine g_lv [0, 1, 2, 3, 4] rfl ?_
        refine g_widen (k := 200 + 900 * (t + 1)) (n := 140000 + 5100 * (t + 1)) (by omega) (by omega) ?_
        exact K h' f' g' N' M' P' F' G' o' he hR'
      · refine g_if_eq C (tgt := 551) dL_law_544 (by decide) (by rw [h0]; decide) (fun hq => absurd (h0.symm.trans hq) (by decide)) (fun _ => ?_)
        refine g_lconst C dL_law_547 (v := 1) rfl ?_
        refine g_goto C (tgt := 552) dL_law_548 (by decide) ?_
        refine g_lcmp C (z := 0) dL_law_552 (by rw [(hc3 hk).2, h0, l64_1]; exact lcmp_same _) ?_
        refine g_if_eq C (tgt := 558) dL_law_553 (by decide) (by decide) (fun _ => ?_) (fun hq => absurd rfl hq)
        refine g_goto C (tgt := 1368) dL_law_558 (by decide) ?_
        obtain ⟨h', f', g', N', M', P', he, hw, hR'⟩ := hN
        refine g_ws (ws' := mW D h2 F' G' ++ ((qo, oC D o') :: bW D h' f' g' N' M' P')) (congrArg (fun w9 => mW D h2 F' G' ++ ((qo, oC D o') :: w9)) hw) ?_
        refine g_lv [0, 1, 2, 3, 4] rfl ?_
        refine g_widen (k := 200 + 900 * (t + 1)) (n := 140000 + 5100 * (t + 1)) (by omega) (by omega) ?_
        exact K h' f' g' N' M' P' F' G' o' he hR'
  ·
    refine g_aload_n C dL_law_470 rfl 1 rfl ?_
    refine g_aload_n C dL_law_471 rfl 0 rfl ?_
    refine g_iload C dL_law_472 4 rfl ?_
    refine g_iconst C dL_law_474 ?_
    refine g_iadd C dL_law_475 ?_
    refine g_sld C hX hbl hbA hL (by omega) dL_law_476 ?_
    refine g_aload_n C dL_law_477 rfl 0 rfl ?_
    refine g_iload C dL_law_478 4 rfl ?_
    refine g_iconst C dL_law_480 ?_
    refine g_iadd C dL_law_481 ?_
    refine g_sld C hX hbl hbA hL (by omega) dL_law_482 ?_
    refine g_if_eq C (tgt := 490) dL_law_483 (by decide) (sq_rg _ _) (fun hq' => absurd hq' hq) (fun _ => ?_)
    refine g_iconst C dL_law_486 ?_
    refine g_goto C (tgt := 491) dL_law_487 (by decide) ?_
    refine g_aload_n C dL_law_491 rfl 3 rfl ?_
    refine g_callSUH C (c_X0_need l D C.hl h f g N M (plW D P) (sq xs ((6 * (t : Int)) + 1)) 1 hnp hN6 hpt (sq_rg _ _) (by decide) qo o) (As := [.ref (h 0), .int (iI (sq xs ((6 * (t : Int)) + 1))), .int (iI 1), .ref qo]) (n := 4) (lw_SW q719 q720 q47 q721) (by decide +kernel) rfl rfl ⟨Nat.le_of_ble_eq_true rfl, Nat.le_of_ble_eq_true rfl⟩ rfl rfl (Nat.le_of_ble_eq_true rfl) ⟨(by show 200 + 900 * t + 1 ≤ 601024; omega), (by show 140000 + 5100 * t + 6 ≤ 7293034; omega)⟩ dL_law_492 (wr := mW D h2 F G) Sb.rf exT_b hex_t (fun v w hp => ?_) kx_nu
    obtain ⟨k_, rfl, z, o', w1, hd, rfl⟩ := hp
    refine g_istore C dL_law_495 (lv' := [(0, .ref b), (1, .ref (h 0)), (2, .ref (h2 36)), (3, .ref qo), (4, .int (iI (6 * (t : Int)))), (5, .int (iI k_))]) [1, 2, 3, 4, 5, 0] rfl (Nat.le_of_ble_eq_true rfl) ?_
    refine g_aload_n C dL_law_497 rfl 2 rfl ?_
    refine g_aload_n C dL_law_498 rfl 0 rfl ?_
    refine g_iload C dL_law_499 4 rfl ?_
    refine g_iconst C dL_law_501 ?_
    refine g_iadd C dL_law_502 ?_
    refine g_sld C hX hbl hbA hL (by omega) dL_law_503 ?_
    refine g_aload_n C dL_law_504 rfl 0 rfl ?_
    refine g_iload C dL_law_505 4 rfl ?_
    refine g_iconst C dL_law_507 ?_
    refine g_iadd C dL_law_508 ?_
    refine g_sld C hX hbl hbA hL (by omega) dL_law_509 ?_
    refine g_if_eq C (tgt := 517) dL_law_510 (by decide) (sq_rg _ _) (fun hq' => absurd hq' hq) (fun _ => ?_)
    refine g_iconst C dL_law_513 ?_
    refine g_goto C (tgt := 518) dL_law_514 (by decide) ?_
    refine g_callVU C (c_X3_need l D C.hl h2 F G (sq xs ((6 * (t : Int)) + 1)) 1 mnp mpt (sq_rg _ _) (by decide)) (As := [.int (iI (sq xs ((6 * (t : Int)) + 1))), .int (iI 1)]) (n := 2) (lw_V q1158 q1159 q1160 q69 q1161) (by decide +kernel) rfl rfl ⟨Nat.le_of_ble_eq_true rfl, Nat.le_of_ble_eq_true rfl⟩ (rcv C 0 (ci := 0) rfl rfl rfl) rfl rfl (Nat.le_of_ble_eq_true rfl) ⟨(by show 200 + 900 * t + 1 + 0 ≤ 601024; omega), (by show 140000 + 5100 * t + 6 + 0 ≤ 7293034; omega)⟩ dL_law_518 (wr := ((qo, oC D o') :: w1)) Sb.comm exT_b hex_t (fun v w hp => ?_) kx_nu
    obtain ⟨zb, rfl, F', G', hm, rfl⟩ := hp
    refine g_sb (ws' := mW D h2 F' G' ++ ((qo, oC D o') :: w1)) Sb.comm ?_
    obtain ⟨⟨hc1, hc2, hc3⟩, hN⟩ := L_need (h := h) (by decide) hR hd hm
    refine g_istore C dL_law_521 (lv' := [(0, .ref b), (1, .ref (h 0)), (2, .ref (h2 36)), (3, .ref qo), (4, .int (iI (6 * (t : Int)))), (5, .int (iI k_)), (6, .int (iI zb))]) [1, 2, 3, 4, 5, 6, 0] rfl (Nat.le_of_ble_eq_true rfl) ?_
    refine g_aload_n C dL_law_523 rfl 2 rfl ?_
    refine g_callVR C (c_X3_thrown l D C.hl h2 F' G') (As := []) (n := 0) (lw_V q1106 q1107 q1108 q69 q1109) (by decide +kernel) rfl rfl ⟨Nat.le_of_ble_eq_true rfl, Nat.le_of_ble_eq_true rfl⟩ (rcv C 0 (ci := 0) rfl rfl rfl) rfl rfl (Nat.le_of_ble_eq_true rfl) ⟨(by show 200 + 900 * t + 1 + 0 ≤ 601024; omega), (by show 140000 + 5100 * t + 6 + 0 ≤ 7293034; omega)⟩ dL_law_524 Sb.lt exT_b hex_t (fun v w hp => ?_) kx_n
    obtain ⟨z9, rfl, rfl⟩ := hp
    refine g_iload C dL_law_527 5 rfl ?_
    refine g_icmp_same C (tgt := 534) hc1 dL_law_529 (by decide) ?_
    refine g_iload C dL_law_534 5 rfl ?_
    refine g_if_ne C (tgt := 558) dL_law_536 (by decide) (by omega) (fun hk => ?_) (fun hk => ?_)
    ·
      refine g_goto C (tgt := 1368) dL_law_558 (by decide) ?_
      obtain ⟨h', f', g', N', M', P', he, hw, hR'⟩ := hN
      refine g_ws (ws' := mW D h2 F' G' ++ ((qo, oC D o') :: bW D h' f' g' N' M' P')) (congrArg (fun w9 => mW D h2 F' G' ++ ((qo, oC D o') :: w9)) hw) ?_
      refine g_lv [0, 1, 2, 3, 4] rfl ?_
      refine g_widen (k := 200 + 900 * (t + 1)) (n := 140000 + 5100 * (t + 1)) (by omega) (by omega) ?_
      exact K h' f' g' N' M' P' F' G' o' he hR'
    ·
      refine g_aload_n C dL_law_539 rfl 3 rfl ?_
      refine g_iconst C dL_law_540 ?_
      refine g_lald C 24 (v := o' 0) rfl (by omega) (by decide) rfl dL_law_541 ?_
      refine g_iload C dL_law_542 6 rfl ?_
      rcases (hc3 hk).1 with h0 | h0
      · refine g_if_eq C (tgt := 551) dL_law_544 (by decide) (by rw [h0]; decide) (fun _ => ?_) (fun hq => absurd h0 hq)
        refine g_lconst C dL_law_551 (v := 0) rfl ?_
        refine g_lcmp C (z := 0) dL_law_552 (by rw [(hc3 hk).2, h0, l64_0]; exact lcmp_same _) ?_
        refine g_if_eq C (tgt := 558) dL_law_553 (by decide) (by decide) (fun _ => ?_) (fun hq => absurd rfl hq)
        refine g_goto C (tgt := 1368) dL_law_558 (by decide) ?_
        obtain ⟨h', f', g', N', M', P', he, hw, hR'⟩ := hN
        refine g_ws (ws' := mW D h2 F' G' ++ ((qo, oC D o') :: bW D h' f' g' N' M' P')) (congrArg (fun w9 => mW D h2 F' G' ++ ((qo, oC D o') :: w9)) hw) ?_
        refine g_lv [0, 1, 2, 3, 4] rfl ?_
        refine g_widen (k := 200 + 900 * (t + 1)) (n := 140000 + 5100 * (t + 1)) (by omega) (by omega) ?_
        exact K h' f' g' N' M' P' F' G' o' he hR'
      · refine g_if_eq C (tgt := 551) dL_law_544 (by decide) (by rw [h0]; decide) (fun hq => absurd (h0.symm.trans hq) (by decide)) (fun _ => ?_)
        refine g_lconst C dL_law_547 (v := 1) rfl ?_
        refine g_goto C (tgt := 552) dL_law_548 (by decide) ?_
        refine g_lcmp C (z := 0) dL_law_552 (by rw [(hc3 hk).2, h0, l64_1]; exact lcmp_same _) ?_
        refine g_if_eq C (tgt := 558) dL_law_553 (by decide) (by decide) (fun _ => ?_) (fun hq => absurd rfl hq)
        refine g_goto C (tgt := 1368) dL_law_558 (by decide) ?_
        obtain ⟨h', f', g', N', M', P', he, hw, hR'⟩ := hN
        refine g_ws (ws' := mW D h2 F' G' ++ ((qo, oC D o') :: bW D h' f' g' N' M' P')) (congrArg (fun w9 => mW D h2 F' G' ++ ((qo, oC D o') :: w9)) hw) ?_
        refine g_lv [0, 1, 2, 3, 4] rfl ?_
        refine g_widen (k := 200 + 900 * (t + 1)) (n := 140000 + 5100 * (t + 1)) (by omega) (by omega) ?_
        exact K h' f' g' N' M' P' F' G' o' he hR'
set_option maxHeartbeats 4000000 in
set_option maxRecDepth 100000 in
theorem lc_8 {p : Program} {l : Launch} {e : Env} {s : State} {m : MethodId} {below : List Frame} {meth : Method} {c : Code} {D : va_G} {A : Nat → Prop} {b L : Nat} {xs : Nat → Int32} {t : Nat} {h : Nat → Nat} {f : Nat → Int} {g : Nat → Int → Int} {N : Nat → Nat} {M : Nat → Nat → Nat} {P : List PR} {h2 : Nat → Nat} {F : Nat → Int} {G : Nat → Int → Int} {qo : Nat} {o : Nat → Int64} (C : CX p l s m #[.ref b] meth c RX0 code 7 ret D A) (hX : va_X b L xs s s.heap) (hbl : b < s.heap.size) (hbA : ¬ A b) (hL : L ≤ 384) (ht : 6 * t + 6 ≤ L) (hR : RL D f g N M P F G) (K : KK p l e s m b below meth c D A t h h2 qo) : GO p l e room_1 s m #[.ref b] below meth c 7 D A A (200 + 900 * t) (140000 + 5100 * t) (lw_Z below #[.ref b] s) (mW D h2 F G ++ ((qo, oC D o) :: bW D h f g N M P)) 561 [(0, .ref b), (1, .ref (h 0)), (2, .ref (h2 36)), (3, .ref qo), (4, .int (iI (6 * (t : Int))))] [] := by
  obtain ⟨hF, hS, ht2, hkd, hth, hht, hri, htp, h7, hN7, hnp, hN6, hpt, hPL, hkc, hkb, hv, hPS⟩ := id hR.1
  obtain ⟨mF, mS, mkd, mth, mht, mri, mtp, mpl, mnp, mpt, mtv, mkm, mpx⟩ := hR.m
  have ht2' : t ≤ 63 := by omega
  refine g_aload_n C dL_law_561 rfl 1 rfl ?_
  refine g_aload_n C dL_law_562 rfl 0 rfl ?_
  refine g_iload C dL_law_563 4 rfl ?_
  refine g_iconst C dL_law_565 ?_
  refine g_iadd C dL_law_566 ?_
  refine g_sld C hX hbl hbA hL (by omega) dL_law_567 ?_
  refine g_aload_n C dL_law_568 rfl 0 rfl ?_
  refine g_iload C dL_law_569 4 rfl ?_
  refine g_iconst C dL_law_571 ?_
  refine g_iadd C dL_law_572 ?_
  refine g_sld C hX hbl hbA hL (by omega) dL_law_573 ?_
  refine g_aload_n C dL_law_574 rfl 0 rfl ?_
  refine g_iload C dL_law_575 4 rfl ?_
  refine g_iconst C dL_law_577 ?_
  refine g_iadd C dL_law_578 ?_
  refine g_sld C hX hbl hbA hL (by omega) dL_law_579 ?_
  refine g_aload_n C dL_law_580 rfl 0 rfl ?_
  refine g_iload C dL_law_581 4 rfl ?_
  refine g_iconst C dL_law_583 ?_
  refine g_iadd C dL_law_584 ?_
  refine g_sld C hX hbl hbA hL (by omega) dL_law_585 ?_
  refine g_aload_n C dL_law_586 rfl 0 rfl ?_
  refine g_iload C dL_law_587 4 rfl ?_
  refine g_iconst C dL_law_589 ?_
  refine g_iadd C dL_law_590 ?_
  refine g_sld C hX hbl hbA hL (by omega) dL_law_591 ?_
  refine g_callVU C (c_X1_feed l D C.hl h f g N M (ptW (M 6) (g 24) (g 25) (g 26) (g 27) (f 6) ++ plW D P) (sq xs ((6 * (t : Int)) + 1)) (sq xs ((6 * (t : Int)) + 2)) (sq xs ((6 * (t : Int)) + 3)) (sq xs ((6 * (t : Int)) + 4)) (sq xs ((6 * (t : Int)) + 5)) htp (sq_rg _ _) (sq_rg _ _) (sq_rg _ _) (sq_rg _ _) (sq_rg _ _)) (As := [.int (iI (sq xs ((6 * (t : Int)) + 1))), .int (iI (sq xs ((6 * (t : Int)) + 2))), .int (iI (sq xs ((6 * (t : Int)) + 3))), .int (iI (sq xs ((6 * (t : Int)) + 4))), .int (iI (sq xs ((6 * (t : Int)) + 5)))]) (n := 5) (lw_V q587 q588 q589 q48 q590) (by decide +kernel) rfl rfl ⟨Nat.le_of_ble_eq_true rfl, Nat.le_of_ble_eq_true rfl⟩ (rcv C 25 (ci := 1) rfl rfl rfl) rfl rfl (Nat.le_of_ble_eq_true rfl) ⟨(by show 200 + 900 * t + 0 ≤ 601024; omega), (by show 140000 + 5100 * t + 0 ≤ 7293034; omega)⟩ dL_law_592 (wr := mW D h2 F G ++ [(qo, oC D o)]) (by rw [List.append_assoc]; exact Sb.rf) exT_b hex_t (fun v w hp => ?_) kx_nu
  obtain ⟨z, rfl, hd⟩ := hp
  refine g_ws (ws' := mW D h2 F G ++ ((qo, oC D o) :: w)) (List.append_assoc _ _ _) ?_
  refine g_aload_n C dL_law_595 rfl 2 rfl ?_
  refine g_aload_n C dL_law_596 rfl 0 rfl ?_
  refine g_iload C dL_law_597 4 rfl ?_
  refine g_iconst C dL_law_599 ?_
  refine g_iadd C dL_law_600 ?_
  refine g_sld C hX hbl hbA hL (by omega) dL_law_601 ?_
  refine g_aload_n C dL_law_602 rfl 0 rfl ?_
  refine g_iload C dL_law_603 4 rfl ?_
  refine g_iconst C dL_law_605 ?_
  refine g_iadd C dL_law_606 ?_
  refine g_sld C hX hbl hbA hL (by omega) dL_law_607 ?_
  refine g_aload_n C dL_law_608 rfl 0 rfl ?_
  refine g_iload C dL_law_609 4 rfl ?_
  refine g_iconst C dL_law_611 ?_
  refine g_iadd C dL_law_612 ?_
  refine g_sld C hX hbl hbA hL (by omega) dL_law_613 ?_
  refine g_aload_n C dL_law_614 rfl 0 rfl ?_
  refine g_iload C dL_law_615 4 rfl ?_
  refine g_iconst C dL_law_617 ?_
  refine g_iadd C dL_law_618 ?_
  refine g_sld C hX hbl hbA hL (by omega) dL_law_619 ?_
  refine g_aload_n C dL_law_620 rfl 0 rfl ?_
  refine g_iload C dL_law_621 4 rfl ?_
  refine g_iconst C dL_law_623 ?_
  refine g_iadd C dL_law_624 ?_
  refine g_sld C hX hbl hbA hL (by omega) dL_law_625 ?_
  refine g_callVU C (c_X3_feed l D C.hl h2 F G (sq xs ((6 * (t : Int)) + 1)) (sq xs ((6 * (t : Int)) + 2)) (sq xs ((6 * (t : Int)) + 3)) (sq xs ((6 * (t : Int)) + 4)) (sq xs ((6 * (t : Int)) + 5)) mtp (sq_rg _ _) (sq_rg _ _) (sq_rg _ _) (sq_rg _ _) (sq_rg _ _)) (As := [.int (iI (sq xs ((6 * (t : Int)) + 1))), .int (iI (sq xs ((6 * (t : Int)) + 2))), .int (iI (sq xs ((6 * (t : Int)) + 3))), .int (iI (sq xs ((6 * (t : Int)) + 4))), .int (iI (sq xs ((6 * (t : Int)) + 5)))]) (n := 5) (lw_V q1162 q1163 q1164 q69 q1165) (by decide +kernel) rfl rfl ⟨Nat.le_of_ble_eq_true rfl, Nat.le_of_ble_eq_true rfl⟩ (rcv C 0 (ci := 0) rfl rfl rfl) rfl rfl (Nat.le_of_ble_eq_true rfl) ⟨(by show 200 + 900 * t + 0 + 0 ≤ 601024; omega), (by show 140000 + 5100 * t + 0 + 0 ≤ 7293034; omega)⟩ dL_law_626 (wr := ((qo, oC D o) :: w)) Sb.comm exT_b hex_t (fun v w hp => ?_) kx_nu
  obtain ⟨zb, rfl, F', G', hm, rfl⟩ := hp
  refine g_sb (ws' := mW D h2 F' G' ++ ((qo, oC D o) :: w)) Sb.comm ?_
  obtain ⟨hzz, hN⟩ := L_feed (h := h) hR hd hm
  refine g_icmp_same C (tgt := 1368) hzz dL_law_629 (by decide) ?_
  obtain ⟨h', f', g', N', M', P', he, hw, hR'⟩ := hN
  refine g_ws (ws' := mW D h2 F' G' ++ ((qo, oC D o) :: bW D h' f' g' N' M' P')) (congrArg (fun w9 => mW D h2 F' G' ++ ((qo, oC D o) :: w9)) hw) ?_
  refine g_widen (k := 200 + 900 * (t + 1)) (n := 140000 + 5100 * (t + 1)) (by omega) (by omega) ?_
  exact K h' f' g' N' M' P' F' G' o he hR'
set_option maxHeartbeats 4000000 in
set_option maxRecDepth 100000 in
theorem lc_9 {p : Program} {l : Launch} {e : Env} {s : State} {m : MethodId} {below : List Frame} {meth : Method} {c : Code} {D : va_G} {A : Nat → Prop} {b L : Nat} {xs : Nat → Int32} {t : Nat} {h : Nat → Nat} {f : Nat → Int} {g : Nat → Int → Int} {N : Nat → Nat} {M : Nat → Nat → Nat} {P : List PR} {h2 : Nat → Nat} {F : Nat → Int} {G : Nat → Int → Int} {qo : Nat} {o : Nat → Int64} (C : CX p l s m #[.ref b] meth c RX0 code 7 ret D A) (hX : va_X b L xs s s.heap) (hbl : b < s.heap.size) (hbA : ¬ A b) (hL : L ≤ 384) (ht : 6 * t + 6 ≤ L) (hR : RL D f g N M P F G) (K : KK p l e s m b below meth c D A t h h2 qo) : GO p l e room_1 s m #[.ref b] below meth c 7 D A A (200 + 900 * t) (140000 + 5100 * t) (lw_Z below #[.ref b] s) (mW D h2 F G ++ ((qo, oC D o) :: bW D h f g N M P)) 634 [(0, .ref b), (1, .ref (h 0)), (2, .ref (h2 36)), (3, .ref qo), (4, .int (iI (6 * (t : Int))))] [] := by
  obtain ⟨hF, hS, ht2, hkd, hth, hht, hri, htp, h7, hN7, hnp, hN6, hpt, hPL, hkc, hkb, hv, hPS⟩ := id hR.1
  obtain ⟨mF, mS, mkd, mth, mht, mri, mtp, mpl, mnp, mpt, mtv, mkm, mpx⟩ := hR.m
  have ht2' : t ≤ 63 := by omega
  refine g_aload_n C dL_law_634 rfl 1 rfl ?_
  refine g_aload_n C dL_law_635 rfl 0 rfl ?_
  refine g_iload C dL_law_636 4 rfl ?_
  refine g_iconst C dL_law_638 ?_
  refine g_iadd C dL_law_639 ?_
  refine g_sld C hX hbl hbA hL (by omega) dL_law_640 ?_
  refine g_aload_n C dL_law_641 rfl 0 rfl ?_
  refine g_iload C dL_law_642 4 rfl ?_
  refine g_iconst C dL_law_644 ?_
  refine g_iadd C dL_law_645 ?_
  refine g_sld C hX hbl hbA hL (by omega) dL_law_646 ?_
  refine g_aload_n C dL_law_647 rfl 0 rfl ?_
  refine g_iload C dL_law_648 4 rfl ?_
  refine g_iconst C dL_law_650 ?_
  refine g_iadd C dL_law_651 ?_
  refine g_sld C hX hbl hbA hL (by omega) dL_law_652 ?_
  refine g_aload_n C dL_law_653 rfl 3 rfl ?_
  refine g_callSUH C (c_X0_plan l D C.hl h f g N M P (sq xs ((6 * (t : Int)) + 1)) (sq xs ((6 * (t : Int)) + 2)) (sq xs ((6 * (t : Int)) + 3)) hF hS hkd hth hht htp (by omega) hN7 h7.2 hPS (sq_rg _ _) (sq_rg _ _) (sq_rg _ _) qo o) (As := [.ref (h 0), .int (iI (sq xs ((6 * (t : Int)) + 1))), .int (iI (sq xs ((6 * (t : Int)) + 2))), .int (iI (sq xs ((6 * (t : Int)) + 3))), .ref qo]) (n := 5) (lw_SW q726 q727 q47 q728) (by decide +kernel) rfl rfl ⟨Nat.le_of_ble_eq_true rfl, Nat.le_of_ble_eq_true rfl⟩ rfl rfl (Nat.le_of_ble_eq_true rfl) ⟨(by show 200 + 900 * t + 900 ≤ 601024; omega), (by show 140000 + 5100 * t + 5100 ≤ 7293034; omega)⟩ dL_law_654 (wr := mW D h2 F G) Sb.rf exT_b hex_t (fun v w hp => ?_) kx_nu
  obtain ⟨k_, rfl, z, o', w1, hd, rfl⟩ := hp
  refine g_istore C dL_law_657 (lv' := [(0, .ref b), (1, .ref (h 0)), (2, .ref (h2 36)), (3, .ref qo), (4, .int (iI (6 * (t : Int)))), (5, .int (iI k_))]) [1, 2, 3, 4, 5, 0] rfl (Nat.le_of_ble_eq_true rfl) ?_
  refine g_aload_n C dL_law_659 rfl 2 rfl ?_
  refine g_aload_n C dL_law_660 rfl 0 rfl ?_
  refine g_iload C dL_law_661 4 rfl ?_
  refine g_iconst C dL_law_663 ?_
  refine g_iadd C dL_law_664 ?_
  refine g_sld C hX hbl hbA hL (by omega) dL_law_665 ?_
  refine g_aload_n C dL_law_666 rfl 0 rfl ?_
  refine g_iload C dL_law_667 4 rfl ?_
  refine g_iconst C dL_law_669 ?_
  refine g_iadd C dL_law_670 ?_
  refine g_sld C hX hbl hbA hL (by omega) dL_law_671 ?_
  refine g_aload_n C dL_law_672 rfl 0 rfl ?_
  refine g_iload C dL_law_673 4 rfl ?_
  refine g_iconst C dL_law_675 ?_
  refine g_iadd C dL_law_676 ?_
  refine g_sld C hX hbl hbA hL (by omega) dL_law_677 ?_
  refine g_callVU C (c_X3_plan l D C.hl h2 F G (sq xs ((6 * (t : Int)) + 1)) (sq xs ((6 * (t : Int)) + 2)) (sq xs ((6 * (t : Int)) + 3)) mF mS mkd mpl mtp mtv (sq_rg _ _) (sq_rg _ _) (sq_rg _ _)) (As := [.int (iI (sq xs ((6 * (t : Int)) + 1))), .int (iI (sq xs ((6 * (t : Int)) + 2))), .int (iI (sq xs ((6 * (t : Int)) + 3)))]) (n := 3) (lw_V q1166 q1167 q1168 q69 q1169) (by decide +kernel) rfl rfl ⟨Nat.le_of_ble_eq_true rfl, Nat.le_of_ble_eq_true rfl⟩ (rcv C 0 (ci := 0) rfl rfl rfl) rfl rfl (Nat.le_of_ble_eq_true rfl) ⟨(by show 200 + 900 * t + 900 + 0 ≤ 601024; omega), (by show 140000 + 5100 * t + 5100 + 0 ≤ 7293034; omega)⟩ dL_law_678 (wr := ((qo, oC D o') :: w1)) Sb.comm exT_b hex_t (fun v w hp => ?_) kx_nu
  obtain ⟨zb, rfl, F', G', hm, rfl⟩ := hp
  refine g_sb (ws' := mW D h2 F' G' ++ ((qo, oC D o') :: w1)) Sb.comm ?_
  obtain ⟨⟨hc1, hc2, hc3⟩, hN⟩ := L_plan (h := h) hR hd hm
  refine g_istore C dL_law_681 (lv' := [(0, .ref b), (1, .ref (h 0)), (2, .ref (h2 36)), (3, .ref qo), (4, .int (iI (6 * (t : Int)))), (5, .int (iI k_)), (6, .int (iI zb))]) [1, 2, 3, 4, 5, 6, 0] rfl (Nat.le_of_ble_eq_true rfl) ?_
  refine g_aload_n C dL_law_683 rfl 2 rfl ?_
  refine g_callVR C (c_X3_thrown l D C.hl h2 F' G') (As := []) (n := 0) (lw_V q1106 q1107 q1108 q69 q1109) (by decide +kernel) rfl rfl ⟨Nat.le_of_ble_eq_true rfl, Nat.le_of_ble_eq_true rfl⟩ (rcv C 0 (ci := 0) rfl rfl rfl) rfl rfl (Nat.le_of_ble_eq_true rfl) ⟨(by show 200 + 900 * t + 900 + 0 ≤ 601024; omega), (by show 140000 + 5100 * t + 5100 + 0 ≤ 7293034; omega)⟩ dL_law_684 Sb.lt exT_b hex_t (fun v w hp => ?_) kx_n
  obtain ⟨z9, rfl, rfl⟩ := hp
  refine g_iload C dL_law_687 5 rfl ?_
  refine g_icmp_same C (tgt := 694) hc1 dL_law_689 (by decide) ?_
  refine g_iload C dL_law_694 5 rfl ?_
  refine g_if_ne C (tgt := 711) dL_law_696 (by decide) (by omega) (fun hk => ?_) (fun hk => ?_)
  ·
    refine g_goto C (tgt := 1368) dL_law_711 (by decide) ?_
    obtain ⟨h', f', g', N', M', P', he, hw, hR'⟩ := hN
    refine g_ws (ws' := mW D h2 F' G' ++ ((qo, oC D o') :: bW D h' f' g' N' M' P')) (congrArg (fun w9 => mW D h2 F' G' ++ ((qo, oC D o') :: w9)) hw) ?_
    refine g_lv [0, 1, 2, 3, 4] rfl ?_
    refine g_widen (k := 200 + 900 * (t + 1)) (n := 140000 + 5100 * (t + 1)) (by omega) (by omega) ?_
    exact K h' f' g' N' M' P' F' G' o' he hR'
  ·
    refine g_aload_n C dL_law_699 rfl 3 rfl ?_
    refine g_iconst C dL_law_700 ?_
    refine g_lald C 24 (v := o' 0) rfl (by omega) (by decide) rfl dL_law_701 ?_
    refine g_iload C dL_law_702 6 rfl ?_
    refine g_i2l C dL_law_704 rfl ?_
    refine g_lcmp C (z := 0) dL_law_705 (by rw [hc3 hk]; exact lcmp_same _) ?_
    refine g_if_eq C (tgt := 711) dL_law_706 (by decide) (by decide) (fun _ => ?_) (fun hq => absurd rfl hq)
    refine g_goto C (tgt := 1368) dL_law_711 (by decide) ?_
    obtain ⟨h', f', g', N', M', P', he, hw, hR'⟩ := hN
    refine g_ws (ws' := mW D h2 F' G' ++ ((qo, oC D o') :: bW D h' f' g' N' M' P')) (congrArg (fun w9 => mW D h2 F' G' ++ ((qo, oC D o') :: w9)) hw) ?_
    refine g_lv [0, 1, 2, 3, 4] rfl ?_
    refine g_widen (k := 200 + 900 * (t + 1)) (n := 140000 + 5100 * (t + 1)) (by omega) (by omega) ?_
    exact K h' f' g' N' M' P' F' G' o' he hR'
set_option maxHeartbeats 4000000 in
set_option maxRecDepth 100000 in
theorem lc_10 {p : Program} {l : Launch} {e : Env} {s : State} {m : MethodId} {below : List Frame} {meth : Method} {c : Code} {D : va_G} {A : Nat → Prop} {b L : Nat} {xs : Nat → Int32} {t : Nat} {h : Nat → Nat} {f : Nat → Int} {g : Nat → Int → Int} {N : Nat → Nat} {M : Nat → Nat → Nat} {P : List PR} {h2 : Nat → Nat} {F : Nat → Int} {G : Nat → Int → Int} {qo : Nat} {o : Nat → Int64} (C : CX p l s m #[.ref b] meth c RX0 code 7 ret D A) (hX : va_X b L xs s s.heap) (hbl : b < s.heap.size) (hbA : ¬ A b) (hL : L ≤ 384) (ht : 6 * t + 6 ≤ L) (hR : RL D f g N M P F G) (K : KK p l e s m b below meth c D A t h h2 qo) : GO p l e room_1 s m #[.ref b] below meth c 7 D A A (200 + 900 * t) (140000 + 5100 * t) (lw_Z below #[.ref b] s) (mW D h2 F G ++ ((qo, oC D o) :: bW D h f g N M P)) 714 [(0, .ref b), (1, .ref (h 0)), (2, .ref (h2 36)), (3, .ref qo), (4, .int (iI (6 * (t : Int))))] [] := by
  obtain ⟨hF, hS, ht2, hkd, hth, hht, hri, htp, h7, hN7, hnp, hN6, hpt, hPL, hkc, hkb, hv, hPS⟩ := id hR.1
  obtain ⟨mF, mS, mkd, mth, mht, mri, mtp, mpl, mnp, mpt, mtv, mkm, mpx⟩ := hR.m
  have ht2' : t ≤ 63 := by omega
  refine g_aload_n C dL_law_714 rfl 1 rfl ?_
  refine g_callVR C (c_X1_fault l D C.hl h f g N M (ptW (M 6) (g 24) (g 25) (g 26) (g 27) (f 6) ++ plW D P)) (As := []) (n := 0) (lw_V q595 q596 q597 q48 q598) (by decide +kernel) rfl rfl ⟨Nat.le_of_ble_eq_true rfl, Nat.le_of_ble_eq_true rfl⟩ (rcv C 25 (ci := 1) rfl rfl rfl) rfl rfl (Nat.le_of_ble_eq_true rfl) ⟨(by show 200 + 900 * t + 0 ≤ 601024; omega), (by show 140000 + 5100 * t + 0 ≤ 7293034; omega)⟩ dL_law_715 (Sb.tr Sb.rt (Sb.rt (a := [(qo, oC D o)]))) exT_b hex_t (fun v w hp => ?_) kx_n
  obtain ⟨z, rfl, hd⟩ := hp
  refine g_aload_n C dL_law_718 rfl 2 rfl ?_
  refine g_callVU C (c_X3_fault l D C.hl h2 F G) (As := []) (n := 0) (lw_V q1208 q1209 q1210 q69 q1211) (by decide +kernel) rfl rfl ⟨Nat.le_of_ble_eq_true rfl, Nat.le_of_ble_eq_true rfl⟩ (rcv C 0 (ci := 0) rfl rfl rfl) rfl rfl (Nat.le_of_ble_eq_true rfl) ⟨(by show 200 + 900 * t + 0 + 0 ≤ 601024; omega), (by show 140000 + 5100 * t + 0 + 0 ≤ 7293034; omega)⟩ dL_law_719 (wr := ((qo, oC D o) :: (bW D h f g N M P))) Sb.comm exT_b hex_t (fun v w hp => ?_) kx_nu
  obtain ⟨zb, rfl, hzb, rfl⟩ := hp
  obtain ⟨F', hF'⟩ : ∃ F', F' = up F 1 0 := ⟨_, rfl⟩
  obtain ⟨G', hG'⟩ : ∃ G', G' = G := ⟨_, rfl⟩
  refine g_sb (ws' := mW D h2 F' G' ++ ((qo, oC D o) :: (bW D h f g N M P))) (by rw [hF', hG']; exact Sb.comm) ?_
  have hm : zb = F 6 ∧ F' = up F 1 0 ∧ G' = G := ⟨hzb, hF', hG'⟩
  obtain ⟨hzz, hN⟩ := L_fault (h := h) hR hd hm
  refine g_icmp_same C (tgt := 1368) hzz dL_law_722 (by decide) ?_
  obtain ⟨h', f', g', N', M', P', he, hw, hR'⟩ := hN
  refine g_ws (ws' := mW D h2 F' G' ++ ((qo, oC D o) :: bW D h' f' g' N' M' P')) (congrArg (fun w9 => mW D h2 F' G' ++ ((qo, oC D o) :: w9)) hw) ?_
  refine g_widen (k := 200 + 900 * (t + 1)) (n := 140000 + 5100 * (t + 1)) (by omega) (by omega) ?_
  exact K h' f' g' N' M' P' F' G' o he hR'
set_option maxHeartbeats 4000000 in
set_option maxRecDepth 100000 in
theorem lc_11 {p : Program} {l : Launch} {e : Env} {s : State} {m : MethodId} {below : List Frame} {meth : Method} {c : Code} {D : va_G} {A : Nat → Prop} {b L : Nat} {xs : Nat → Int32} {t : Nat} {h : Nat → Nat} {f : Nat → Int} {g : Nat → Int → Int} {N : Nat → Nat} {M : Nat → Nat → Nat} {P : List PR} {h2 : Nat → Nat} {F : Nat → Int} {G : Nat → Int → Int} {qo : Nat} {o : Nat → Int64} (C : CX p l s m #[.ref b] meth c RX0 code 7 ret D A) (hX : va_X b L xs s s.heap) (hbl : b < s.heap.size) (hbA : ¬ A b) (hL : L ≤ 384) (ht : 6 * t + 6 ≤ L) (hR : RL D f g N M P F G) (K : KK p l e s m b below meth c D A t h h2 qo) : GO p l e room_1 s m #[.ref b] below meth c 7 D A A (200 + 900 * t) (140000 + 5100 * t) (lw_Z below #[.ref b] s) (mW D h2 F G ++ ((qo, oC D o) :: bW D h f g N M P)) 727 [(0, .ref b), (1, .ref (h 0)), (2, .ref (h2 36)), (3, .ref qo), (4, .int (iI (6 * (t : Int))))] [] := by
  obtain ⟨hF, hS, ht2, hkd, hth, hht, hri, htp, h7, hN7, hnp, hN6, hpt, hPL, hkc, hkb, hv, hPS⟩ := id hR.1
  obtain ⟨mF, mS, mkd, mth, mht, mri, mtp, mpl, mnp, mpt, mtv, mkm, mpx⟩ := hR.m
  have ht2' : t ≤ 63 := by omega
  refine g_aload_n C dL_law_727 rfl 1 rfl ?_
  refine g_aload_n C dL_law_728 rfl 0 rfl ?_
  refine g_iload C dL_law_729 4 rfl ?_
  refine g_iconst C dL_law_731 ?_
  refine g_iadd C dL_law_732 ?_
  refine g_sld C hX hbl hbA hL (by omega) dL_law_733 ?_
  refine g_aload_n C dL_law_734 rfl 0 rfl ?_
  refine g_iload C dL_law_735 4 rfl ?_
  refine g_iconst C dL_law_737 ?_
  refine g_iadd C dL_law_738 ?_
  refine g_sld C hX hbl hbA hL (by omega) dL_law_739 ?_
  refine g_aload_n C dL_law_740 rfl 3 rfl ?_
  refine g_callSUH C (c_X0_about l D C.hl h f g N M P (sq xs ((6 * (t : Int)) + 1)) (sq xs ((6 * (t : Int)) + 2)) hF hS hnp hN6 hpt (by omega) hPS (sq_rg _ _) (sq_rg _ _) qo o) (As := [.ref (h 0), .int (iI (sq xs ((6 * (t : Int)) + 1))), .int (iI (sq xs ((6 * (t : Int)) + 2))), .ref qo]) (n := 4) (lw_SW q867 q868 q47 q869) (by decide +kernel) rfl rfl ⟨Nat.le_of_ble_eq_true rfl, Nat.le_of_ble_eq_true rfl⟩ rfl rfl (Nat.le_of_ble_eq_true rfl) ⟨(by show 200 + 900 * t + 2 ≤ 601024; omega), (by show 140000 + 5100 * t + 12 ≤ 7293034; omega)⟩ dL_law_741 (wr := mW D h2 F G) Sb.rf exT_b hex_t (fun v w hp => ?_) kx_nu
  obtain ⟨k_, rfl, z, o', hd, rfl⟩ := hp
  refine g_istore C dL_law_744 (lv' := [(0, .ref b), (1, .ref (h 0)), (2, .ref (h2 36)), (3, .ref qo), (4, .int (iI (6 * (t : Int)))), (5, .int (iI k_))]) [1, 2, 3, 4, 5, 0] rfl (Nat.le_of_ble_eq_true rfl) ?_
  refine g_aload_n C dL_law_746 rfl 2 rfl ?_
  refine g_aload_n C dL_law_747 rfl 0 rfl ?_
  refine g_iload C dL_law_748 4 rfl ?_
  refine g_iconst C dL_law_750 ?_
  refine g_iadd C dL_law_751 ?_
  refine g_sld C hX hbl hbA hL (by omega) dL_law_752 ?_
  refine g_aload_n C dL_law_753 rfl 0 rfl ?_
  refine g_iload C dL_law_754 4 rfl ?_
  refine g_iconst C dL_law_756 ?_
  refine g_iadd C dL_law_757 ?_
  refine g_sld C hX hbl hbA hL (by omega) dL_law_758 ?_
  refine g_callVU C (c_X3_about l D C.hl h2 F G (sq xs ((6 * (t : Int)) + 1)) (sq xs ((6 * (t : Int)) + 2)) mF mS mkd mth mht mnp mpt mpl (PLs_m hR) (sq_rg _ _) (sq_rg _ _)) (As := [.int (iI (sq xs ((6 * (t : Int)) + 1))), .int (iI (sq xs ((6 * (t : Int)) + 2)))]) (n := 2) (lw_V q1212 q1213 q1214 q69 q1215) (by decide +kernel) rfl rfl ⟨Nat.le_of_ble_eq_true rfl, Nat.le_of_ble_eq_true rfl⟩ (rcv C 0 (ci := 0) rfl rfl rfl) rfl rfl (Nat.le_of_ble_eq_true rfl) ⟨(by show 200 + 900 * t + 2 + 0 ≤ 601024; omega), (by show 140000 + 5100 * t + 12 + 0 ≤ 7293034; omega)⟩ dL_law_759 (wr := ((qo, oC D o') :: (bW D h f g N M P))) Sb.comm exT_b hex_t (fun v w hp => ?_) kx_nu
  obtain ⟨zb, rfl, F', G', hm, rfl⟩ := hp
  refine g_sb (ws' := mW D h2 F' G' ++ ((qo, oC D o') :: (bW D h f g N M P))) Sb.comm ?_
  obtain ⟨⟨hc1, hc2, hc3⟩, hN⟩ := L_about (h := h) hR hd hm
  refine g_istore C dL_law_762 (lv' := [(0, .ref b), (1, .ref (h 0)), (2, .ref (h2 36)), (3, .ref qo), (4, .int (iI (6 * (t : Int)))), (5, .int (iI k_)), (6, .int (iI zb))]) [1, 2, 3, 4, 5, 6, 0] rfl (Nat.le_of_ble_eq_true rfl) ?_
  refine g_aload_n C dL_law_764 rfl 2 rfl ?_
  refine g_callVR C (c_X3_thrown l D C.hl h2 F' G') (As := []) (n := 0) (lw_V q1106 q1107 q1108 q69 q1109) (by decide +kernel) rfl rfl ⟨Nat.le_of_ble_eq_true rfl, Nat.le_of_ble_eq_true rfl⟩ (rcv C 0 (ci := 0) rfl rfl rfl) rfl rfl (Nat.le_of_ble_eq_true rfl) ⟨(by show 200 + 900 * t + 2 + 0 ≤ 601024; omega), (by show 140000 + 5100 * t + 12 + 0 ≤ 7293034; omega)⟩ dL_law_765 Sb.lt exT_b hex_t (fun v w hp => ?_) kx_n
  obtain ⟨z9, rfl, rfl⟩ := hp
  refine g_iload C dL_law_768 5 rfl ?_
  refine g_icmp_same C (tgt := 775) hc1 dL_law_770 (by decide) ?_
  refine g_iload C dL_law_775 5 rfl ?_
  refine g_if_ne C (tgt := 792) dL_law_777 (by decide) (by omega) (fun hk => ?_) (fun hk => ?_)
  ·
    refine g_goto C (tgt := 1368) dL_law_792 (by decide) ?_
    obtain ⟨h', f', g', N', M', P', he, hw, hR'⟩ := hN
    refine g_ws (ws' := mW D h2 F' G' ++ ((qo, oC D o') :: bW D h' f' g' N' M' P')) (congrArg (fun w9 => mW D h2 F' G' ++ ((qo, oC D o') :: w9)) hw) ?_
    refine g_lv [0, 1, 2, 3, 4] rfl ?_
    refine g_widen (k := 200 + 900 * (t + 1)) (n := 140000 + 5100 * (t + 1)) (by omega) (by omega) ?_
    exact K h' f' g' N' M' P' F' G' o' he hR'
  ·
    refine g_aload_n C dL_law_780 rfl 3 rfl ?_
    refine g_iconst C dL_law_781 ?_
    refine g_lald C 24 (v := o' 0) rfl (by omega) (by decide) rfl dL_law_782 ?_
    refine g_iload C dL_law_783 6 rfl ?_
    refine g_i2l C dL_law_785 rfl ?_
    refine g_lcmp C (z := 0) dL_law_786 (by rw [hc3 hk]; exact lcmp_same _) ?_
    refine g_if_eq C (tgt := 792) dL_law_787 (by decide) (by decide) (fun _ => ?_) (fun hq => absurd rfl hq)
    refine g_goto C (tgt := 1368) dL_law_792 (by decide) ?_
    obtain ⟨h', f', g', N', M', P', he, hw, hR'⟩ := hN
    refine g_ws (ws' := mW D h2 F' G' ++ ((qo, oC D o') :: bW D h' f' g' N' M' P')) (congrArg (fun w9 => mW D h2 F' G' ++ ((qo, oC D o') :: w9)) hw) ?_
    refine g_lv [0, 1, 2, 3, 4] rfl ?_
    refine g_widen (k := 200 + 900 * (t + 1)) (n := 140000 + 5100 * (t + 1)) (by omega) (by omega) ?_
    exact K h' f' g' N' M' P' F' G' o' he hR'
set_option maxHeartbeats 4000000 in
set_option maxRecDepth 100000 in
theorem lc_12 {p : Program} {l : Launch} {e : Env} {s : State} {m : MethodId} {below : List Frame} {meth : Method} {c : Code} {D : va_G} {A : Nat → Prop} {b L : Nat} {xs : Nat → Int32} {t : Nat} {h : Nat → Nat} {f : Nat → Int} {g : Nat → Int → Int} {N : Nat → Nat} {M : Nat → Nat → Nat} {P : List PR} {h2 : Nat → Nat} {F : Nat → Int} {G : Nat → Int → Int} {qo : Nat} {o : Nat → Int64} (C : CX p l s m #[.ref b] meth c RX0 code 7 ret D A) (hX : va_X b L xs s s.heap) (hbl : b < s.heap.size) (hbA : ¬ A b) (hL : L ≤ 384) (ht : 6 * t + 6 ≤ L) (hR : RL D f g N M P F G) (K : KK p l e s m b below meth c D A t h h2 qo) : GO p l e room_1 s m #[.ref b] below meth c 7 D A A (200 + 900 * t) (140000 + 5100 * t) (lw_Z below #[.ref b] s) (mW D h2 F G ++ ((qo, oC D o) :: bW D h f g N M P)) 795 [(0, .ref b), (1, .ref (h 0)), (2, .ref (h2 36)), (3, .ref qo), (4, .int (iI (6 * (t : Int))))] [] := by
  obtain ⟨hF, hS, ht2, hkd, hth, hht, hri, htp, h7, hN7, hnp, hN6, hpt, hPL, hkc, hkb, hv, hPS⟩ := id hR.1
  obtain ⟨mF, mS, mkd, mth, mht, mri, mtp, mpl, mnp, mpt, mtv, mkm, mpx⟩ := hR.m
  have ht2' : t ≤ 63 := by omega
  refine g_aload_n C dL_law_795 rfl 1 rfl ?_
  refine g_aload_n C dL_law_796 rfl 0 rfl ?_
  refine g_iload C dL_law_797 4 rfl ?_
  refine g_iconst C dL_law_799 ?_
  refine g_iadd C dL_law_800 ?_
  refine g_sld C hX hbl hbA hL (by omega) dL_law_801 ?_
  refine g_aload_n C dL_law_802 rfl 0 rfl ?_
  refine g_iload C dL_law_803 4 rfl ?_
  refine g_iconst C dL_law_805 ?_
  refine g_iadd C dL_law_806 ?_
  refine g_sld C hX hbl hbA hL (by omega) dL_law_807 ?_
  refine g_aload_n C dL_law_808 rfl 3 rfl ?_
  refine g_callSUH C (c_X0_along l D C.hl h f g N M P (sq xs ((6 * (t : Int)) + 1)) (sq xs ((6 * (t : Int)) + 2)) hF hS hnp hN6 hpt (by omega) hPS (sq_rg _ _) (sq_rg _ _) qo o) (As := [.ref (h 0), .int (iI (sq xs ((6 * (t : Int)) + 1))), .int (iI (sq xs ((6 * (t : Int)) + 2))), .ref qo]) (n := 4) (lw_SW q903 q904 q47 q905) (by decide +kernel) rfl rfl ⟨Nat.le_of_ble_eq_true rfl, Nat.le_of_ble_eq_true rfl⟩ rfl rfl (Nat.le_of_ble_eq_true rfl) ⟨(by show 200 + 900 * t + 2 ≤ 601024; omega), (by show 140000 + 5100 * t + 12 ≤ 7293034; omega)⟩ dL_law_809 (wr := mW D h2 F G) Sb.rf exT_b hex_t (fun v w hp => ?_) kx_nu
  obtain ⟨k_, rfl, z, o', hd, rfl⟩ := hp
  refine g_istore C dL_law_812 (lv' := [(0, .ref b), (1, .ref (h 0)), (2, .ref (h2 36)), (3, .ref qo), (4, .int (iI (6 * (t : Int)))), (5, .int (iI k_))]) [1, 2, 3, 4, 5, 0] rfl (Nat.le_of_ble_eq_true rfl) ?_
  refine g_aload_n C dL_law_814 rfl 2 rfl ?_
  refine g_aload_n C dL_law_815 rfl 0 rfl ?_
  refine g_iload C dL_law_816 4 rfl ?_
  refine g_iconst C dL_law_818 ?_
  refine g_iadd C dL_law_819 ?_
  refine g_sld C hX hbl hbA hL (by omega) dL_law_820 ?_
  refine g_aload_n C dL_law_821 rfl 0 rfl ?_
  refine g_iload C dL_law_822 4 rfl ?_
  refine g_iconst C dL_law_824 ?_
  refine g_iadd C dL_law_825 ?_
  refine g_sld C hX hbl hbA hL (by omega) dL_law_826 ?_
  refine g_callVU C (c_X3_along l D C.hl h2 F G (sq xs ((6 * (t : Int)) + 1)) (sq xs ((6 * (t : Int)) + 2)) mF mS mkd mth mht mnp mpt mpl (PLs_m hR) (sq_rg _ _) (sq_rg _ _)) (As := [.int (iI (sq xs ((6 * (t : Int)) + 1))), .int (iI (sq xs ((6 * (t : Int)) + 2)))]) (n := 2) (lw_V q1240 q1241 q1242 q69 q1243) (by decide +kernel) rfl rfl ⟨Nat.le_of_ble_eq_true rfl, Nat.le_of_ble_eq_true rfl⟩ (rcv C 0 (ci := 0) rfl rfl rfl) rfl rfl (Nat.le_of_ble_eq_true rfl) ⟨(by show 200 + 900 * t + 2 + 0 ≤ 601024; omega), (by show 140000 + 5100 * t + 12 + 0 ≤ 7293034; omega)⟩ dL_law_827 (wr := ((qo, oC D o') :: (bW D h f g N M P))) Sb.comm exT_b hex_t (fun v w hp => ?_) kx_nu
  obtain ⟨zb, rfl, F', G', hm, rfl⟩ := hp
  refine g_sb (ws' := mW D h2 F' G' ++ ((qo, oC D o') :: (bW D h f g N M P))) Sb.comm ?_
  obtain ⟨⟨hc1, hc2, hc3⟩, hN⟩ := L_along (h := h) hR hd hm
  refine g_istore C dL_law_830 (lv' := [(0, .ref b), (1, .ref (h 0)), (2, .ref (h2 36)), (3, .ref qo), (4, .int (iI (6 * (t : Int)))), (5, .int (iI k_)), (6, .int (iI zb))]) [1, 2, 3, 4, 5, 6, 0] rfl (Nat.le_of_ble_eq_true rfl) ?_
  refine g_aload_n C dL_law_832 rfl 2 rfl ?_
  refine g_callVR C (c_X3_thrown l D C.hl h2 F' G') (As := []) (n := 0) (lw_V q1106 q1107 q1108 q69 q1109) (by decide +kernel) rfl rfl ⟨Nat.le_of_ble_eq_true rfl, Nat.le_of_ble_eq_true rfl⟩ (rcv C 0 (ci := 0) rfl rfl rfl) rfl rfl (Nat.le_of_ble_eq_true rfl) ⟨(by show 200 + 900 * t + 2 + 0 ≤ 601024; omega), (by show 140000 + 5100 * t + 12 + 0 ≤ 7293034; omega)⟩ dL_law_833 Sb.lt exT_b hex_t (fun v w hp => ?_) kx_n
  obtain ⟨z9, rfl, rfl⟩ := hp
  refine g_iload C dL_law_836 5 rfl ?_
  refine g_icmp_same C (tgt := 843) hc1 dL_law_838 (by decide) ?_
  refine g_iload C dL_law_843 5 rfl ?_
  refine g_if_ne C (tgt := 860) dL_law_845 (by decide) (by omega) (fun hk => ?_) (fun hk => ?_)
  ·
    refine g_goto C (tgt := 1368) dL_law_860 (by decide) ?_
    obtain ⟨h', f', g', N', M', P', he, hw, hR'⟩ := hN
    refine g_ws (ws' := mW D h2 F' G' ++ ((qo, oC D o') :: bW D h' f' g' N' M' P')) (congrArg (fun w9 => mW D h2 F' G' ++ ((qo, oC D o') :: w9)) hw) ?_
    refine g_lv [0, 1, 2, 3, 4] rfl ?_
    refine g_widen (k := 200 + 900 * (t + 1)) (n := 140000 + 5100 * (t + 1)) (by omega) (by omega) ?_
    exact K h' f' g' N' M' P' F' G' o' he hR'
  ·
    refine g_aload_n C dL_law_848 rfl 3 rfl ?_
    refine g_iconst C dL_law_849 ?_
    refine g_lald C 24 (v := o' 0) rfl (by omega) (by decide) rfl dL_law_850 ?_
    refine g_iload C dL_law_851 6 rfl ?_
    refine g_i2l C dL_law_853 rfl ?_
    refine g_lcmp C (z := 0) dL_law_854 (by rw [hc3 hk]; exact lcmp_same _) ?_
    refine g_if_eq C (tgt := 860) dL_law_855 (by decide) (by decide) (fun _ => ?_) (fun hq => absurd rfl hq)
    refine g_goto C (tgt := 1368) dL_law_860 (by decide) ?_
    obtain ⟨h', f', g', N', M', P', he, hw, hR'⟩ := hN
    refine g_ws (ws' := mW D h2 F' G' ++ ((qo, oC D o') :: bW D h' f' g' N' M' P')) (congrArg (fun w9 => mW D h2 F' G' ++ ((qo, oC D o') :: w9)) hw) ?_
    refine g_lv [0, 1, 2, 3, 4] rfl ?_
    refine g_widen (k := 200 + 900 * (t + 1)) (n := 140000 + 5100 * (t + 1)) (by omega) (by omega) ?_
    exact K h' f' g' N' M' P' F' G' o' he hR'
set_option maxHeartbeats 4000000 in
set_option maxRecDepth 100000 in
theorem lc_13 {p : Program} {l : Launch} {e : Env} {s : State} {m : MethodId} {below : List Frame} {meth : Method} {c : Code} {D : va_G} {A : Nat → Prop} {b L : Nat} {xs : Nat → Int32} {t : Nat} {h : Nat → Nat} {f : Nat → Int} {g : Nat → Int → Int} {N : Nat → Nat} {M : Nat → Nat → Nat} {P : List PR} {h2 : Nat → Nat} {F : Nat → Int} {G : Nat → Int → Int} {qo : Nat} {o : Nat → Int64} (C : CX p l s m #[.ref b] meth c RX0 code 7 ret D A) (hX : va_X b L xs s s.heap) (hbl : b < s.heap.size) (hbA : ¬ A b) (hL : L ≤ 384) (ht : 6 * t + 6 ≤ L) (hR : RL D f g N M P F G) (K : KK p l e s m b below meth c D A t h h2 qo) : GO p l e room_1 s m #[.ref b] below meth c 7 D A A (200 + 900 * t) (140000 + 5100 * t) (lw_Z below #[.ref b] s) (mW D h2 F G ++ ((qo, oC D o) :: bW D h f g N M P)) 863 [(0, .ref b), (1, .ref (h 0)), (2, .ref (h2 36)), (3, .ref qo), (4, .int (iI (6 * (t : Int))))] [] := by
  obtain ⟨hF, hS, ht2, hkd, hth, hht, hri, htp, h7, hN7, hnp, hN6, hpt, hPL, hkc, hkb, hv, hPS⟩ := id hR.1
  obtain ⟨mF, mS, mkd, mth, mht, mri, mtp, mpl, mnp, mpt, mtv, mkm, mpx⟩ := hR.m
  have ht2' : t ≤ 63 := by omega
  refine g_aload_n C dL_law_863 rfl 1 rfl ?_
  refine g_aload_n C dL_law_864 rfl 0 rfl ?_
  refine g_iload C dL_law_865 4 rfl ?_
  refine g_iconst C dL_law_867 ?_
  refine g_iadd C dL_law_868 ?_
  refine g_sld C hX hbl hbA hL (by omega) dL_law_869 ?_
  refine g_aload_n C dL_law_870 rfl 0 rfl ?_
  refine g_iload C dL_law_871 4 rfl ?_
  refine g_iconst C dL_law_873 ?_
  refine g_iadd C dL_law_874 ?_
  refine g_sld C hX hbl hbA hL (by omega) dL_law_875 ?_
  refine g_aload_n C dL_law_876 rfl 0 rfl ?_
  refine g_iload C dL_law_877 4 rfl ?_
  refine g_iconst C dL_law_879 ?_
  refine g_iadd C dL_law_880 ?_
  refine g_sld C hX hbl hbA hL (by omega) dL_law_881 ?_
  refine g_aload_n C dL_law_882 rfl 3 rfl ?_
  refine g_callSUH C (c_X0_holes l D C.hl h f g N M P (sq xs ((6 * (t : Int)) + 1)) (sq xs ((6 * (t : Int)) + 2)) (sq xs ((6 * (t : Int)) + 3)) hF hS (by omega) hPS (sq_rg _ _) (sq_rg _ _) (sq_rg _ _) qo o) (As := [.ref (h 0), .int (iI (sq xs ((6 * (t : Int)) + 1))), .int (iI (sq xs ((6 * (t : Int)) + 2))), .int (iI (sq xs ((6 * (t : Int)) + 3))), .ref qo]) (n := 5) (lw_SW q910 q911 q47 q912) (by decide +kernel) rfl rfl ⟨Nat.le_of_ble_eq_true rfl, Nat.le_of_ble_eq_true rfl⟩ rfl rfl (Nat.le_of_ble_eq_true rfl) ⟨(by show 200 + 900 * t + 3 ≤ 601024; omega), (by show 140000 + 5100 * t + 18 ≤ 7293034; omega)⟩ dL_law_883 (wr := mW D h2 F G) Sb.rf exT_b hex_t (fun v w hp => ?_) kx_nu
  obtain ⟨k_, rfl, z, o', hd, rfl⟩ := hp
  refine g_istore C dL_law_886 (lv' := [(0, .ref b), (1, .ref (h 0)), (2, .ref (h2 36)), (3, .ref qo), (4, .int (iI (6 * (t : Int)))), (5, .int (iI k_))]) [1, 2, 3, 4, 5, 0] rfl (Nat.le_of_ble_eq_true rfl) ?_
  refine g_aload_n C dL_law_888 rfl 2 rfl ?_
  refine g_aload_n C dL_law_889 rfl 0 rfl ?_
  refine g_iload C dL_law_890 4 rfl ?_
  refine g_iconst C dL_law_892 ?_
  refine g_iadd C dL_law_893 ?_
  refine g_sld C hX hbl hbA hL (by omega) dL_law_894 ?_
  refine g_aload_n C dL_law_895 rfl 0 rfl ?_
  refine g_iload C dL_law_896 4 rfl ?_
  refine g_iconst C dL_law_898 ?_
  refine g_iadd C dL_law_899 ?_
  refine g_sld C hX hbl hbA hL (by omega) dL_law_900 ?_
  refine g_aload_n C dL_law_901 rfl 0 rfl ?_
  refine g_iload C dL_law_902 4 rfl ?_
  refine g_iconst C dL_law_904 ?_
  refine g_iadd C dL_law_905 ?_
  refine g_sld C hX hbl hbA hL (by omega) dL_law_906 ?_
  refine g_callVU C (c_X3_holes l D C.hl h2 F G (sq xs ((6 * (t : Int)) + 1)) (sq xs ((6 * (t : Int)) + 2)) (sq xs ((6 * (t : Int)) + 3)) mF mS mkd mth mht mnp mpt mpl (PLs_m hR) (sq_rg _ _) (sq_rg _ _) (sq_rg _ _)) (As := [.int (iI (sq xs ((6 * (t : Int)) + 1))), .int (iI (sq xs ((6 * (t : Int)) + 2))), .int (iI (sq xs ((6 * (t : Int)) + 3)))]) (n := 3) (lw_V q1244 q1245 q1246 q69 q1247) (by decide +kernel) rfl rfl ⟨Nat.le_of_ble_eq_true rfl, Nat.le_of_ble_eq_true rfl⟩ (rcv C 0 (ci := 0) rfl rfl rfl) rfl rfl (Nat.le_of_ble_eq_true rfl) ⟨(by show 200 + 900 * t + 3 + 0 ≤ 601024; omega), (by show 140000 + 5100 * t + 18 + 0 ≤ 7293034; omega)⟩ dL_law_907 (wr := ((qo, oC D o') :: (bW D h f g N M P))) Sb.comm exT_b hex_t (fun v w hp => ?_) kx_nu
  obtain ⟨zb, rfl, F', G', hm, rfl⟩ := hp
  refine g_sb (ws' := mW D h2 F' G' ++ ((qo, oC D o') :: (bW D h f g N M P))) Sb.comm ?_
  obtain ⟨⟨hc1, hc2, hc3⟩, hN⟩ := L_holes (h := h) hR hd hm
  refine g_istore C dL_law_910 (lv' := [(0, .ref b), (1, .ref (h 0)), (2, .ref (h2 36)), (3, .ref qo), (4, .int (iI (6 * (t : Int)))), (5, .int (iI k_)), (6, .int (iI zb))]) [1, 2, 3, 4, 5, 6, 0] rfl (Nat.le_of_ble_eq_true rfl) ?_
  refine g_aload_n C dL_law_912 rfl 2 rfl ?_
  refine g_callVR C (c_X3_thrown l D C.hl h2 F' G') (As := []) (n := 0) (lw_V q1106 q1107 q1108 q69 q1109) (by decide +kernel) rfl rfl ⟨Nat.le_of_ble_eq_true rfl, Nat.le_of_ble_eq_true rfl⟩ (rcv C 0 (ci := 0) rfl rfl rfl) rfl rfl (Nat.le_of_ble_eq_true rfl) ⟨(by show 200 + 900 * t + 3 + 0 ≤ 601024; omega), (by show 140000 + 5100 * t + 18 + 0 ≤ 7293034; omega)⟩ dL_law_913 Sb.lt exT_b hex_t (fun v w hp => ?_) kx_n
  obtain ⟨z9, rfl, rfl⟩ := hp
  refine g_iload C dL_law_916 5 rfl ?_
  refine g_icmp_same C (tgt := 923) hc1 dL_law_918 (by decide) ?_
  refine g_iload C dL_law_923 5 rfl ?_
  refine g_if_ne C (tgt := 940) dL_law_925 (by decide) (by omega) (fun hk => ?_) (fun hk => ?_)
  ·
    refine g_goto C (tgt := 1368) dL_law_940 (by decide) ?_
    obtain ⟨h', f', g', N', M', P', he, hw, hR'⟩ := hN
    refine g_ws (ws' := mW D h2 F' G' ++ ((qo, oC D o') :: bW D h' f' g' N' M' P')) (congrArg (fun w9 => mW D h2 F' G' ++ ((qo, oC D o') :: w9)) hw) ?_
    refine g_lv [0, 1, 2, 3, 4] rfl ?_
    refine g_widen (k := 200 + 900 * (t + 1)) (n := 140000 + 5100 * (t + 1)) (by omega) (by omega) ?_
    exact K h' f' g' N' M' P' F' G' o' he hR'
  ·
    refine g_aload_n C dL_law_928 rfl 3 rfl ?_
    refine g_iconst C dL_law_929 ?_
    refine g_lald C 24 (v := o' 0) rfl (by omega) (by decide) rfl dL_law_930 ?_
    refine g_iload C dL_law_931 6 rfl ?_
    refine g_i2l C dL_law_933 rfl ?_
    refine g_lcmp C (z := 0) dL_law_934 (by rw [hc3 hk]; exact lcmp_same _) ?_
    refine g_if_eq C (tgt := 940) dL_law_935 (by decide) (by decide) (fun _ => ?_) (fun hq => absurd rfl hq)
    refine g_goto C (tgt := 1368) dL_law_940 (by decide) ?_
    obtain ⟨h', f', g', N', M', P', he, hw, hR'⟩ := hN
    refine g_ws (ws' := mW D h2 F' G' ++ ((qo, oC D o') :: bW D h' f' g' N' M' P')) (congrArg (fun w9 => mW D h2 F' G' ++ ((qo, oC D o') :: w9)) hw) ?_
    refine g_lv [0, 1, 2, 3, 4] rfl ?_
    refine g_widen (k := 200 + 900 * (t + 1)) (n := 140000 + 5100 * (t + 1)) (by omega) (by omega) ?_
    exact K h' f' g' N' M' P' F' G' o' he hR'
set_option maxHeartbeats 4000000 in
set_option maxRecDepth 100000 in
theorem lc_14 {p : Program} {l : Launch} {e : Env} {s : State} {m : MethodId} {below : List Frame} {meth : Method} {c : Code} {D : va_G} {A : Nat → Prop} {b L : Nat} {xs : Nat → Int32} {t : Nat} {h : Nat → Nat} {f : Nat → Int} {g : Nat → Int → Int} {N : Nat → Nat} {M : Nat → Nat → Nat} {P : List PR} {h2 : Nat → Nat} {F : Nat → Int} {G : Nat → Int → Int} {qo : Nat} {o : Nat → Int64} (C : CX p l s m #[.ref b] meth c RX0 code 7 ret D A) (hX : va_X b L xs s s.heap) (hbl : b < s.heap.size) (hbA : ¬ A b) (hL : L ≤ 384) (ht : 6 * t + 6 ≤ L) (hR : RL D f g N M P F G) (K : KK p l e s m b below meth c D A t h h2 qo) : GO p l e room_1 s m #[.ref b] below meth c 7 D A A (200 + 900 * t) (140000 + 5100 * t) (lw_Z below #[.ref b] s) (mW D h2 F G ++ ((qo, oC D o) :: bW D h f g N M P)) 943 [(0, .ref b), (1, .ref (h 0)), (2, .ref (h2 36)), (3, .ref qo), (4, .int (iI (6 * (t : Int))))] [] := by
  obtain ⟨hF, hS, ht2, hkd, hth, hht, hri, htp, h7, hN7, hnp, hN6, hpt, hPL, hkc, hkb, hv, hPS⟩ := id hR.1
  obtain ⟨mF, mS, mkd, mth, mht, mri, mtp, mpl, mnp, mpt, mtv, mkm, mpx⟩ := hR.m
  have ht2' : t ≤ 63 := by omega
  refine g_aload_n C dL_law_943 rfl 1 rfl ?_
  refine g_aload_n C dL_law_944 rfl 0 rfl ?_
  refine g_iload C dL_law_945 4 rfl ?_
  refine g_iconst C dL_law_947 ?_
  refine g_iadd C dL_law_948 ?_
  refine g_sld C hX hbl hbA hL (by omega) dL_law_949 ?_
  refine g_aload_n C dL_law_950 rfl 0 rfl ?_
  refine g_iload C dL_law_951 4 rfl ?_
  refine g_iconst C dL_law_953 ?_
  refine g_iadd C dL_law_954 ?_
  refine g_sld C hX hbl hbA hL (by omega) dL_law_955 ?_
  refine g_aload_n C dL_law_956 rfl 3 rfl ?_
  refine g_callSUH C (c_X0_tied l D C.hl h f g N M P (sq xs ((6 * (t : Int)) + 1)) (sq xs ((6 * (t : Int)) + 2)) hF hS (by omega) hPS (sq_rg _ _) (sq_rg _ _) qo o) (As := [.ref (h 0), .int (iI (sq xs ((6 * (t : Int)) + 1))), .int (iI (sq xs ((6 * (t : Int)) + 2))), .ref qo]) (n := 4) (lw_SW q917 q918 q47 q919) (by decide +kernel) rfl rfl ⟨Nat.le_of_ble_eq_true rfl, Nat.le_of_ble_eq_true rfl⟩ rfl rfl (Nat.le_of_ble_eq_true rfl) ⟨(by show 200 + 900 * t + 2 ≤ 601024; omega), (by show 140000 + 5100 * t + 12 ≤ 7293034; omega)⟩ dL_law_957 (wr := mW D h2 F G) Sb.rf exT_b hex_t (fun v w hp => ?_) kx_nu
  obtain ⟨k_, rfl, z, o', hd, rfl⟩ := hp
  refine g_istore C dL_law_960 (lv' := [(0, .ref b), (1, .ref (h 0)), (2, .ref (h2 36)), (3, .ref qo), (4, .int (iI (6 * (t : Int)))), (5, .int (iI k_))]) [1, 2, 3, 4, 5, 0] rfl (Nat.le_of_ble_eq_true rfl) ?_
  refine g_aload_n C dL_law_962 rfl 2 rfl ?_
  refine g_aload_n C dL_law_963 rfl 0 rfl ?_
  refine g_iload C dL_law_964 4 rfl ?_
  refine g_iconst C dL_law_966 ?_
  refine g_iadd C dL_law_967 ?_
  refine g_sld C hX hbl hbA hL (by omega) dL_law_968 ?_
  refine g_aload_n C dL_law_969 rfl 0 rfl ?_
  refine g_iload C dL_law_970 4 rfl ?_
  refine g_iconst C dL_law_972 ?_
  refine g_iadd C dL_law_973 ?_
  refine g_sld C hX hbl hbA hL (by omega) dL_law_974 ?_
  refine g_callVU C (c_X3_tied l D C.hl h2 F G (sq xs ((6 * (t : Int)) + 1)) (sq xs ((6 * (t : Int)) + 2)) mF mS mkd mth mht mnp mpt mpl (PLs_m hR) (sq_rg _ _) (sq_rg _ _)) (As := [.int (iI (sq xs ((6 * (t : Int)) + 1))), .int (iI (sq xs ((6 * (t : Int)) + 2)))]) (n := 2) (lw_V q1248 q1249 q1250 q69 q1251) (by decide +kernel) rfl rfl ⟨Nat.le_of_ble_eq_true rfl, Nat.le_of_ble_eq_true rfl⟩ (rcv C 0 (ci := 0) rfl rfl rfl) rfl rfl (Nat.le_of_ble_eq_true rfl) ⟨(by show 200 + 900 * t + 2 + 0 ≤ 601024; omega), (by show 140000 + 5100 * t + 12 + 0 ≤ 7293034; omega)⟩ dL_law_975 (wr := ((qo, oC D o') :: (bW D h f g N M P))) Sb.comm exT_b hex_t (fun v w hp => ?_) kx_nu
  obtain ⟨zb, rfl, F', G', hm, rfl⟩ := hp
  refine g_sb (ws' := mW D h2 F' G' ++ ((qo, oC D o') :: (bW D h f g N M P))) Sb.comm ?_
  obtain ⟨⟨hc1, hc2, hc3⟩, hN⟩ := L_tied (h := h) hR hd hm
  refine g_istore C dL_law_978 (lv' := [(0, .ref b), (1, .ref (h 0)), (2, .ref (h2 36)), (3, .ref qo), (4, .int (iI (6 * (t : Int)))), (5, .int (iI k_)), (6, .int (iI zb))]) [1, 2, 3, 4, 5, 6, 0] rfl (Nat.le_of_ble_eq_true rfl) ?_
  refine g_aload_n C dL_law_980 rfl 2 rfl ?_
  refine g_callVR C (c_X3_thrown l D C.hl h2 F' G') (As := []) (n := 0) (lw_V q1106 q1107 q1108 q69 q1109) (by decide +kernel) rfl rfl ⟨Nat.le_of_ble_eq_true rfl, Nat.le_of_ble_eq_true rfl⟩ (rcv C 0 (ci := 0) rfl rfl rfl) rfl rfl (Nat.le_of_ble_eq_true rfl) ⟨(by show 200 + 900 * t + 2 + 0 ≤ 601024; omega), (by show 140000 + 5100 * t + 12 + 0 ≤ 7293034; omega)⟩ dL_law_981 Sb.lt exT_b hex_t (fun v w hp => ?_) kx_n
  obtain ⟨z9, rfl, rfl⟩ := hp
  refine g_iload C dL_law_984 5 rfl ?_
  refine g_icmp_same C (tgt := 991) hc1 dL_law_986 (by decide) ?_
  refine g_iload C dL_law_991 5 rfl ?_
  refine g_if_ne C (tgt := 1008) dL_law_993 (by decide) (by omega) (fun hk => ?_) (fun hk => ?_)
  ·
    refine g_goto C (tgt := 1368) dL_law_1008 (by decide) ?_
    obtain ⟨h', f', g', N', M', P', he, hw, hR'⟩ := hN
    refine g_ws (ws' := mW D h2 F' G' ++ ((qo, oC D o') :: bW D h' f' g' N' M' P')) (congrArg (fun w9 => mW D h2 F' G' ++ ((qo, oC D o') :: w9)) hw) ?_
    refine g_lv [0, 1, 2, 3, 4] rfl ?_
    refine g_widen (k := 200 + 900 * (t + 1)) (n := 140000 + 5100 * (t + 1)) (by omega) (by omega) ?_
    exact K h' f' g' N' M' P' F' G' o' he hR'
  ·
    refine g_aload_n C dL_law_996 rfl 3 rfl ?_
    refine g_iconst C dL_law_997 ?_
    refine g_lald C 24 (v := o' 0) rfl (by omega) (by decide) rfl dL_law_998 ?_
    refine g_iload C dL_law_999 6 rfl ?_
    refine g_i2l C dL_law_1001 rfl ?_
    refine g_lcmp C (z := 0) dL_law_1002 (by rw [hc3 hk]; exact lcmp_same _) ?_
    refine g_if_eq C (tgt := 1008) dL_law_1003 (by decide) (by decide) (fun _ => ?_) (fun hq => absurd rfl hq)
    refine g_goto C (tgt := 1368) dL_law_1008 (by decide) ?_
    obtain ⟨h', f', g', N', M', P', he, hw, hR'⟩ := hN
    refine g_ws (ws' := mW D h2 F' G' ++ ((qo, oC D o') :: bW D h' f' g' N' M' P')) (congrArg (fun w9 => mW D h2 F' G' ++ ((qo, oC D o') :: w9)) hw) ?_
    refine g_lv [0, 1, 2, 3, 4] rfl ?_
    refine g_widen (k := 200 + 900 * (t + 1)) (n := 140000 + 5100 * (t + 1)) (by omega) (by omega) ?_
    exact K h' f' g' N' M' P' F' G' o' he hR'
set_option maxHeartbeats 4000000 in
set_option maxRecDepth 100000 in
theorem lc_15 {p : Program} {l : Launch} {e : Env} {s : State} {m : MethodId} {below : List Frame} {meth : Method} {c : Code} {D : va_G} {A : Nat → Prop} {b L : Nat} {xs : Nat → Int32} {t : Nat} {h : Nat → Nat} {f : Nat → Int} {g : Nat → Int → Int} {N : Nat → Nat} {M : Nat → Nat → Nat} {P : List PR} {h2 : Nat → Nat} {F : Nat → Int} {G : Nat → Int → Int} {qo : Nat} {o : Nat → Int64} (C : CX p l s m #[.ref b] meth c RX0 code 7 ret D A) (hX : va_X b L xs s s.heap) (hbl : b < s.heap.size) (hbA : ¬ A b) (hL : L ≤ 384) (ht : 6 * t + 6 ≤ L) (hR : RL D f g N M P F G) (K : KK p l e s m b below meth c D A t h h2 qo) : GO p l e room_1 s m #[.ref b] below meth c 7 D A A (200 + 900 * t) (140000 + 5100 * t) (lw_Z below #[.ref b] s) (mW D h2 F G ++ ((qo, oC D o) :: bW D h f g N M P)) 1011 [(0, .ref b), (1, .ref (h 0)), (2, .ref (h2 36)), (3, .ref qo), (4, .int (iI (6 * (t : Int))))] [] := by
  obtain ⟨hF, hS, ht2, hkd, hth, hht, hri, htp, h7, hN7, hnp, hN6, hpt, hPL, hkc, hkb, hv, hPS⟩ := id hR.1
  obtain ⟨mF, mS, mkd, mth, mht, mri, mtp, mpl, mnp, mpt, mtv, mkm, mpx⟩ := hR.m
  have ht2' : t ≤ 63 := by omega
  refine g_aload_n C dL_law_1011 rfl 1 rfl ?_
  refine g_aload_n C dL_law_1012 rfl 0 rfl ?_
  refine g_iload C dL_law_1013 4 rfl ?_
  refine g_iconst C dL_law_1015 ?_
  refine g_iadd C dL_law_1016 ?_
  refine g_sld C hX hbl hbA hL (by omega) dL_law_1017 ?_
  refine g_aload_n C dL_law_1018 rfl 0 rfl ?_
  refine g_iload C dL_law_1019 4 rfl ?_
  refine g_iconst C dL_law_1021 ?_
  refine g_iadd C dL_law_1022 ?_
  refine g_sld C hX hbl hbA hL (by omega) dL_law_1023 ?_
  refine g_aload_n C dL_law_1024 rfl 3 rfl ?_
  refine g_callSUH C (c_X0_swells l D C.hl h f g N M P (sq xs ((6 * (t : Int)) + 1)) (sq xs ((6 * (t : Int)) + 2)) hF hS hnp hN6 hpt (by omega) hPS hth ht2 (sq_rg _ _) (sq_rg _ _) qo o) (As := [.ref (h 0), .int (iI (sq xs ((6 * (t : Int)) + 1))), .int (iI (sq xs ((6 * (t : Int)) + 2))), .ref qo]) (n := 4) (lw_SW q924 q925 q47 q926) (by decide +kernel) rfl rfl ⟨Nat.le_of_ble_eq_true rfl, Nat.le_of_ble_eq_true rfl⟩ rfl rfl (Nat.le_of_ble_eq_true rfl) ⟨(by show 200 + 900 * t + 2 ≤ 601024; omega), (by show 140000 + 5100 * t + 12 ≤ 7293034; omega)⟩ dL_law_1025 (wr := mW D h2 F G) Sb.rf exT_b hex_t (fun v w hp => ?_) kx_nu
  obtain ⟨k_, rfl, z, o', hd, rfl⟩ := hp
  refine g_istore C dL_law_1028 (lv' := [(0, .ref b), (1, .ref (h 0)), (2, .ref (h2 36)), (3, .ref qo), (4, .int (iI (6 * (t : Int)))), (5, .int (iI k_))]) [1, 2, 3, 4, 5, 0] rfl (Nat.le_of_ble_eq_true rfl) ?_
  refine g_aload_n C dL_law_1030 rfl 2 rfl ?_
  refine g_aload_n C dL_law_1031 rfl 0 rfl ?_
  refine g_iload C dL_law_1032 4 rfl ?_
  refine g_iconst C dL_law_1034 ?_
  refine g_iadd C dL_law_1035 ?_
  refine g_sld C hX hbl hbA hL (by omega) dL_law_1036 ?_
  refine g_aload_n C dL_law_1037 rfl 0 rfl ?_
  refine g_iload C dL_law_1038 4 rfl ?_
  refine g_iconst C dL_law_1040 ?_
  refine g_iadd C dL_law_1041 ?_
  refine g_sld C hX hbl hbA hL (by omega) dL_law_1042 ?_
  refine g_callVU C (c_X3_swells l D C.hl h2 F G (sq xs ((6 * (t : Int)) + 1)) (sq xs ((6 * (t : Int)) + 2)) mF mS mkd mth mht mnp mpt mpl (PLs_m hR) (sq_rg _ _) (sq_rg _ _)) (As := [.int (iI (sq xs ((6 * (t : Int)) + 1))), .int (iI (sq xs ((6 * (t : Int)) + 2)))]) (n := 2) (lw_V q1252 q1253 q1254 q69 q1255) (by decide +kernel) rfl rfl ⟨Nat.le_of_ble_eq_true rfl, Nat.le_of_ble_eq_true rfl⟩ (rcv C 0 (ci := 0) rfl rfl rfl) rfl rfl (Nat.le_of_ble_eq_true rfl) ⟨(by show 200 + 900 * t + 2 + 0 ≤ 601024; omega), (by show 140000 + 5100 * t + 12 + 0 ≤ 7293034; omega)⟩ dL_law_1043 (wr := ((qo, oC D o') :: (bW D h f g N M P))) Sb.comm exT_b hex_t (fun v w hp => ?_) kx_nu
  obtain ⟨zb, rfl, F', G', hm, rfl⟩ := hp
  refine g_sb (ws' := mW D h2 F' G' ++ ((qo, oC D o') :: (bW D h f g N M P))) Sb.comm ?_
  obtain ⟨⟨hc1, hc2, hc3⟩, hN⟩ := L_swells (h := h) hR hd hm
  refine g_istore C dL_law_1046 (lv' := [(0, .ref b), (1, .ref (h 0)), (2, .ref (h2 36)), (3, .ref qo), (4, .int (iI (6 * (t : Int)))), (5, .int (iI k_)), (6, .int (iI zb))]) [1, 2, 3, 4, 5, 6, 0] rfl (Nat.le_of_ble_eq_true rfl) ?_
  refine g_aload_n C dL_law_1048 rfl 2 rfl ?_
  refine g_callVR C (c_X3_thrown l D C.hl h2 F' G') (As := []) (n := 0) (lw_V q1106 q1107 q1108 q69 q1109) (by decide +kernel) rfl rfl ⟨Nat.le_of_ble_eq_true rfl, Nat.le_of_ble_eq_true rfl⟩ (rcv C 0 (ci := 0) rfl rfl rfl) rfl rfl (Nat.le_of_ble_eq_true rfl) ⟨(by show 200 + 900 * t + 2 + 0 ≤ 601024; omega), (by show 140000 + 5100 * t + 12 + 0 ≤ 7293034; omega)⟩ dL_law_1049 Sb.lt exT_b hex_t (fun v w hp => ?_) kx_n
  obtain ⟨z9, rfl, rfl⟩ := hp
  refine g_iload C dL_law_1052 5 rfl ?_
  refine g_icmp_same C (tgt := 1059) hc1 dL_law_1054 (by decide) ?_
  refine g_iload C dL_law_1059 5 rfl ?_
  refine g_if_ne C (tgt := 1076) dL_law_1061 (by decide) (by omega) (fun hk => ?_) (fun hk => ?_)
  ·
    refine g_goto C (tgt := 1368) dL_law_1076 (by decide) ?_
    obtain ⟨h', f', g', N', M', P', he, hw, hR'⟩ := hN
    refine g_ws (ws' := mW D h2 F' G' ++ ((qo, oC D o') :: bW D h' f' g' N' M' P')) (congrArg (fun w9 => mW D h2 F' G' ++ ((qo, oC D o') :: w9)) hw) ?_
    refine g_lv [0, 1, 2, 3, 4] rfl ?_
    refine g_widen (k := 200 + 900 * (t + 1)) (n := 140000 + 5100 * (t + 1)) (by omega) (by omega) ?_
    exact K h' f' g' N' M' P' F' G' o' he hR'
  ·
    refine g_aload_n C dL_law_1064 rfl 3 rfl ?_
    refine g_iconst C dL_law_1065 ?_
    refine g_lald C 24 (v := o' 0) rfl (by omega) (by decide) rfl dL_law_1066 ?_
    refine g_iload C dL_law_1067 6 rfl ?_
    refine g_i2l C dL_law_1069 rfl ?_
    refine g_lcmp C (z := 0) dL_law_1070 (by rw [hc3 hk]; exact lcmp_same _) ?_
    refine g_if_eq C (tgt := 1076) dL_law_1071 (by decide) (by decide) (fun _ => ?_) (fun hq => absurd rfl hq)
    refine g_goto C (tgt := 1368) dL_law_1076 (by decide) ?_
    obtain ⟨h', f', g', N', M', P', he, hw, hR'⟩ := hN
    refine g_ws (ws' := mW D h2 F' G' ++ ((qo, oC D o') :: bW D h' f' g' N' M' P')) (congrArg (fun w9 => mW D h2 F' G' ++ ((qo, oC D o') :: w9)) hw) ?_
    refine g_lv [0, 1, 2, 3, 4] rfl ?_
    refine g_widen (k := 200 + 900 * (t + 1)) (n := 140000 + 5100 * (t + 1)) (by omega) (by omega) ?_
    exact K h' f' g' N' M' P' F' G' o' he hR'
set_option maxHeartbeats 4000000 in
set_option maxRecDepth 100000 in
theorem lc_16 {p : Program} {l : Launch} {e : Env} {s : State} {m : MethodId} {below : List Frame} {meth : Method} {c : Code} {D : va_G} {A : Nat → Prop} {b L : Nat} {xs : Nat → Int32} {t : Nat} {h : Nat → Nat} {f : Nat → Int} {g : Nat → Int → Int} {N : Nat → Nat} {M : Nat → Nat → Nat} {P : List PR} {h2 : Nat → Nat} {F : Nat → Int} {G : Nat → Int → Int} {qo : Nat} {o : Nat → Int64} (C : CX p l s m #[.ref b] meth c RX0 code 7 ret D A) (hX : va_X b L xs s s.heap) (hbl : b < s.heap.size) (hbA : ¬ A b) (hL : L ≤ 384) (ht : 6 * t + 6 ≤ L) (hR : RL D f g N M P F G) (K : KK p l e s m b below meth c D A t h h2 qo) : GO p l e room_1 s m #[.ref b] below meth c 7 D A A (200 + 900 * t) (140000 + 5100 * t) (lw_Z below #[.ref b] s) (mW D h2 F G ++ ((qo, oC D o) :: bW D h f g N M P)) 1079 [(0, .ref b), (1, .ref (h 0)), (2, .ref (h2 36)), (3, .ref qo), (4, .int (iI (6 * (t : Int))))] [] := by
  obtain ⟨hF, hS, ht2, hkd, hth, hht, hri, htp, h7, hN7, hnp, hN6, hpt, hPL, hkc, hkb, hv, hPS⟩ := id hR.1
  obtain ⟨mF, mS, mkd, mth, mht, mri, mtp, mpl, mnp, mpt, mtv, mkm, mpx⟩ := hR.m
  have ht2' : t ≤ 63 := by omega
  refine g_aload_n C dL_law_1079 rfl 1 rfl ?_
  refine g_aload_n C dL_law_1080 rfl 0 rfl ?_
  refine g_iload C dL_law_1081 4 rfl ?_
  refine g_iconst C dL_law_1083 ?_
  refine g_iadd C dL_law_1084 ?_
  refine g_sld C hX hbl hbA hL (by omega) dL_law_1085 ?_
  refine g_aload_n C dL_law_1086 rfl 0 rfl ?_
  refine g_iload C dL_law_1087 4 rfl ?_
  refine g_iconst C dL_law_1089 ?_
  refine g_iadd C dL_law_1090 ?_
  refine g_sld C hX hbl hbA hL (by omega) dL_law_1091 ?_
  refine g_aload_n C dL_law_1092 rfl 3 rfl ?_
  refine g_callSUH C (c_X0_loose l D C.hl h f g N M P (sq xs ((6 * (t : Int)) + 1)) (sq xs ((6 * (t : Int)) + 2)) hF hS hnp hN6 hpt (by omega) hPS (sq_rg _ _) (sq_rg _ _) qo o) (As := [.ref (h 0), .int (iI (sq xs ((6 * (t : Int)) + 1))), .int (iI (sq xs ((6 * (t : Int)) + 2))), .ref qo]) (n := 4) (lw_SW q931 q932 q47 q933) (by decide +kernel) rfl rfl ⟨Nat.le_of_ble_eq_true rfl, Nat.le_of_ble_eq_true rfl⟩ rfl rfl (Nat.le_of_ble_eq_true rfl) ⟨(by show 200 + 900 * t + 3 ≤ 601024; omega), (by show 140000 + 5100 * t + 412 ≤ 7293034; omega)⟩ dL_law_1093 (wr := mW D h2 F G) Sb.rf exT_b hex_t (fun v w hp => ?_) kx_nu
  obtain ⟨k_, rfl, z, o', w1, hd, rfl⟩ := hp
  refine g_istore C dL_law_1096 (lv' := [(0, .ref b), (1, .ref (h 0)), (2, .ref (h2 36)), (3, .ref qo), (4, .int (iI (6 * (t : Int)))), (5, .int (iI k_))]) [1, 2, 3, 4, 5, 0] rfl (Nat.le_of_ble_eq_true rfl) ?_
  refine g_aload_n C dL_law_1098 rfl 2 rfl ?_
  refine g_aload_n C dL_law_1099 rfl 0 rfl ?_
  refine g_iload C dL_law_1100 4 rfl ?_
  refine g_iconst C dL_law_1102 ?_
  refine g_iadd C dL_law_1103 ?_
  refine g_sld C hX hbl hbA hL (by omega) dL_law_1104 ?_
  refine g_aload_n C dL_law_1105 rfl 0 rfl ?_
  refine g_iload C dL_law_1106 4 rfl ?_
  refine g_iconst C dL_law_1108 ?_
  refine g_iadd C dL_law_1109 ?_
  refine g_sld C hX hbl hbA hL (by omega) dL_law_1110 ?_
  refine g_callVU C (c_X3_loose l D C.hl h2 F G (sq xs ((6 * (t : Int)) + 1)) (sq xs ((6 * (t : Int)) + 2)) mF mS mkd mth mht mnp mpt mpl (PLs_m hR) (sq_rg _ _) (sq_rg _ _)) (As := [.int (iI (sq xs ((6 * (t : Int)) + 1))), .int (iI (sq xs ((6 * (t : Int)) + 2)))]) (n := 2) (lw_V q1256 q1257 q1258 q69 q1259) (by decide +kernel) rfl rfl ⟨Nat.le_of_ble_eq_true rfl, Nat.le_of_ble_eq_true rfl⟩ (rcv C 0 (ci := 0) rfl rfl rfl) rfl rfl (Nat.le_of_ble_eq_true rfl) ⟨(by show 200 + 900 * t + 3 + 0 ≤ 601024; omega), (by show 140000 + 5100 * t + 412 + 0 ≤ 7293034; omega)⟩ dL_law_1111 (wr := ((qo, oC D o') :: w1)) Sb.comm exT_b hex_t (fun v w hp => ?_) kx_nu
  obtain ⟨zb, rfl, F', G', hm, rfl⟩ := hp
  refine g_sb (ws' := mW D h2 F' G' ++ ((qo, oC D o') :: w1)) Sb.comm ?_
  obtain ⟨⟨hc1, hc2, hc3⟩, hN⟩ := L_loose (h := h) hR hd hm
  refine g_istore C dL_law_1114 (lv' := [(0, .ref b), (1, .ref (h 0)), (2, .ref (h2 36)), (3, .ref qo), (4, .int (iI (6 * (t : Int)))), (5, .int (iI k_)), (6, .int (iI zb))]) [1, 2, 3, 4, 5, 6, 0] rfl (Nat.le_of_ble_eq_true rfl) ?_
  refine g_aload_n C dL_law_1116 rfl 2 rfl ?_
  refine g_callVR C (c_X3_thrown l D C.hl h2 F' G') (As := []) (n := 0) (lw_V q1106 q1107 q1108 q69 q1109) (by decide +kernel) rfl rfl ⟨Nat.le_of_ble_eq_true rfl, Nat.le_of_ble_eq_true rfl⟩ (rcv C 0 (ci := 0) rfl rfl rfl) rfl rfl (Nat.le_of_ble_eq_true rfl) ⟨(by show 200 + 900 * t + 3 + 0 ≤ 601024; omega), (by show 140000 + 5100 * t + 412 + 0 ≤ 7293034; omega)⟩ dL_law_1117 Sb.lt exT_b hex_t (fun v w hp => ?_) kx_n
  obtain ⟨z9, rfl, rfl⟩ := hp
  refine g_iload C dL_law_1120 5 rfl ?_
  refine g_icmp_same C (tgt := 1127) hc1 dL_law_1122 (by decide) ?_
  refine g_iload C dL_law_1127 5 rfl ?_
  refine g_if_ne C (tgt := 1144) dL_law_1129 (by decide) (by omega) (fun hk => ?_) (fun hk => ?_)
  ·
    refine g_goto C (tgt := 1368) dL_law_1144 (by decide) ?_
    obtain ⟨h', f', g', N', M', P', he, hw, hR'⟩ := hN
    refine g_ws (ws' := mW D h2 F' G' ++ ((qo, oC D o') :: bW D h' f' g' N' M' P')) (congrArg (fun w9 => mW D h2 F' G' ++ ((qo, oC D o') :: w9)) hw) ?_
    refine g_lv [0, 1, 2, 3, 4] rfl ?_
    refine g_widen (k := 200 + 900 * (t + 1)) (n := 140000 + 5100 * (t + 1)) (by omega) (by omega) ?_
    exact K h' f' g' N' M' P' F' G' o' he hR'
  ·
    refine g_aload_n C dL_law_1132 rfl 3 rfl ?_
    refine g_iconst C dL_law_1133 ?_
    refine g_lald C 24 (v := o' 0) rfl (by omega) (by decide) rfl dL_law_1134 ?_
    refine g_iload C dL_law_1135 6 rfl ?_
    refine g_i2l C dL_law_1137 rfl ?_
    refine g_lcmp C (z := 0) dL_law_1138 (by rw [hc3 hk]; exact lcmp_same _) ?_
    refine g_if_eq C (tgt := 1144) dL_law_1139 (by decide) (by decide) (fun _ => ?_) (fun hq => absurd rfl hq)
    refine g_goto C (tgt := 1368) dL_law_1144 (by decide) ?_
    obtain ⟨h', f', g', N', M', P', he, hw, hR'⟩ := hN
    refine g_ws (ws' := mW D h2 F' G' ++ ((qo, oC D o') :: bW D h' f' g' N' M' P')) (congrArg (fun w9 => mW D h2 F' G' ++ ((qo, oC D o') :: w9)) hw) ?_
    refine g_lv [0, 1, 2, 3, 4] rfl ?_
    refine g_widen (k := 200 + 900 * (t + 1)) (n := 140000 + 5100 * (t + 1)) (by omega) (by omega) ?_
    exact K h' f' g' N' M' P' F' G' o' he hR'
set_option maxHeartbeats 4000000 in
set_option maxRecDepth 100000 in
theorem lc_17 {p : Program} {l : Launch} {e : Env} {s : State} {m : MethodId} {below : List Frame} {meth : Method} {c : Code} {D : va_G} {A : Nat → Prop} {b L : Nat} {xs : Nat → Int32} {t : Nat} {h : Nat → Nat} {f : Nat → Int} {g : Nat → Int → Int} {N : Nat → Nat} {M : Nat → Nat → Nat} {P : List PR} {h2 : Nat → Nat} {F : Nat → Int} {G : Nat → Int → Int} {qo : Nat} {o : Nat → Int64} (C : CX p l s m #[.ref b] meth c RX0 code 7 ret D A) (hX : va_X b L xs s s.heap) (hbl : b < s.heap.size) (hbA : ¬ A b) (hL : L ≤ 384) (ht : 6 * t + 6 ≤ L) (hR : RL D f g N M P F G) (K : KK p l e s m b below meth c D A t h h2 qo) : GO p l e room_1 s m #[.ref b] below meth c 7 D A A (200 + 900 * t) (140000 + 5100 * t) (lw_Z below #[.ref b] s) (mW D h2 F G ++ ((qo, oC D o) :: bW D h f g N M P)) 1147 [(0, .ref b), (1, .ref (h 0)), (2, .ref (h2 36)), (3, .ref qo), (4, .int (iI (6 * (t : Int))))] [] := by
  obtain ⟨hF, hS, ht2, hkd, hth, hht, hri, htp, h7, hN7, hnp, hN6, hpt, hPL, hkc, hkb, hv, hPS⟩ := id hR.1
  obtain ⟨mF, mS, mkd, mth, mht, mri, mtp, mpl, mnp, mpt, mtv, mkm, mpx⟩ := hR.m
  have ht2' : t ≤ 63 := by omega
  by_cases hq : sq xs (6 * (t : Int) + 2) = 0
  ·
    refine g_aload_n C dL_law_1147 rfl 1 rfl ?_
    refine g_aload_n C dL_law_1148 rfl 0 rfl ?_
    refine g_iload C dL_law_1149 4 rfl ?_
    refine g_iconst C dL_law_1151 ?_
    refine g_iadd C dL_law_1152 ?_
    refine g_sld C hX hbl hbA hL (by omega) dL_law_1153 ?_
    refine g_aload_n C dL_law_1154 rfl 0 rfl ?_
    refine g_iload C dL_law_1155 4 rfl ?_
    refine g_iconst C dL_law_1157 ?_
    refine g_iadd C dL_law_1158 ?_
    refine g_sld C hX hbl hbA hL (by omega) dL_law_1159 ?_
    refine g_if_eq C (tgt := 1167) dL_law_1160 (by decide) (sq_rg _ _) (fun _ => ?_) (fun hq' => absurd hq hq')
    refine g_iconst C dL_law_1167 ?_
    refine g_aload_n C dL_law_1168 rfl 3 rfl ?_
    refine g_callSUH C (c_X0_best l D C.hl h f g N M (plW D P) (sq xs ((6 * (t : Int)) + 1)) 0 hF hS hkd hth hht hri hnp hN6 hpt hkc hv (sq_rg _ _) (by decide) qo o) (As := [.ref (h 0), .int (iI (sq xs ((6 * (t : Int)) + 1))), .int (iI 0), .ref qo]) (n := 4) (lw_SW q942 q943 q47 q944) (by decide +kernel) rfl rfl ⟨Nat.le_of_ble_eq_true rfl, Nat.le_of_ble_eq_true rfl⟩ rfl rfl (Nat.le_of_ble_eq_true rfl) ⟨(by show 200 + 900 * t + 670 ≤ 601024; omega), (by show 140000 + 5100 * t + 4100 ≤ 7293034; omega)⟩ dL_law_1169 (wr := mW D h2 F G) Sb.rf exT_b hex_t (fun v w hp => ?_) kx_nu
    obtain ⟨k_, rfl, z, o', w1, hd, rfl⟩ := hp
    refine g_istore C dL_law_1172 (lv' := [(0, .ref b), (1, .ref (h 0)), (2, .ref (h2 36)), (3, .ref qo), (4, .int (iI (6 * (t : Int)))), (5, .int (iI k_))]) [1, 2, 3, 4, 5, 0] rfl (Nat.le_of_ble_eq_true rfl) ?_
    refine g_aload_n C dL_law_1174 rfl 2 rfl ?_
    refine g_aload_n C dL_law_1175 rfl 0 rfl ?_
    refine g_iload C dL_law_1176 4 rfl ?_
    refine g_iconst C dL_law_1178 ?_
    refine g_iadd C dL_law_1179 ?_
    refine g_sld C hX hbl hbA hL (by omega) dL_law_1180 ?_
    refine g_aload_n C dL_law_1181 rfl 0 rfl ?_
    refine g_iload C dL_law_1182 4 rfl ?_
    refine g_iconst C dL_law_1184 ?_
    refine g_iadd C dL_law_1185 ?_
    refine g_sld C hX hbl hbA hL (by omega) dL_law_1186 ?_
    refine g_if_eq C (tgt := 1194) dL_law_1187 (by decide) (sq_rg _ _) (fun _ => ?_) (fun hq' => absurd hq hq')
    refine g_iconst C dL_law_1194 ?_
    refine g_callVU C (c_X3_best l D C.hl h2 F G (sq xs ((6 * (t : Int)) + 1)) 0 mF mS mkd mth mht mri mnp mpt (sq_rg _ _) (by decide)) (As := [.int (iI (sq xs ((6 * (t : Int)) + 1))), .int (iI 0)]) (n := 2) (lw_V q1260 q1261 q1262 q69 q1263) (by decide +kernel) rfl rfl ⟨Nat.le_of_ble_eq_true rfl, Nat.le_of_ble_eq_true rfl⟩ (rcv C 0 (ci := 0) rfl rfl rfl) rfl rfl (Nat.le_of_ble_eq_true rfl) ⟨(by show 200 + 900 * t + 670 + 0 ≤ 601024; omega), (by show 140000 + 5100 * t + 4100 + 0 ≤ 7293034; omega)⟩ dL_law_1195 (wr := ((qo, oC D o') :: w1)) Sb.comm exT_b hex_t (fun v w hp => ?_) kx_nu
    obtain ⟨zb, rfl, F', G', hm, rfl⟩ := hp
    refine g_sb (ws' := mW D h2 F' G' ++ ((qo, oC D o') :: w1)) Sb.comm ?_
    obtain ⟨⟨hc1, hc2, hc3⟩, hN⟩ := L_best (h := h) hR hd hm
    refine g_istore C dL_law_1198 (lv' := [(0, .ref b), (1, .ref (h 0)), (2, .ref (h2 36)), (3, .ref qo), (4, .int (iI (6 * (t : Int)))), (5, .int (iI k_)), (6, .int (iI zb))]) [1, 2, 3, 4, 5, 6, 0] rfl (Nat.le_of_ble_eq_true rfl) ?_
    refine g_aload_n C dL_law_1200 rfl 2 rfl ?_
    refine g_callVR C (c_X3_thrown l D C.hl h2 F' G') (As := []) (n := 0) (lw_V q1106 q1107 q1108 q69 q1109) (by decide +kernel) rfl rfl ⟨Nat.le_of_ble_eq_true rfl, Nat.le_of_ble_eq_true rfl⟩ (rcv C 0 (ci := 0) rfl rfl rfl) rfl rfl (Nat.le_of_ble_eq_true rfl) ⟨(by show 200 + 900 * t + 670 + 0 ≤ 601024; omega), (by show 140000 + 5100 * t + 4100 + 0 ≤ 7293034; omega)⟩ dL_law_1201 Sb.lt exT_b hex_t (fun v w hp => ?_) kx_n
    obtain ⟨z9, rfl, rfl⟩ := hp
    refine g_iload C dL_law_1204 5 rfl ?_
    refine g_icmp_same C (tgt := 1211) hc1 dL_law_1206 (by decide) ?_
    refine g_iload C dL_law_1211 5 rfl ?_
    refine g_if_ne C (tgt := 1228) dL_law_1213 (by decide) (by omega) (fun hk => ?_) (fun hk => ?_)
    ·
      refine g_goto C (tgt := 1368) dL_law_1228 (by decide) ?_
      obtain ⟨h', f', g', N', M', P', he, hw, hR'⟩ := hN
      refine g_ws (ws' := mW D h2 F' G' ++ ((qo, oC D o') :: bW D h' f' g' N' M' P')) (congrArg (fun w9 => mW D h2 F' G' ++ ((qo, oC D o') :: w9)) hw) ?_
      refine g_lv [0, 1, 2, 3, 4] rfl ?_
      refine g_widen (k := 200 + 900 * (t + 1)) (n := 140000 + 5100 * (t + 1)) (by omega) (by omega) ?_
      exact K h' f' g' N' M' P' F' G' o' he hR'
    ·
      refine g_aload_n C dL_law_1216 rfl 3 rfl ?_
      refine g_iconst C dL_law_1217 ?_
      refine g_lald C 24 (v := o' 0) rfl (by omega) (by decide) rfl dL_law_1218 ?_
      refine g_iload C dL_law_1219 6 rfl ?_
      refine g_i2l C dL_law_1221 rfl ?_
      refine g_lcmp C (z := 0) dL_law_1222 (by rw [hc3 hk]; exact lcmp_same _) ?_
      refine g_if_eq C (tgt := 1228) dL_law_1223 (by decide) (by decide) (fun _ => ?_) (fun hq => absurd rfl hq)
      refine g_goto C (tgt := 1368) dL_law_1228 (by decide) ?_
      obtain ⟨h', f', g', N', M', P', he, hw, hR'⟩ := hN
      refine g_ws (ws' := mW D h2 F' G' ++ ((qo, oC D o') :: bW D h' f' g' N' M' P')) (congrArg (fun w9 => mW D h2 F' G' ++ ((qo, oC D o') :: w9)) hw) ?_
      refine g_lv [0, 1, 2, 3, 4] rfl ?_
      refine g_widen (k := 200 + 900 * (t + 1)) (n := 140000 + 5100 * (t + 1)) (by omega) (by omega) ?_
      exact K h' f' g' N' M' P' F' G' o' he hR'
  ·
    refine g_aload_n C dL_law_1147 rfl 1 rfl ?_
    refine g_aload_n C dL_law_1148 rfl 0 rfl ?_
    refine g_iload C dL_law_1149 4 rfl ?_
    refine g_iconst C dL_law_1151 ?_
    refine g_iadd C dL_law_1152 ?_
    refine g_sld C hX hbl hbA hL (by omega) dL_law_1153 ?_
    refine g_aload_n C dL_law_1154 rfl 0 rfl ?_
    refine g_iload C dL_law_1155 4 rfl ?_
    refine g_iconst C dL_law_1157 ?_
    refine g_iadd C dL_law_1158 ?_
    refine g_sld C hX hbl hbA hL (by omega) dL_law_1159 ?_
    refine g_if_eq C (tgt := 1167) dL_law_1160 (by decide) (sq_rg _ _) (fun hq' => absurd hq' hq) (fun _ => ?_)
    refine g_iconst C dL_law_1163 ?_
    refine g_goto C (tgt := 1168) dL_law_1164 (by decide) ?_
    refine g_aload_n C dL_law_1168 rfl 3 rfl ?_
    refine g_callSUH C (c_X0_best l D C.hl h f g N M (plW D P) (sq xs ((6 * (t : Int)) + 1)) 1 hF hS hkd hth hht hri hnp hN6 hpt hkc hv (sq_rg _ _) (by decide) qo o) (As := [.ref (h 0), .int (iI (sq xs ((6 * (t : Int)) + 1))), .int (iI 1), .ref qo]) (n := 4) (lw_SW q942 q943 q47 q944) (by decide +kernel) rfl rfl ⟨Nat.le_of_ble_eq_true rfl, Nat.le_of_ble_eq_true rfl⟩ rfl rfl (Nat.le_of_ble_eq_true rfl) ⟨(by show 200 + 900 * t + 670 ≤ 601024; omega), (by show 140000 + 5100 * t + 4100 ≤ 7293034; omega)⟩ dL_law_1169 (wr := mW D h2 F G) Sb.rf exT_b hex_t (fun v w hp => ?_) kx_nu
    obtain ⟨k_, rfl, z, o', w1, hd, rfl⟩ := hp
    refine g_istore C dL_law_1172 (lv' := [(0, .ref b), (1, .ref (h 0)), (2, .ref (h2 36)), (3, .ref qo), (4, .int (iI (6 * (t : Int)))), (5, .int (iI k_))]) [1, 2, 3, 4, 5, 0] rfl (Nat.le_of_ble_eq_true rfl) ?_
    refine g_aload_n C dL_law_1174 rfl 2 rfl ?_
    refine g_aload_n C dL_law_1175 rfl 0 rfl ?_
    refine g_iload C dL_law_1176 4 rfl ?_
    refine g_iconst C dL_law_1178 ?_
    refine g_iadd C dL_law_1179 ?_
    refine g_sld C hX hbl hbA hL (by omega) dL_law_1180 ?_
    refine g_aload_n C dL_law_1181 rfl 0 rfl ?_
    refine g_iload C dL_law_1182 4 rfl ?_
    refine g_iconst C dL_law_1184 ?_
    refine g_iadd C dL_law_1185 ?_
    refine g_sld C hX hbl hbA hL (by omega) dL_law_1186 ?_
    refine g_if_eq C (tgt := 1194) dL_law_1187 (by decide) (sq_rg _ _) (fun hq' => absurd hq' hq) (fun _ => ?_)
    refine g_iconst C dL_law_1190 ?_
    refine g_goto C (tgt := 1195) dL_law_1191 (by decide) ?_
    refine g_callVU C (c_X3_best l D C.hl h2 F G (sq xs ((6 * (t : Int)) + 1)) 1 mF mS mkd mth mht mri mnp mpt (sq_rg _ _) (by decide)) (As := [.int (iI (sq xs ((6 * (t : Int)) + 1))), .int (iI 1)]) (n := 2) (lw_V q1260 q1261 q1262 q69 q1263) (by decide +kernel) rfl rfl ⟨Nat.le_of_ble_eq_true rfl, Nat.le_of_ble_eq_true rfl⟩ (rcv C 0 (ci := 0) rfl rfl rfl) rfl rfl (Nat.le_of_ble_eq_true rfl) ⟨(by show 200 + 900 * t + 670 + 0 ≤ 601024; omega), (by show 140000 + 5100 * t + 4100 + 0 ≤ 7293034; omega)⟩ dL_law_1195 (wr := ((qo, oC D o') :: w1)) Sb.comm exT_b hex_t (fun v w hp => ?_) kx_nu
    obtain ⟨zb, rfl, F', G', hm, rfl⟩ := hp
    refine g_sb (ws' := mW D h2 F' G' ++ ((qo, oC D o') :: w1)) Sb.comm ?_
    obtain ⟨⟨hc1, hc2, hc3⟩, hN⟩ := L_best (h := h) hR hd hm
    refine g_istore C dL_law_1198 (lv' := [(0, .ref b), (1, .ref (h 0)), (2, .ref (h2 36)), (3, .ref qo), (4, .int (iI (6 * (t : Int)))), (5, .int (iI k_)), (6, .int (iI zb))]) [1, 2, 3, 4, 5, 6, 0] rfl (Nat.le_of_ble_eq_true rfl) ?_
    refine g_aload_n C dL_law_1200 rfl 2 rfl ?_
    refine g_callVR C (c_X3_thrown l D C.hl h2 F' G') (As := []) (n := 0) (lw_V q1106 q1107 q1108 q69 q1109) (by decide +kernel) rfl rfl ⟨Nat.le_of_ble_eq_true rfl, Nat.le_of_ble_eq_true rfl⟩ (rcv C 0 (ci := 0) rfl rfl rfl) rfl rfl (Nat.le_of_ble_eq_true rfl) ⟨(by show 200 + 900 * t + 670 + 0 ≤ 601024; omega), (by show 140000 + 5100 * t + 4100 + 0 ≤ 7293034; omega)⟩ dL_law_1201 Sb.lt exT_b hex_t (fun v w hp => ?_) kx_n
    obtain ⟨z9, rfl, rfl⟩ := hp
    refine g_iload C dL_law_1204 5 rfl ?_
    refine g_icmp_same C (tgt := 1211) hc1 dL_law_1206 (by decide) ?_
    refine g_iload C dL_law_1211 5 rfl ?_
    refine g_if_ne C (tgt := 1228) dL_law_1213 (by decide) (by omega) (fun hk => ?_) (fun hk => ?_)
    ·
      refine g_goto C (tgt := 1368) dL_law_1228 (by decide) ?_
      obtain ⟨h', f', g', N', M', P', he, hw, hR'⟩ := hN
      refine g_ws (ws' := mW D h2 F' G' ++ ((qo, oC D o') :: bW D h' f' g' N' M' P')) (congrArg (fun w9 => mW D h2 F' G' ++ ((qo, oC D o') :: w9)) hw) ?_
      refine g_lv [0, 1, 2, 3, 4] rfl ?_
      refine g_widen (k := 200 + 900 * (t + 1)) (n := 140000 + 5100 * (t + 1)) (by omega) (by omega) ?_
      exact K h' f' g' N' M' P' F' G' o' he hR'
    ·
      refine g_aload_n C dL_law_1216 rfl 3 rfl ?_
      refine g_iconst C dL_law_1217 ?_
      refine g_lald C 24 (v := o' 0) rfl (by omega) (by decide) rfl dL_law_1218 ?_
      refine g_iload C dL_law_1219 6 rfl ?_
      refine g_i2l C dL_law_1221 rfl ?_
      refine g_lcmp C (z := 0) dL_law_1222 (by rw [hc3 hk]; exact lcmp_same _) ?_
      refine g_if_eq C (tgt := 1228) dL_law_1223 (by decide) (by decide) (fun _ => ?_) (fun hq => absurd rfl hq)
      refine g_goto C (tgt := 1368) dL_law_1228 (by decide) ?_
      obtain ⟨h', f', g', N', M', P', he, hw, hR'⟩ := hN
      refine g_ws (ws' := mW D h2 F' G' ++ ((qo, oC D o') :: bW D h' f' g' N' M' P')) (congrArg (fun w9 => mW D h2 F' G' ++ ((qo, oC D o') :: w9)) hw) ?_
      refine g_lv [0, 1, 2, 3, 4] rfl ?_
      refine g_widen (k := 200 + 900 * (t + 1)) (n := 140000 + 5100 * (t + 1)) (by omega) (by omega) ?_
      exact K h' f' g' N' M' P' F' G' o' he hR'
set_option maxHeartbeats 4000000 in
set_option maxRecDepth 100000 in
theorem lc_18 {p : Program} {l : Launch} {e : Env} {s : State} {m : MethodId} {below : List Frame} {meth : Method} {c : Code} {D : va_G} {A : Nat → Prop} {b L : Nat} {xs : Nat → Int32} {t : Nat} {h : Nat → Nat} {f : Nat → Int} {g : Nat → Int → Int} {N : Nat → Nat} {M : Nat → Nat → Nat} {P : List PR} {h2 : Nat → Nat} {F : Nat → Int} {G : Nat → Int → Int} {qo : Nat} {o : Nat → Int64} (C : CX p l s m #[.ref b] meth c RX0 code 7 ret D A) (hX : va_X b L xs s s.heap) (hbl : b < s.heap.size) (hbA : ¬ A b) (hL : L ≤ 384) (ht : 6 * t + 6 ≤ L) (hR : RL D f g N M P F G) (K : KK p l e s m b below meth c D A t h h2 qo) : GO p l e room_1 s m #[.ref b] below meth c 7 D A A (200 + 900 * t) (140000 + 5100 * t) (lw_Z below #[.ref b] s) (mW D h2 F G ++ ((qo, oC D o) :: bW D h f g N M P)) 1231 [(0, .ref b), (1, .ref (h 0)), (2, .ref (h2 36)), (3, .ref qo), (4, .int (iI (6 * (t : Int))))] [] := by
  obtain ⟨hF, hS, ht2, hkd, hth, hht, hri, htp, h7, hN7, hnp, hN6, hpt, hPL, hkc, hkb, hv, hPS⟩ := id hR.1
  obtain ⟨mF, mS, mkd, mth, mht, mri, mtp, mpl, mnp, mpt, mtv, mkm, mpx⟩ := hR.m
  have ht2' : t ≤ 63 := by omega
  refine g_aload_n C dL_law_1231 rfl 1 rfl ?_
  refine g_aload_n C dL_law_1232 rfl 0 rfl ?_
  refine g_iload C dL_law_1233 4 rfl ?_
  refine g_iconst C dL_law_1235 ?_
  refine g_iadd C dL_law_1236 ?_
  refine g_sld C hX hbl hbA hL (by omega) dL_law_1237 ?_
  refine g_aload_n C dL_law_1238 rfl 3 rfl ?_
  refine g_callSUH C (c_X0_move l D C.hl h f g N M (ptW (M 6) (g 24) (g 25) (g 26) (g 27) (f 6) ++ plW D P) (sq xs ((6 * (t : Int)) + 1)) (by omega) hkb (sq_rg _ _) qo o) (As := [.ref (h 0), .int (iI (sq xs ((6 * (t : Int)) + 1))), .ref qo]) (n := 3) (lw_SW q963 q964 q47 q965) (by decide +kernel) rfl rfl ⟨Nat.le_of_ble_eq_true rfl, Nat.le_of_ble_eq_true rfl⟩ rfl rfl (Nat.le_of_ble_eq_true rfl) ⟨(by show 200 + 900 * t + 1 ≤ 601024; omega), (by show 140000 + 5100 * t + 6 ≤ 7293034; omega)⟩ dL_law_1239 (wr := mW D h2 F G) Sb.rf exT_b hex_t (fun v w hp => ?_) kx_nu
  obtain ⟨k_, rfl, z, o', hd, rfl⟩ := hp
  refine g_istore C dL_law_1242 (lv' := [(0, .ref b), (1, .ref (h 0)), (2, .ref (h2 36)), (3, .ref qo), (4, .int (iI (6 * (t : Int)))), (5, .int (iI k_))]) [1, 2, 3, 4, 5, 0] rfl (Nat.le_of_ble_eq_true rfl) ?_
  refine g_aload_n C dL_law_1244 rfl 2 rfl ?_
  refine g_aload_n C dL_law_1245 rfl 0 rfl ?_
  refine g_iload C dL_law_1246 4 rfl ?_
  refine g_iconst C dL_law_1248 ?_
  refine g_iadd C dL_law_1249 ?_
  refine g_sld C hX hbl hbA hL (by omega) dL_law_1250 ?_
  refine g_callVU C (c_X3_move l D C.hl h2 F G (sq xs ((6 * (t : Int)) + 1)) mkm (sq_rg _ _)) (As := [.int (iI (sq xs ((6 * (t : Int)) + 1)))]) (n := 1) (lw_V q1280 q1281 q1282 q69 q1283) (by decide +kernel) rfl rfl ⟨Nat.le_of_ble_eq_true rfl, Nat.le_of_ble_eq_true rfl⟩ (rcv C 0 (ci := 0) rfl rfl rfl) rfl rfl (Nat.le_of_ble_eq_true rfl) ⟨(by show 200 + 900 * t + 1 + 0 ≤ 601024; omega), (by show 140000 + 5100 * t + 6 + 0 ≤ 7293034; omega)⟩ dL_law_1251 (wr := ((qo, oC D o') :: (bW D h f g N M P))) Sb.comm exT_b hex_t (fun v w hp => ?_) kx_nu
  obtain ⟨zb, rfl, F', G', hm, rfl⟩ := hp
  refine g_sb (ws' := mW D h2 F' G' ++ ((qo, oC D o') :: (bW D h f g N M P))) Sb.comm ?_
  obtain ⟨⟨hc1, hc2, hc3⟩, hN⟩ := L_move (h := h) hR hd hm
  refine g_istore C dL_law_1254 (lv' := [(0, .ref b), (1, .ref (h 0)), (2, .ref (h2 36)), (3, .ref qo), (4, .int (iI (6 * (t : Int)))), (5, .int (iI k_)), (6, .int (iI zb))]) [1, 2, 3, 4, 5, 6, 0] rfl (Nat.le_of_ble_eq_true rfl) ?_
  refine g_aload_n C dL_law_1256 rfl 2 rfl ?_
  refine g_callVR C (c_X3_thrown l D C.hl h2 F' G') (As := []) (n := 0) (lw_V q1106 q1107 q1108 q69 q1109) (by decide +kernel) rfl rfl ⟨Nat.le_of_ble_eq_true rfl, Nat.le_of_ble_eq_true rfl⟩ (rcv C 0 (ci := 0) rfl rfl rfl) rfl rfl (Nat.le_of_ble_eq_true rfl) ⟨(by show 200 + 900 * t + 1 + 0 ≤ 601024; omega), (by show 140000 + 5100 * t + 6 + 0 ≤ 7293034; omega)⟩ dL_law_1257 Sb.lt exT_b hex_t (fun v w hp => ?_) kx_n
  obtain ⟨z9, rfl, rfl⟩ := hp
  refine g_iload C dL_law_1260 5 rfl ?_
  refine g_icmp_same C (tgt := 1267) hc1 dL_law_1262 (by decide) ?_
  refine g_iload C dL_law_1267 5 rfl ?_
  refine g_if_ne C (tgt := 1284) dL_law_1269 (by decide) (by omega) (fun hk => ?_) (fun hk => ?_)
  ·
    refine g_goto C (tgt := 1368) dL_law_1284 (by decide) ?_
    obtain ⟨h', f', g', N', M', P', he, hw, hR'⟩ := hN
    refine g_ws (ws' := mW D h2 F' G' ++ ((qo, oC D o') :: bW D h' f' g' N' M' P')) (congrArg (fun w9 => mW D h2 F' G' ++ ((qo, oC D o') :: w9)) hw) ?_
    refine g_lv [0, 1, 2, 3, 4] rfl ?_
    refine g_widen (k := 200 + 900 * (t + 1)) (n := 140000 + 5100 * (t + 1)) (by omega) (by omega) ?_
    exact K h' f' g' N' M' P' F' G' o' he hR'
  ·
    refine g_aload_n C dL_law_1272 rfl 3 rfl ?_
    refine g_iconst C dL_law_1273 ?_
    refine g_lald C 24 (v := o' 0) rfl (by omega) (by decide) rfl dL_law_1274 ?_
    refine g_iload C dL_law_1275 6 rfl ?_
    refine g_i2l C dL_law_1277 rfl ?_
    refine g_lcmp C (z := 0) dL_law_1278 (by rw [hc3 hk]; exact lcmp_same _) ?_
    refine g_if_eq C (tgt := 1284) dL_law_1279 (by decide) (by decide) (fun _ => ?_) (fun hq => absurd rfl hq)
    refine g_goto C (tgt := 1368) dL_law_1284 (by decide) ?_
    obtain ⟨h', f', g', N', M', P', he, hw, hR'⟩ := hN
    refine g_ws (ws' := mW D h2 F' G' ++ ((qo, oC D o') :: bW D h' f' g' N' M' P')) (congrArg (fun w9 => mW D h2 F' G' ++ ((qo, oC D o') :: w9)) hw) ?_
    refine g_lv [0, 1, 2, 3, 4] rfl ?_
    refine g_widen (k := 200 + 900 * (t + 1)) (n := 140000 + 5100 * (t + 1)) (by omega) (by omega) ?_
    exact K h' f' g' N' M' P' F' G' o' he hR'
set_option maxHeartbeats 4000000 in
set_option maxRecDepth 100000 in
theorem lc_19 {p : Program} {l : Launch} {e : Env} {s : State} {m : MethodId} {below : List Frame} {meth : Method} {c : Code} {D : va_G} {A : Nat → Prop} {b L : Nat} {xs : Nat → Int32} {t : Nat} {h : Nat → Nat} {f : Nat → Int} {g : Nat → Int → Int} {N : Nat → Nat} {M : Nat → Nat → Nat} {P : List PR} {h2 : Nat → Nat} {F : Nat → Int} {G : Nat → Int → Int} {qo : Nat} {o : Nat → Int64} (C : CX p l s m #[.ref b] meth c RX0 code 7 ret D A) (hX : va_X b L xs s s.heap) (hbl : b < s.heap.size) (hbA : ¬ A b) (hL : L ≤ 384) (ht : 6 * t + 6 ≤ L) (hR : RL D f g N M P F G) (K : KK p l e s m b below meth c D A t h h2 qo) : GO p l e room_1 s m #[.ref b] below meth c 7 D A A (200 + 900 * t) (140000 + 5100 * t) (lw_Z below #[.ref b] s) (mW D h2 F G ++ ((qo, oC D o) :: bW D h f g N M P)) 1287 [(0, .ref b), (1, .ref (h 0)), (2, .ref (h2 36)), (3, .ref qo), (4, .int (iI (6 * (t : Int))))] [] := by
  obtain ⟨hF, hS, ht2, hkd, hth, hht, hri, htp, h7, hN7, hnp, hN6, hpt, hPL, hkc, hkb, hv, hPS⟩ := id hR.1
  obtain ⟨mF, mS, mkd, mth, mht, mri, mtp, mpl, mnp, mpt, mtv, mkm, mpx⟩ := hR.m
  have ht2' : t ≤ 63 := by omega
  refine g_aload_n C dL_law_1287 rfl 1 rfl ?_
  refine g_aload_n C dL_law_1288 rfl 0 rfl ?_
  refine g_iload C dL_law_1289 4 rfl ?_
  refine g_iconst C dL_law_1291 ?_
  refine g_iadd C dL_law_1292 ?_
  refine g_sld C hX hbl hbA hL (by omega) dL_law_1293 ?_
  refine g_callVU C (c_X1_marks l D C.hl h f g N M (plW D P) (sq xs ((6 * (t : Int)) + 1)) hF hS hkd hth hht hnp hN6 hpt (sq_rg _ _)) (As := [.int (iI (sq xs ((6 * (t : Int)) + 1)))]) (n := 1) (lw_V q599 q600 q601 q48 q602) (by decide +kernel) rfl rfl ⟨Nat.le_of_ble_eq_true rfl, Nat.le_of_ble_eq_true rfl⟩ (rcv C 25 (ci := 1) rfl rfl rfl) rfl rfl (Nat.le_of_ble_eq_true rfl) ⟨(by show 200 + 900 * t + 0 ≤ 601024; omega), (by show 140000 + 5100 * t + 0 ≤ 7293034; omega)⟩ dL_law_1294 (wr := mW D h2 F G ++ [(qo, oC D o)]) (by rw [List.append_assoc]; exact Sb.rf) exT_b hex_t (fun v w hp => ?_) kx_nu
  obtain ⟨z, rfl, hd⟩ := hp
  refine g_ws (ws' := mW D h2 F G ++ ((qo, oC D o) :: w)) (List.append_assoc _ _ _) ?_
  refine g_aload_n C dL_law_1297 rfl 2 rfl ?_
  refine g_aload_n C dL_law_1298 rfl 0 rfl ?_
  refine g_iload C dL_law_1299 4 rfl ?_
  refine g_iconst C dL_law_1301 ?_
  refine g_iadd C dL_law_1302 ?_
  refine g_sld C hX hbl hbA hL (by omega) dL_law_1303 ?_
  refine g_callVU C (c_X3_marks l D C.hl h2 F G (sq xs ((6 * (t : Int)) + 1)) mF mS mkd mnp mpt mpx (sq_rg _ _)) (As := [.int (iI (sq xs ((6 * (t : Int)) + 1)))]) (n := 1) (lw_V q1284 q1285 q1286 q69 q1287) (by decide +kernel) rfl rfl ⟨Nat.le_of_ble_eq_true rfl, Nat.le_of_ble_eq_true rfl⟩ (rcv C 0 (ci := 0) rfl rfl rfl) rfl rfl (Nat.le_of_ble_eq_true rfl) ⟨(by show 200 + 900 * t + 0 + 0 ≤ 601024; omega), (by show 140000 + 5100 * t + 0 + 0 ≤ 7293034; omega)⟩ dL_law_1304 (wr := ((qo, oC D o) :: w)) Sb.comm exT_b hex_t (fun v w hp => ?_) kx_nu
  obtain ⟨zb, rfl, F', G', hm, rfl⟩ := hp
  refine g_sb (ws' := mW D h2 F' G' ++ ((qo, oC D o) :: w)) Sb.comm ?_
  obtain ⟨hzz, hN⟩ := L_marks (h := h) hR hd hm
  refine g_icmp_same C (tgt := 1368) hzz dL_law_1307 (by decide) ?_
  obtain ⟨h', f', g', N', M', P', he, hw, hR'⟩ := hN
  refine g_ws (ws' := mW D h2 F' G' ++ ((qo, oC D o) :: bW D h' f' g' N' M' P')) (congrArg (fun w9 => mW D h2 F' G' ++ ((qo, oC D o) :: w9)) hw) ?_
  refine g_widen (k := 200 + 900 * (t + 1)) (n := 140000 + 5100 * (t + 1)) (by omega) (by omega) ?_
  exact K h' f' g' N' M' P' F' G' o he hR'
set_option maxHeartbeats 4000000 in
set_option maxRecDepth 100000 in
theorem lc_20 {p : Program} {l : Launch} {e : Env} {s : State} {m : MethodId} {below : List Frame} {meth : Method} {c : Code} {D : va_G} {A : Nat → Prop} {b L : Nat} {xs : Nat → Int32} {t : Nat} {h : Nat → Nat} {f : Nat → Int} {g : Nat → Int → Int} {N : Nat → Nat} {M : Nat → Nat → Nat} {P : List PR} {h2 : Nat → Nat} {F : Nat → Int} {G : Nat → Int → Int} {qo : Nat} {o : Nat → Int64} (C : CX p l s m #[.ref b] meth c RX0 code 7 ret D A) (hX : va_X b L xs s s.heap) (hbl : b < s.heap.size) (hbA : ¬ A b) (hL : L ≤ 384) (ht : 6 * t + 6 ≤ L) (hR : RL D f g N M P F G) (K : KK p l e s m b below meth c D A t h h2 qo) : GO p l e room_1 s m #[.ref b] below meth c 7 D A A (200 + 900 * t) (140000 + 5100 * t) (lw_Z below #[.ref b] s) (mW D h2 F G ++ ((qo, oC D o) :: bW D h f g N M P)) 1312 [(0, .ref b), (1, .ref (h 0)), (2, .ref (h2 36)), (3, .ref qo), (4, .int (iI (6 * (t : Int))))] [] := by
  obtain ⟨hF, hS, ht2, hkd, hth, hht, hri, htp, h7, hN7, hnp, hN6, hpt, hPL, hkc, hkb, hv, hPS⟩ := id hR.1
  obtain ⟨mF, mS, mkd, mth, mht, mri, mtp, mpl, mnp, mpt, mtv, mkm, mpx⟩ := hR.m
  have ht2' : t ≤ 63 := by omega
  refine g_aload_n C dL_law_1312 rfl 1 rfl ?_
  refine g_aload_n C dL_law_1313 rfl 0 rfl ?_
  refine g_iload C dL_law_1314 4 rfl ?_
  refine g_iconst C dL_law_1316 ?_
  refine g_iadd C dL_law_1317 ?_
  refine g_sld C hX hbl hbA hL (by omega) dL_law_1318 ?_
  refine g_aload_n C dL_law_1319 rfl 3 rfl ?_
  refine g_callSUH C (c_X0_count l D C.hl h f g N M (plW D P) (sq xs ((6 * (t : Int)) + 1)) hnp hN6 hpt (sq_rg _ _) qo o) (As := [.ref (h 0), .int (iI (sq xs ((6 * (t : Int)) + 1))), .ref qo]) (n := 3) (lw_SW q970 q971 q47 q972) (by decide +kernel) rfl rfl ⟨Nat.le_of_ble_eq_true rfl, Nat.le_of_ble_eq_true rfl⟩ rfl rfl (Nat.le_of_ble_eq_true rfl) ⟨(by show 200 + 900 * t + 1 ≤ 601024; omega), (by show 140000 + 5100 * t + 6 ≤ 7293034; omega)⟩ dL_law_1320 (wr := mW D h2 F G) Sb.rf exT_b hex_t (fun v w hp => ?_) kx_nu
  obtain ⟨k_, rfl, z, o', hd, rfl⟩ := hp
  refine g_istore C dL_law_1323 (lv' := [(0, .ref b), (1, .ref (h 0)), (2, .ref (h2 36)), (3, .ref qo), (4, .int (iI (6 * (t : Int)))), (5, .int (iI k_))]) [1, 2, 3, 4, 5, 0] rfl (Nat.le_of_ble_eq_true rfl) ?_
  refine g_aload_n C dL_law_1325 rfl 2 rfl ?_
  refine g_aload_n C dL_law_1326 rfl 0 rfl ?_
  refine g_iload C dL_law_1327 4 rfl ?_
  refine g_iconst C dL_law_1329 ?_
  refine g_iadd C dL_law_1330 ?_
  refine g_sld C hX hbl hbA hL (by omega) dL_law_1331 ?_
  refine g_callVU C (c_X3_count l D C.hl h2 F G (sq xs ((6 * (t : Int)) + 1)) mnp mpt (sq_rg _ _)) (As := [.int (iI (sq xs ((6 * (t : Int)) + 1)))]) (n := 1) (lw_V q1292 q1293 q1294 q69 q1295) (by decide +kernel) rfl rfl ⟨Nat.le_of_ble_eq_true rfl, Nat.le_of_ble_eq_true rfl⟩ (rcv C 0 (ci := 0) rfl rfl rfl) rfl rfl (Nat.le_of_ble_eq_true rfl) ⟨(by show 200 + 900 * t + 1 + 0 ≤ 601024; omega), (by show 140000 + 5100 * t + 6 + 0 ≤ 7293034; omega)⟩ dL_law_1332 (wr := ((qo, oC D o') :: (bW D h f g N M P))) Sb.comm exT_b hex_t (fun v w hp => ?_) kx_nu
  obtain ⟨zb, rfl, F', G', hm, rfl⟩ := hp
  refine g_sb (ws' := mW D h2 F' G' ++ ((qo, oC D o') :: (bW D h f g N M P))) Sb.comm ?_
  obtain ⟨⟨hc1, hc2, hc3⟩, hN⟩ := L_count (h := h) hR hd hm
  refine g_istore C dL_law_1335 (lv' := [(0, .ref b), (1, .ref (h 0)), (2, .ref (h2 36)), (3, .ref qo), (4, .int (iI (6 * (t : Int)))), (5, .int (iI k_)), (6, .int (iI zb))]) [1, 2, 3, 4, 5, 6, 0] rfl (Nat.le_of_ble_eq_true rfl) ?_
  refine g_aload_n C dL_law_1337 rfl 2 rfl ?_
  refine g_callVR C (c_X3_thrown l D C.hl h2 F' G') (As := []) (n := 0) (lw_V q1106 q1107 q1108 q69 q1109) (by decide +kernel) rfl rfl ⟨Nat.le_of_ble_eq_true rfl, Nat.le_of_ble_eq_true rfl⟩ (rcv C 0 (ci := 0) rfl rfl rfl) rfl rfl (Nat.le_of_ble_eq_true rfl) ⟨(by show 200 + 900 * t + 1 + 0 ≤ 601024; omega), (by show 140000 + 5100 * t + 6 + 0 ≤ 7293034; omega)⟩ dL_law_1338 Sb.lt exT_b hex_t (fun v w hp => ?_) kx_n
  obtain ⟨z9, rfl, rfl⟩ := hp
  refine g_iload C dL_law_1341 5 rfl ?_
  refine g_icmp_same C (tgt := 1348) hc1 dL_law_1343 (by decide) ?_
  refine g_iload C dL_law_1348 5 rfl ?_
  refine g_if_ne C (tgt := 1365) dL_law_1350 (by decide) (by omega) (fun hk => ?_) (fun hk => ?_)
  ·
    refine g_goto C (tgt := 1368) dL_law_1365 (by decide) ?_
    obtain ⟨h', f', g', N', M', P', he, hw, hR'⟩ := hN
    refine g_ws (ws' := mW D h2 F' G' ++ ((qo, oC D o') :: bW D h' f' g' N' M' P')) (congrArg (fun w9 => mW D h2 F' G' ++ ((qo, oC D o') :: w9)) hw) ?_
    refine g_lv [0, 1, 2, 3, 4] rfl ?_
    refine g_widen (k := 200 + 900 * (t + 1)) (n := 140000 + 5100 * (t + 1)) (by omega) (by omega) ?_
    exact K h' f' g' N' M' P' F' G' o' he hR'
  ·
    refine g_aload_n C dL_law_1353 rfl 3 rfl ?_
    refine g_iconst C dL_law_1354 ?_
    refine g_lald C 24 (v := o' 0) rfl (by omega) (by decide) rfl dL_law_1355 ?_
    refine g_iload C dL_law_1356 6 rfl ?_
    refine g_i2l C dL_law_1358 rfl ?_
    refine g_lcmp C (z := 0) dL_law_1359 (by rw [hc3 hk]; exact lcmp_same _) ?_
    refine g_if_eq C (tgt := 1365) dL_law_1360 (by decide) (by decide) (fun _ => ?_) (fun hq => absurd rfl hq)
    refine g_goto C (tgt := 1368) dL_law_1365 (by decide) ?_
    obtain ⟨h', f', g', N', M', P', he, hw, hR'⟩ := hN
    refine g_ws (ws' := mW D h2 F' G' ++ ((qo, oC D o') :: bW D h' f' g' N' M' P')) (congrArg (fun w9 => mW D h2 F' G' ++ ((qo, oC D o') :: w9)) hw) ?_
    refine g_lv [0, 1, 2, 3, 4] rfl ?_
    refine g_widen (k := 200 + 900 * (t + 1)) (n := 140000 + 5100 * (t + 1)) (by omega) (by omega) ?_
    exact K h' f' g' N' M' P' F' G' o' he hR'
