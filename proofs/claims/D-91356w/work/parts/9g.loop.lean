/-! ===== the law's loop ===== -/
set_option maxHeartbeats 4000000 in
set_option maxRecDepth 100000 in
theorem law_loop {p : Program} {l : Launch} {e : Env} {s : State} {m : MethodId} {below : List Frame} {meth : Method} {c : Code} {D : va_G} {A : Nat → Prop} {b L : Nat} {xs : Nat → Int32} (C : CX p l s m #[.ref b] meth c RX0 code 7 ret D A) (hX : va_X b L xs s s.heap) (hbl : b < s.heap.size) (hbA : ¬ A b) (hL : L ≤ 384) (hA : ∀ q, A q → s.heap.size ≤ q) : ∀ (n t : Nat) (h : Nat → Nat) (f : Nat → Int) (g : Nat → Int → Int) (N : Nat → Nat) (M : Nat → Nat → Nat) (P : List PR) (h2 : Nat → Nat) (F : Nat → Int) (G : Nat → Int → Int) (qo : Nat) (o : Nat → Int64), 64 - t < n → 6 * t ≤ 384 → RL D f g N M P F G → GO p l e room_1 s m #[.ref b] below meth c 7 D A A (200 + 900 * t) (140000 + 5100 * t) (lw_Z below #[.ref b] s) (mW D h2 F G ++ ((qo, oC D o) :: bW D h f g N M P)) 23 [(0, .ref b), (1, .ref (h 0)), (2, .ref (h2 36)), (3, .ref qo), (4, .int (iI (6 * (t : Int))))] [] := by
  intro n
  induction n with
  | zero => intro t h f g N M P h2 F G qo o hm; exact absurd hm (Nat.not_lt_zero _)
  | succ n ih =>
    intro t h f g N M P h2 F G qo o hm ht hR
    refine g_iload C dL_law_23 4 rfl ?_
    refine g_aload_n C dL_law_25 rfl 0 rfl ?_
    refine g_slen C hX hbl hbA dL_law_26 ?_
    refine g_bipush C dL_law_27 (z := 6) rfl ?_
    refine g_isub C dL_law_29 ?_
    refine g_icmp_gt C (tgt := 1374) dL_law_30 (by decide) (by omega) (by omega) (fun hc => ?_) (fun hc => ?_)
    · refine g_iconst C dL_law_1374 ?_
      exact g_end C hA (by omega) (by omega) dL_law_1375
    · refine g_aload_n C dL_law_33 rfl 0 rfl ?_
      refine g_iload C dL_law_34 4 rfl ?_
      refine g_sld C hX hbl hbA hL (by omega) dL_law_36 ?_
      refine g_bipush C dL_law_37 (z := 31) rfl ?_
      refine g_iand C (z := andI (sq xs (6 * (t : Int))) 31) dL_law_39 (iI_of _).symm ?_
      have hv := andI_m (a := sq xs (6 * (t : Int))) (m := 31) 5 (by decide) (by decide)
      generalize andI (sq xs (6 * (t : Int))) 31 = v at hv ⊢
      have K : KK p l e s m b below meth c D A t h h2 qo := by
        intro h' f' g' N' M' P' F' G' o' he hR'
        refine g_iinc C dL_law_1368 4 rfl (lv' := [(0, .ref b), (1, .ref (h 0)), (2, .ref (h2 36)), (3, .ref qo), (4, .int (iI (6 * (t : Int) + 6)))]) [1, 2, 3, 4, 0] rfl (Nat.le_of_ble_eq_true rfl) ?_
        refine g_goto C (tgt := 23) dL_law_1371 (by decide) ?_
        rw [← he, show 6 * (t : Int) + 6 = 6 * ((t + 1 : Nat) : Int) by omega]
        exact ih (t + 1) h' f' g' N' M' P' h2 F' G' qo o' (by omega) (by omega) hR'
      rcases (show v = 0 ∨ v = 1 ∨ v = 2 ∨ v = 3 ∨ v = 4 ∨ v = 5 ∨ v = 6 ∨ v = 7 ∨ v = 8 ∨ v = 9 ∨ v = 10 ∨ v = 11 ∨ v = 12 ∨ v = 13 ∨ v = 14 ∨ v = 15 ∨ v = 16 ∨ v = 17 ∨ v = 18 ∨ v = 19 ∨ v = 20 ∨ 20 < v by omega) with rfl | rfl | rfl | rfl | rfl | rfl | rfl | rfl | rfl | rfl | rfl | rfl | rfl | rfl | rfl | rfl | rfl | rfl | rfl | rfl | rfl | hv2
      · refine g_table C (tgt := 140) dL_law_40 (by decide) (by decide) rfl (by decide) ?_
        exact lc_0 C hX hbl hbA hL (by omega) hR K
      · refine g_table C (tgt := 177) dL_law_40 (by decide) (by decide) rfl (by decide) ?_
        exact lc_1 C hX hbl hbA hL (by omega) hR K
      · refine g_table C (tgt := 252) dL_law_40 (by decide) (by decide) rfl (by decide) ?_
        exact lc_2 C hX hbl hbA hL (by omega) hR K
      · refine g_table C (tgt := 277) dL_law_40 (by decide) (by decide) rfl (by decide) ?_
        exact lc_3 C hX hbl hbA hL (by omega) hR K
      · refine g_table C (tgt := 314) dL_law_40 (by decide) (by decide) rfl (by decide) ?_
        exact lc_4 C hX hbl hbA hL (by omega) hR K
      · refine g_table C (tgt := 389) dL_law_40 (by decide) (by decide) rfl (by decide) ?_
        exact lc_5 C hX hbl hbA hL (by omega) hR K
      · refine g_table C (tgt := 402) dL_law_40 (by decide) (by decide) rfl (by decide) ?_
        exact lc_6 C hX hbl hbA hL (by omega) hR K
      · refine g_table C (tgt := 470) dL_law_40 (by decide) (by decide) rfl (by decide) ?_
        exact lc_7 C hX hbl hbA hL (by omega) hR K
      · refine g_table C (tgt := 561) dL_law_40 (by decide) (by decide) rfl (by decide) ?_
        exact lc_8 C hX hbl hbA hL (by omega) hR K
      · refine g_table C (tgt := 634) dL_law_40 (by decide) (by decide) rfl (by decide) ?_
        exact lc_9 C hX hbl hbA hL (by omega) hR K
      · refine g_table C (tgt := 714) dL_law_40 (by decide) (by decide) rfl (by decide) ?_
        exact lc_10 C hX hbl hbA hL (by omega) hR K
      · refine g_table C (tgt := 727) dL_law_40 (by decide) (by decide) rfl (by decide) ?_
        exact lc_11 C hX hbl hbA hL (by omega) hR K
      · refine g_table C (tgt := 795) dL_law_40 (by decide) (by decide) rfl (by decide) ?_
        exact lc_12 C hX hbl hbA hL (by omega) hR K
      · refine g_table C (tgt := 863) dL_law_40 (by decide) (by decide) rfl (by decide) ?_
        exact lc_13 C hX hbl hbA hL (by omega) hR K
      · refine g_table C (tgt := 943) dL_law_40 (by decide) (by decide) rfl (by decide) ?_
        exact lc_14 C hX hbl hbA hL (by omega) hR K
      · refine g_table C (tgt := 1011) dL_law_40 (by decide) (by decide) rfl (by decide) ?_
        exact lc_15 C hX hbl hbA hL (by omega) hR K
      · refine g_table C (tgt := 1079) dL_law_40 (by decide) (by decide) rfl (by decide) ?_
        exact lc_16 C hX hbl hbA hL (by omega) hR K
      · refine g_table C (tgt := 1147) dL_law_40 (by decide) (by decide) rfl (by decide) ?_
        exact lc_17 C hX hbl hbA hL (by omega) hR K
      · refine g_table C (tgt := 1231) dL_law_40 (by decide) (by decide) rfl (by decide) ?_
        exact lc_18 C hX hbl hbA hL (by omega) hR K
      · refine g_table C (tgt := 1287) dL_law_40 (by decide) (by decide) rfl (by decide) ?_
        exact lc_19 C hX hbl hbA hL (by omega) hR K
      · refine g_table C (tgt := 1312) dL_law_40 (by decide) (by decide) rfl (by decide) ?_
        exact lc_20 C hX hbl hbA hL (by omega) hR K
      · refine g_tableD C (tgt := 1368) dL_law_40 (by omega) (by omega) (by decide) ?_
        refine g_widen (k := 200 + 900 * (t + 1)) (n := 140000 + 5100 * (t + 1)) (by omega) (by omega) ?_
        exact K h f g N M P F G o rfl hR
