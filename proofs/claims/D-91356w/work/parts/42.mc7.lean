/-! ===== contracts of the model: the best way ===== -/
section MC7
set_option maxHeartbeats 4000000 in
set_option maxRecDepth 100000 in
theorem c_X3_tables (l : Launch) (D : va_G) (hst : l.stackTraces = false) (h : Nat → Nat) (f : Nat → Int) (g : Nat → Int → Int)  (hF : 1 ≤ f 2 ∧ f 2 ≤ 5) (hS : 2 ≤ f 3 ∧ f 3 ≤ 6) (hkd : ∀ j, 0 ≤ j → j < 6 → 0 ≤ g 12 j ∧ g 12 j ≤ 3) (hth : ∀ j, 0 ≤ j → j < 5 → 1 ≤ g 10 j ∧ g 10 j ≤ 50) (hht : ∀ j, 0 ≤ j → j < 6 → 0 ≤ g 11 j ∧ g 11 j ≤ 400) (hnp : 0 ≤ f 8 ∧ f 8 ≤ 55) (hpt : ∀ j, 0 ≤ j → j < f 8 → (0 ≤ g 14 j ∧ g 14 j ≤ 4) ∧ (0 ≤ g 15 j ∧ g 15 j ≤ 5) ∧ (0 ≤ g 16 j ∧ g 16 j ≤ 2) ∧ (0 ≤ g 17 j ∧ g 17 j ≤ 1)) (hb29 : ∀ j, 0 ≤ j → j < f 8 → 0 ≤ g 29 j ∧ g 29 j ≤ 55) : CT l D yX3_tables (ws_ yX3_tables cX3_tables 5 none) (rmD 3 0 0) (0) (0) va_A [.ref (h 36)] (mW D h f g) exT (pV fun w => ∃ y30 : Int → Int, ∃ y31 : Int → Int, ∃ y32 : Int → Int, (∀ k, 0 ≤ k → k < 480 → y30 k = ldT (f 2) (f 3) (g 12) (k / 8) (k % 8) ∧ (ldT (f 2) (f 3) (g 12) (k / 8) (k % 8) ≠ -1 → y31 k = leng (g 11) (g 10) (k / 8) (k % 8) ∧ y32 k = cvT (f 8) (g 14) (g 15) (g 16) (g 17) (g 29) (k / 8) (k % 8))) ∧ w = mW D h f (ug (ug (ug g 30 y30) 31 y31) 32 y32)) xN := by
  refine ct_U (lv := [(0, .ref (h 36))]) RX3 (by decide) rfl rfl hst (Nat.le_of_ble_eq_true rfl) rfl ?_
  intro p e s mm args below meth c A C htab hex hnm
  refine g_iconst C dX3_tables_0 ?_
  refine g_istore_n C dX3_tables_1 rfl (lv' := [(0, .ref (h 36)), (1, .int (iI 0))]) [1, 0] rfl (Nat.le_of_ble_eq_true rfl) ?_
  have L1 : ∀ (n : Nat) (a : Int) (y30 : Int → Int) (y31 : Int → Int) (y32 : Int → Int), (0 ≤ a ∧ a ≤ 60) → (∀ k, 0 ≤ k → k < 8 * a → y30 k = ldT (f 2) (f 3) (g 12) (k / 8) (k % 8) ∧ (ldT (f 2) (f 3) (g 12) (k / 8) (k % 8) ≠ -1 → y31 k = leng (g 11) (g 10) (k / 8) (k % 8) ∧ y32 k = cvT (f 8) (g 14) (g 15) (g 16) (g 17) (g 29) (k / 8) (k % 8))) → (60 - a).toNat < n → GO p l e (rmD 3 0 0) s mm args below meth c 5 D A A 0 0 (MX below D A (pV fun w => ∃ y30 : Int → Int, ∃ y31 : Int → Int, ∃ y32 : Int → Int, (∀ k, 0 ≤ k → k < 480 → y30 k = ldT (f 2) (f 3) (g 12) (k / 8) (k % 8) ∧ (ldT (f 2) (f 3) (g 12) (k / 8) (k % 8) ≠ -1 → y31 k = leng (g 11) (g 10) (k / 8) (k % 8) ∧ y32 k = cvT (f 8) (g 14) (g 15) (g 16) (g 17) (g 29) (k / 8) (k % 8))) ∧ w = mW D h f (ug (ug (ug g 30 y30) 31 y31) 32 y32)) xN args s (0) (0)) (mW D h f (ug (ug (ug g 30 y30) 31 y31) 32 y32)) 2 [(0, .ref (h 36)), (1, .int (iI a))] [] := by
    intro n
    induction n with
    | zero => intro a y30 y31 y32 ha hT hm; exact absurd hm (Nat.not_lt_zero _)
    | succ n ih1 =>
      intro a y30 y31 y32 ha hT hm1
      refine g_iload_n C dX3_tables_2 rfl 1 rfl ?_
      refine g_bipush C dX3_tables_3 (z := 60) rfl ?_
      refine g_icmp_ge C (tgt := 144) dX3_tables_5 (by decide) (by omega) (by omega) (fun hc5_2 => ?_) (fun hc5_2 => ?_)
      ·
        exact g_vret C dX3_tables_144 (Nat.le_of_ble_eq_true rfl) (Nat.le_of_ble_eq_true rfl) ⟨rfl, y30, y31, y32, (fun k h0 h1 => hT k h0 (by omega)), rfl⟩
      ·
        refine g_iconst C dX3_tables_8 ?_
        refine g_istore_n C dX3_tables_9 rfl (lv' := [(0, .ref (h 36)), (1, .int (iI a)), (2, .int (iI 0))]) [1, 2, 0] rfl (Nat.le_of_ble_eq_true rfl) ?_
        have L3 : ∀ (n : Nat) (m : Int) (y30 : Int → Int) (y31 : Int → Int) (y32 : Int → Int), (0 ≤ m ∧ m ≤ 8) → (∀ k, 0 ≤ k → k < 8 * a + m → y30 k = ldT (f 2) (f 3) (g 12) (k / 8) (k % 8) ∧ (ldT (f 2) (f 3) (g 12) (k / 8) (k % 8) ≠ -1 → y31 k = leng (g 11) (g 10) (k / 8) (k % 8) ∧ y32 k = cvT (f 8) (g 14) (g 15) (g 16) (g 17) (g 29) (k / 8) (k % 8))) → (8 - m).toNat < n → GO p l e (rmD 3 0 0) s mm args below meth c 5 D A A 0 0 (MX below D A (pV fun w => ∃ y30 : Int → Int, ∃ y31 : Int → Int, ∃ y32 : Int → Int, (∀ k, 0 ≤ k → k < 480 → y30 k = ldT (f 2) (f 3) (g 12) (k / 8) (k % 8) ∧ (ldT (f 2) (f 3) (g 12) (k / 8) (k % 8) ≠ -1 → y31 k = leng (g 11) (g 10) (k / 8) (k % 8) ∧ y32 k = cvT (f 8) (g 14) (g 15) (g 16) (g 17) (g 29) (k / 8) (k % 8))) ∧ w = mW D h f (ug (ug (ug g 30 y30) 31 y31) 32 y32)) xN args s (0) (0)) (mW D h f (ug (ug (ug g 30 y30) 31 y31) 32 y32)) 10 [(0, .ref (h 36)), (1, .int (iI a)), (2, .int (iI m))] [] := by
          intro n
          induction n with
          | zero => intro m y30 y31 y32 hm hT2 hm; exact absurd hm (Nat.not_lt_zero _)
          | succ n ih3 =>
            intro m y30 y31 y32 hm hT2 hm3
            refine g_iload_n C dX3_tables_10 rfl 2 rfl ?_
            refine g_bipush C dX3_tables_11 (z := 8) rfl ?_
            refine g_icmp_ge C (tgt := 138) dX3_tables_13 (by decide) (by omega) (by omega) (fun hc13_4 => ?_) (fun hc13_4 => ?_)
            ·
              refine g_iinc C dX3_tables_138 1 rfl (lv' := [(0, .ref (h 36)), (1, .int (iI (a + 1))), (2, .int (iI m))]) [1, 0, 2] rfl (Nat.le_of_ble_eq_true rfl) ?_
              refine g_goto C (tgt := 2) dX3_tables_141 (by decide) ?_
              refine g_lv [0, 1] rfl ?_
              exact ih1 (a + 1) y30 y31 y32 (by omega) (fun k h0 h1 => hT2 k h0 (by omega)) (by omega)
            ·
              refine g_bipush C dX3_tables_16 (z := 8) rfl ?_
              refine g_iload_n C dX3_tables_18 rfl 1 rfl ?_
              refine g_imul C dX3_tables_19 ?_
              refine g_iload_n C dX3_tables_20 rfl 2 rfl ?_
              refine g_iadd C dX3_tables_21 ?_
              refine g_istore_n C dX3_tables_22 rfl (lv' := [(0, .ref (h 36)), (1, .int (iI a)), (2, .int (iI m)), (3, .int (iI ((8 * a) + m)))]) [1, 2, 3, 0] rfl (Nat.le_of_ble_eq_true rfl) ?_
              have hkd8 : (8 * a + m) / 8 = a := by omega
              have hkm8 : (8 * a + m) % 8 = m := by omega
              refine g_aload_n C dX3_tables_23 rfl 0 rfl ?_
              refine gm_get30 C dX3_tables_24 ?_
              refine g_iload_n C dX3_tables_27 rfl 3 rfl ?_
              have J5 : ∀ (lv_ : Int), (lv_ = ldT (f 2) (f 3) (g 12) a m) → GO p l e (rmD 3 0 0) s mm args below meth c 5 D A A 0 0 (MX below D A (pV fun w => ∃ y30 : Int → Int, ∃ y31 : Int → Int, ∃ y32 : Int → Int, (∀ k, 0 ≤ k → k < 480 → y30 k = ldT (f 2) (f 3) (g 12) (k / 8) (k % 8) ∧ (ldT (f 2) (f 3) (g 12) (k / 8) (k % 8) ≠ -1 → y31 k = leng (g 11) (g 10) (k / 8) (k % 8) ∧ y32 k = cvT (f 8) (g 14) (g 15) (g 16) (g 17) (g 29) (k / 8) (k % 8))) ∧ w = mW D h f (ug (ug (ug g 30 y30) 31 y31) 32 y32)) xN args s (0) (0)) (mW D h f (ug (ug (ug g 30 y30) 31 y31) 32 y32)) 60 [(0, .ref (h 36)), (1, .int (iI a)), (2, .int (iI m)), (3, .int (iI ((8 * a) + m)))] [.int (iI lv_), .int (iI ((8 * a) + m)), .ref (h 30)] := by
                intro lv_ hlv
                have hlr : -1 ≤ lv_ ∧ lv_ < 60 := by rw [hlv]; unfold ldT; split; exact lead_rg hF hS (by omega) (by omega); omega
                refine gm_ast30 C (g' := (ug (ug (ug g 30 (uI y30 ((8 * a) + m) lv_)) 31 y31) 32 y32)) rfl dX3_tables_60 (by omega) ?_
                refine g_aload_n C dX3_tables_61 rfl 0 rfl ?_
                refine gm_get30 C dX3_tables_62 ?_
                refine g_iload_n C dX3_tables_65 rfl 3 rfl ?_
                refine gm_ald30 C (v := (uI y30 ((8 * a) + m) lv_) ((8 * a) + m)) rfl dX3_tables_66 (by omega) ?_
                have hu : uI y30 (8 * a + m) lv_ (8 * a + m) = lv_ := uI_s
                refine g_iconst C dX3_tables_67 ?_
                refine g_icmp_ne C (tgt := 74) dX3_tables_68 (by decide) (by omega) (by omega) (fun hc68_6 => ?_) (fun hc68_6 => ?_)
                ·
                  have hln := ldT_ne (F := f 2) (S := f 3) (kd := g 12) (p := a) (m := m) (by omega)
                  refine g_aload_n C dX3_tables_74 rfl 0 rfl ?_
                  refine g_iload_n C dX3_tables_75 rfl 1 rfl ?_
                  refine g_iload_n C dX3_tables_76 rfl 2 rfl ?_
                  refine kX3_X3_alongOf a m C hnp hpt (by omega) (by omega) ⟨Nat.le_of_ble_eq_true rfl, Nat.le_of_ble_eq_true rfl⟩ (Nat.le_of_ble_eq_true rfl) ⟨Nat.le_of_ble_eq_true rfl, Nat.le_of_ble_eq_true rfl⟩ (rv := alg (f 8) (g 14) (g 15) (g 16) a m) rfl dX3_tables_77 ?_
                  refine g_istore C dX3_tables_80 (lv' := [(0, .ref (h 36)), (1, .int (iI a)), (2, .int (iI m)), (3, .int (iI ((8 * a) + m))), (4, .int (iI (alg (f 8) (g 14) (g 15) (g 16) a m)))]) [1, 2, 3, 4, 0] rfl (Nat.le_of_ble_eq_true rfl) ?_
                  refine g_aload_n C dX3_tables_82 rfl 0 rfl ?_
                  refine gm_get31 C dX3_tables_83 ?_
                  refine g_iload_n C dX3_tables_86 rfl 3 rfl ?_
                  refine g_aload_n C dX3_tables_87 rfl 0 rfl ?_
                  refine g_iload_n C dX3_tables_88 rfl 1 rfl ?_
                  refine g_iload_n C dX3_tables_89 rfl 2 rfl ?_
                  refine kX3_X3_longOf a m C hF hS hth hht (by omega) (by omega) (show lead (f 2) (f 3) (g 12) a m ≠ -1 by omega) (show a / 2 / 6 < f 2 by omega) (show a / 2 % 6 < f 3 by omega) ⟨Nat.le_of_ble_eq_true rfl, Nat.le_of_ble_eq_true rfl⟩ (Nat.le_of_ble_eq_true rfl) ⟨Nat.le_of_ble_eq_true rfl, Nat.le_of_ble_eq_true rfl⟩ (rv := leng (g 11) (g 10) a m) rfl dX3_tables_90 ?_
                  refine gm_ast31 C (g' := (ug (ug (ug g 30 (uI y30 ((8 * a) + m) lv_)) 31 (uI y31 ((8 * a) + m) (leng (g 11) (g 10) a m))) 32 y32)) rfl dX3_tables_93 (by omega) ?_
                  have hal := alg_rg (np := f 8) (pf := g 14) (ps := g 15) (pk := g 16) (p := a) (m := m) hnp.1
                  refine g_aload_n C dX3_tables_94 rfl 0 rfl ?_
                  refine gm_get32 C dX3_tables_95 ?_
                  refine g_iload_n C dX3_tables_98 rfl 3 rfl ?_
                  have J7 : ∀ (cv_ : Int), (cv_ = cvT (f 8) (g 14) (g 15) (g 16) (g 17) (g 29) a m) → GO p l e (rmD 3 0 0) s mm args below meth c 5 D A A 0 0 (MX below D A (pV fun w => ∃ y30 : Int → Int, ∃ y31 : Int → Int, ∃ y32 : Int → Int, (∀ k, 0 ≤ k → k < 480 → y30 k = ldT (f 2) (f 3) (g 12) (k / 8) (k % 8) ∧ (ldT (f 2) (f 3) (g 12) (k / 8) (k % 8) ≠ -1 → y31 k = leng (g 11) (g 10) (k / 8) (k % 8) ∧ y32 k = cvT (f 8) (g 14) (g 15) (g 16) (g 17) (g 29) (k / 8) (k % 8))) ∧ w = mW D h f (ug (ug (ug g 30 y30) 31 y31) 32 y32)) xN args s (0) (0)) (mW D h f (ug (ug (ug g 30 (uI y30 ((8 * a) + m) lv_)) 31 (uI y31 ((8 * a) + m) (leng (g 11) (g 10) a m))) 32 y32)) 131 [(0, .ref (h 36)), (1, .int (iI a)), (2, .int (iI m)), (3, .int (iI ((8 * a) + m))), (4, .int (iI (alg (f 8) (g 14) (g 15) (g 16) a m)))] [.int (iI cv_), .int (iI ((8 * a) + m)), .ref (h 32)] := by
                    intro cv_ hcv
                    refine gm_ast32 C (g' := (ug (ug (ug g 30 (uI y30 ((8 * a) + m) lv_)) 31 (uI y31 ((8 * a) + m) (leng (g 11) (g 10) a m))) 32 (uI y32 ((8 * a) + m) cv_))) rfl dX3_tables_131 (by omega) ?_
                    refine g_iinc C dX3_tables_132 2 rfl (lv' := [(0, .ref (h 36)), (1, .int (iI a)), (2, .int (iI (m + 1))), (3, .int (iI ((8 * a) + m))), (4, .int (iI (alg (f 8) (g 14) (g 15) (g 16) a m)))]) [1, 2, 0, 3, 4] rfl (Nat.le_of_ble_eq_true rfl) ?_
                    refine g_goto C (tgt := 10) dX3_tables_135 (by decide) ?_
                    refine g_lv [0, 1, 2] rfl ?_
                    exact ih3 (m + 1) (uI y30 ((8 * a) + m) lv_) (uI y31 ((8 * a) + m) (leng (g 11) (g 10) a m)) (uI y32 ((8 * a) + m) cv_) (by omega) (fun k h0 h1 => uI3 (P := (fun k a b c => a = ldT (f 2) (f 3) (g 12) (k / 8) (k % 8) ∧ (ldT (f 2) (f 3) (g 12) (k / 8) (k % 8) ≠ -1 → b = leng (g 11) (g 10) (k / 8) (k % 8) ∧ c = cvT (f 8) (g 14) (g 15) (g 16) (g 17) (g 29) (k / 8) (k % 8)))) hT2 ⟨by rw [hkd8, hkm8]; exact hlv, fun q => ⟨by rw [hkd8, hkm8], by rw [hkd8, hkm8]; exact hcv⟩⟩ k h0 (by omega)) (by omega)
                  refine g_iload C dX3_tables_99 4 rfl ?_
                  refine g_iconst C dX3_tables_101 ?_
                  refine g_icmp_ne C (tgt := 109) dX3_tables_102 (by decide) (by omega) (by omega) (fun hc102_8 => ?_) (fun hc102_8 => ?_)
                  ·
                    refine g_aload_n C dX3_tables_109 rfl 0 rfl ?_
                    refine gm_get17 C dX3_tables_110 ?_
                    refine g_iload C dX3_tables_113 4 rfl ?_
                    refine gm_ald17 C (v := (g 17) (alg (f 8) (g 14) (g 15) (g 16) a m)) rfl dX3_tables_115 (by omega) ?_
                    have hf9 := hpt (alg (f 8) (g 14) (g 15) (g 16) a m) (by omega) (by omega)
                    refine g_if_eq C (tgt := 129) dX3_tables_116 (by decide) (by omega) (fun hc116_10 => ?_) (fun hc116_10 => ?_)
                    ·
                      refine g_bipush C dX3_tables_129 (z := -2) rfl ?_
                      exact J7 (-2) (by unfold cvT; rw [if_neg (by omega), if_neg (fun z => z (by omega))])
                    ·
                      refine g_aload_n C dX3_tables_119 rfl 0 rfl ?_
                      refine gm_get29 C dX3_tables_120 ?_
                      refine g_iload C dX3_tables_123 4 rfl ?_
                      refine gm_ald29 C (v := (g 29) (alg (f 8) (g 14) (g 15) (g 16) a m)) rfl dX3_tables_125 (by omega) ?_
                      have hf11 := hb29 (alg (f 8) (g 14) (g 15) (g 16) a m) (by omega) (by omega)
                      refine g_goto C (tgt := 131) dX3_tables_126 (by decide) ?_
                      exact J7 ((g 29) (alg (f 8) (g 14) (g 15) (g 16) a m)) (by unfold cvT; rw [if_neg (by omega), if_pos (by omega)])
                  ·
                    refine g_iconst C dX3_tables_105 ?_
                    refine g_goto C (tgt := 131) dX3_tables_106 (by decide) ?_
                    exact J7 (-1) (by unfold cvT; rw [if_pos (by omega)])
                ·
                  refine g_goto C (tgt := 132) dX3_tables_71 (by decide) ?_
                  refine g_iinc C dX3_tables_132 2 rfl (lv' := [(0, .ref (h 36)), (1, .int (iI a)), (2, .int (iI (m + 1))), (3, .int (iI ((8 * a) + m)))]) [1, 2, 0, 3] rfl (Nat.le_of_ble_eq_true rfl) ?_
                  refine g_goto C (tgt := 10) dX3_tables_135 (by decide) ?_
                  refine g_lv [0, 1, 2] rfl ?_
                  exact ih3 (m + 1) (uI y30 ((8 * a) + m) lv_) y31 y32 (by omega) (fun k h0 h1 => uI31 (P := (fun k a b c => a = ldT (f 2) (f 3) (g 12) (k / 8) (k % 8) ∧ (ldT (f 2) (f 3) (g 12) (k / 8) (k % 8) ≠ -1 → b = leng (g 11) (g 10) (k / 8) (k % 8) ∧ c = cvT (f 8) (g 14) (g 15) (g 16) (g 17) (g 29) (k / 8) (k % 8)))) hT2 ⟨by rw [hkd8, hkm8]; exact hlv, fun q => absurd (by rw [hkd8, hkm8] at q; omega) q⟩ k h0 (by omega)) (by omega)
              refine g_iload_n C dX3_tables_28 rfl 1 rfl ?_
              refine kX3_X3_foldOf a C (by omega) ⟨Nat.le_of_ble_eq_true rfl, Nat.le_of_ble_eq_true rfl⟩ (Nat.le_of_ble_eq_true rfl) ⟨Nat.le_of_ble_eq_true rfl, Nat.le_of_ble_eq_true rfl⟩ (rv := a / 2 / 6) rfl dX3_tables_29 ?_
              refine g_aload_n C dX3_tables_32 rfl 0 rfl ?_
              refine gm_get2 C (v := f 2) rfl dX3_tables_33 ?_
              refine g_icmp_ge C (tgt := 59) dX3_tables_36 (by decide) (by omega) (by omega) (fun hc36_12 => ?_) (fun hc36_12 => ?_)
              ·
                refine g_iconst C dX3_tables_59 ?_
                exact J5 (-1) (by unfold ldT; rw [if_neg (by omega)])
              ·
                refine g_iload_n C dX3_tables_39 rfl 1 rfl ?_
                refine kX3_X3_stationOf a C (by omega) ⟨Nat.le_of_ble_eq_true rfl, Nat.le_of_ble_eq_true rfl⟩ (Nat.le_of_ble_eq_true rfl) ⟨Nat.le_of_ble_eq_true rfl, Nat.le_of_ble_eq_true rfl⟩ (rv := a / 2 % 6) rfl dX3_tables_40 ?_
                refine g_aload_n C dX3_tables_43 rfl 0 rfl ?_
                refine gm_get3 C (v := f 3) rfl dX3_tables_44 ?_
                refine g_icmp_ge C (tgt := 59) dX3_tables_47 (by decide) (by omega) (by omega) (fun hc47_13 => ?_) (fun hc47_13 => ?_)
                ·
                  refine g_iconst C dX3_tables_59 ?_
                  exact J5 (-1) (by unfold ldT; rw [if_neg (by omega)])
                ·
                  refine g_aload_n C dX3_tables_50 rfl 0 rfl ?_
                  refine g_iload_n C dX3_tables_51 rfl 1 rfl ?_
                  refine g_iload_n C dX3_tables_52 rfl 2 rfl ?_
                  refine kX3_X3_moved a m C hF hS hkd (by omega) (by omega) ⟨Nat.le_of_ble_eq_true rfl, Nat.le_of_ble_eq_true rfl⟩ (Nat.le_of_ble_eq_true rfl) ⟨Nat.le_of_ble_eq_true rfl, Nat.le_of_ble_eq_true rfl⟩ (rv := lead (f 2) (f 3) (g 12) a m) rfl dX3_tables_53 ?_
                  refine g_goto C (tgt := 60) dX3_tables_56 (by decide) ?_
                  exact J5 (lead (f 2) (f 3) (g 12) a m) (by unfold ldT; rw [if_pos (by omega)])
        exact L3 _ 0 y30 y31 y32 (by omega) (fun k h0 h1 => hT k h0 (by omega)) (Nat.lt_succ_self _)
  exact L1 _ 0 (g 30) (g 31) (g 32) (by omega) (fun k h0 h1 => absurd h1 (by omega)) (Nat.lt_succ_self _)

section MK
variable {p : Program} {l : Launch} {e : Env} {R : Room} {s : State} {mm : MethodId} {args : Array Value} {below : List Frame} {meth : Method} {c : Code} {cc : ByteArray} {nL : Nat} {ret : Option FieldType} {D : va_G} {A B : Nat → Prop} {cells slots : Nat} {Q : State → Prop} {pc : Nat} {lv : List (Nat × Value)} {st : List Value}
theorem kX3_X3_tables {h : Nat → Nat} {f : Nat → Int} {g : Nat → Int → Int}  (C : CX p l s mm args meth c RX3 cc nL ret D A) (hF : 1 ≤ f 2 ∧ f 2 ≤ 5) (hS : 2 ≤ f 3 ∧ f 3 ≤ 6) (hkd : ∀ j, 0 ≤ j → j < 6 → 0 ≤ g 12 j ∧ g 12 j ≤ 3) (hth : ∀ j, 0 ≤ j → j < 5 → 1 ≤ g 10 j ∧ g 10 j ≤ 50) (hht : ∀ j, 0 ≤ j → j < 6 → 0 ≤ g 11 j ∧ g 11 j ≤ 400) (hnp : 0 ≤ f 8 ∧ f 8 ≤ 55) (hpt : ∀ j, 0 ≤ j → j < f 8 → (0 ≤ g 14 j ∧ g 14 j ≤ 4) ∧ (0 ≤ g 15 j ∧ g 15 j ≤ 5) ∧ (0 ≤ g 16 j ∧ g 16 j ≤ 2) ∧ (0 ≤ g 17 j ∧ g 17 j ≤ 1)) (hb29 : ∀ j, 0 ≤ j → j < f 8 → 0 ≤ g 29 j ∧ g 29 j ≤ 55) (hR : 3 + 1 ≤ R.frames ∧ 8 + (5 + 11) + 64 * 3 ≤ R.locals) (hcat : (st.map fun v => v.category).sum ≤ 8) (hroom : cells ≤ R.cells ∧ slots ≤ R.slots) (d : decode cc pc = .ok (.invokevirtual 206, 3)) (K : ∀ (y30 : Int → Int) (y31 : Int → Int) (y32 : Int → Int) , (∀ k, 0 ≤ k → k < 480 → y30 k = ldT (f 2) (f 3) (g 12) (k / 8) (k % 8) ∧ (ldT (f 2) (f 3) (g 12) (k / 8) (k % 8) ≠ -1 → y31 k = leng (g 11) (g 10) (k / 8) (k % 8) ∧ y32 k = cvT (f 8) (g 14) (g 15) (g 16) (g 17) (g 29) (k / 8) (k % 8))) → GO p l e R s mm args below meth c nL D A A cells slots Q (mW D h f (ug (ug (ug g 30 y30) 31 y31) 32 y32)) (pc + 3) lv (st)) : GO p l e R s mm args below meth c nL D A A cells slots Q (mW D h f g) (pc) lv (.ref (h 36) :: st) := by
  refine g_callVU C (c_X3_tables l D C.hl h f g  hF hS hkd hth hht hnp hpt hb29) (As := []) (n := 0) (lw_V q1264 q1266 qs43 q69 q1267) (by decide +kernel) rfl rfl hR (rcv C 0 rfl rfl rfl) rfl rfl hcat ⟨hroom.1, hroom.2⟩ d (wr := []) Sb.rf exT_b hex_t (fun v w hp => ?_) kx_nu
  obtain ⟨rfl, y30, y31, y32, h0_, rfl⟩ := hp
  exact K y30 y31 y32 h0_
end MK

set_option maxHeartbeats 4000000 in
set_option maxRecDepth 100000 in
theorem c_X3_behind (l : Launch) (D : va_G) (hst : l.stackTraces = false) (st_ cv cl : Int) (hs : 0 ≤ st_ ∧ st_ < 1024) (hc : -2 ≤ cv ∧ cv < 10) (hcl : 0 ≤ cl ∧ cl ≤ 1) : CT l D yX3_behind (ws_ yX3_behind cX3_behind 3 (some .int)) (rmD 0 0 0) (0) (0) mdR [.int (iI st_), .int (iI cv), .int (iI cl)] ([]) exT (pI fun z _ => z = bhd st_ cv cl) xN := by
  refine ct_R (lv := [(0, .int (iI st_)), (1, .int (iI cv)), (2, .int (iI cl))]) RX3 (by decide) rfl rfl hst (Nat.le_of_ble_eq_true rfl) rfl ?_
  intro p e s mm args below meth c A C htab hex
  refine g_iload_n C dX3_behind_0 rfl 1 rfl ?_
  refine g_iconst C dX3_behind_1 ?_
  refine g_icmp_ne C (tgt := 7) dX3_behind_2 (by decide) (by omega) (by omega) (fun hc2_1 => ?_) (fun hc2_1 => ?_)
  ·
    refine g_iload_n C dX3_behind_7 rfl 1 rfl ?_
    refine g_bipush C dX3_behind_8 (z := -2) rfl ?_
    refine g_icmp_ne C (tgt := 23) dX3_behind_10 (by decide) (by omega) (by omega) (fun hc10_2 => ?_) (fun hc10_2 => ?_)
    ·
      refine g_iload_n C dX3_behind_23 rfl 2 rfl ?_
      refine g_if_eq C (tgt := 40) dX3_behind_24 (by decide) (by omega) (fun hc24_3 => ?_) (fun hc24_3 => ?_)
      ·
        refine g_iload_n C dX3_behind_40 rfl 0 rfl ?_
        refine g_iconst C dX3_behind_41 ?_
        refine g_iload_n C dX3_behind_42 rfl 1 rfl ?_
        refine g_ishl C dX3_behind_43 (z := shlI 1 cv) (iI_of _).symm ?_
        refine g_ior C dX3_behind_44 (z := orI st_ (shlI 1 cv)) (iI_of _).symm ?_
        refine g_nilA ?_
        exact g_iret C dX3_behind_45 rfl (Nat.le_of_ble_eq_true rfl) (Nat.le_of_ble_eq_true rfl) ⟨_, rfl, by unfold bhd; rw [if_neg (by omega), if_neg (by omega)]; first | rw [if_pos (by omega)] | rw [if_neg (by omega)]⟩
      ·
        refine g_iload_n C dX3_behind_27 rfl 0 rfl ?_
        refine g_iload_n C dX3_behind_28 rfl 1 rfl ?_
        refine g_ishr C dX3_behind_29 (z := shrI st_ cv) (iI_of _).symm ?_
        refine g_iconst C dX3_behind_30 ?_
        refine g_iand C dX3_behind_31 (z := andI (shrI st_ cv) 1) (iI_of _).symm ?_
        have ha1 := andI_1 (shrI st_ cv)
        refine g_iconst C dX3_behind_32 ?_
        refine g_icmp_ne C (tgt := 40) dX3_behind_33 (by decide) (by omega) (by omega) (fun hc33_4 => ?_) (fun hc33_4 => ?_)
        ·
          refine g_iload_n C dX3_behind_40 rfl 0 rfl ?_
          refine g_iconst C dX3_behind_41 ?_
          refine g_iload_n C dX3_behind_42 rfl 1 rfl ?_
          refine g_ishl C dX3_behind_43 (z := shlI 1 cv) (iI_of _).symm ?_
          refine g_ior C dX3_behind_44 (z := orI st_ (shlI 1 cv)) (iI_of _).symm ?_
          refine g_nilA ?_
          exact g_iret C dX3_behind_45 rfl (Nat.le_of_ble_eq_true rfl) (Nat.le_of_ble_eq_true rfl) ⟨_, rfl, by unfold bhd; rw [if_neg (by omega), if_neg (by omega)]; first | rw [if_pos (by omega)] | rw [if_neg (by omega)]⟩
        ·
          refine g_iconst C dX3_behind_36 ?_
          refine g_goto C (tgt := 45) dX3_behind_37 (by decide) ?_
          refine g_nilA ?_
          exact g_iret C dX3_behind_45 rfl (Nat.le_of_ble_eq_true rfl) (Nat.le_of_ble_eq_true rfl) ⟨_, rfl, by unfold bhd; rw [if_neg (by omega), if_neg (by omega)]; first | rw [if_pos (by omega)] | rw [if_neg (by omega)]⟩
    ·
      refine g_iload_n C dX3_behind_13 rfl 2 rfl ?_
      refine g_if_eq C (tgt := 21) dX3_behind_14 (by decide) (by omega) (fun hc14_5 => ?_) (fun hc14_5 => ?_)
      ·
        refine g_iload_n C dX3_behind_21 rfl 0 rfl ?_
        refine g_nilA ?_
        exact g_iret C dX3_behind_22 rfl (Nat.le_of_ble_eq_true rfl) (Nat.le_of_ble_eq_true rfl) ⟨_, rfl, by unfold bhd; rw [if_neg (by omega), if_pos (by omega)]; first | rw [if_pos (by omega)] | rw [if_neg (by omega)]⟩
      ·
        refine g_iconst C dX3_behind_17 ?_
        refine g_goto C (tgt := 22) dX3_behind_18 (by decide) ?_
        refine g_nilA ?_
        exact g_iret C dX3_behind_22 rfl (Nat.le_of_ble_eq_true rfl) (Nat.le_of_ble_eq_true rfl) ⟨_, rfl, by unfold bhd; rw [if_neg (by omega), if_pos (by omega)]; first | rw [if_pos (by omega)] | rw [if_neg (by omega)]⟩
  ·
    refine g_iload_n C dX3_behind_5 rfl 0 rfl ?_
    refine g_nilA ?_
    exact g_iret C dX3_behind_6 rfl (Nat.le_of_ble_eq_true rfl) (Nat.le_of_ble_eq_true rfl) ⟨_, rfl, by unfold bhd; rw [if_pos (by omega)]⟩

section MK
variable {p : Program} {l : Launch} {e : Env} {R : Room} {s : State} {mm : MethodId} {args : Array Value} {below : List Frame} {meth : Method} {c : Code} {cc : ByteArray} {nL : Nat} {ret : Option FieldType} {D : va_G} {A B : Nat → Prop} {cells slots : Nat} {Q : State → Prop} {pc : Nat} {lv : List (Nat × Value)} {st : List Value}
theorem kX3_X3_behind {ws : va_W} (st_ cv cl : Int) (C : CX p l s mm args meth c RX3 cc nL ret D A) (hs : 0 ≤ st_ ∧ st_ < 1024) (hc : -2 ≤ cv ∧ cv < 10) (hcl : 0 ≤ cl ∧ cl ≤ 1) (hR : 0 + 1 ≤ R.frames ∧ 8 + (3 + 11) + 64 * 0 ≤ R.locals) (hcat : (st.map fun v => v.category).sum ≤ 8) (hroom : cells ≤ R.cells ∧ slots ≤ R.slots) {rv : Int} (hr : bhd st_ cv cl = rv) (d : decode cc pc = .ok (.invokestatic 200, 3)) (K : GO p l e R s mm args below meth c nL D A B cells slots Q (ws) (pc + 3) lv (.int (iI rv) :: st)) : GO p l e R s mm args below meth c nL D A B cells slots Q (ws) (pc) lv (.int (iI cl) :: .int (iI cv) :: .int (iI st_) :: st) := by
  refine g_callSR C (c_X3_behind l D C.hl st_ cv cl hs hc hcl) (As := [.int (iI st_), .int (iI cv), .int (iI cl)]) (n := 3) (lw_S q1277 q1278 q69 q1279) (by decide +kernel) rfl rfl hR rfl rfl hcat ⟨hroom.1, hroom.2⟩ d Sb.nil exT_b hex_t (fun v w hp => ?_) kx_n
  obtain ⟨z, rfl, rfl⟩ := hp
  rw [hr]
  exact K
end MK
set_option maxHeartbeats 4000000 in
set_option maxRecDepth 100000 in
theorem c_X3_best_2 (l : Launch) (D : va_G) (hst : l.stackTraces = false) (h : Nat → Nat) (f : Nat → Int) (g : Nat → Int → Int) (nb : Nat) (a st_ cl : Int) (hnb : nb ≤ 10) (hTB : TBok nb (g 30) (g 31) (g 32)) (hV : ∀ q, 0 ≤ q → q < 60 * 2 ^ nb → 0 ≤ g 28 q ∧ g 28 q ≤ 1073741824) (ha : 0 ≤ a ∧ a < 60) (hse : 0 ≤ st_ ∧ st_ < 2 ^ nb) (hcl : 0 ≤ cl ∧ cl ≤ 1) : CT l D yX3_best_2 (ws_ yX3_best_2 cX3_best_2 9 (some .int)) (rmD 1 0 0) (0) (0) va_A [.ref (h 36), .int (iI a), .int (iI st_), .int (iI cl)] (mW D h f g) exT (pI fun z w => z = bstM 1073741824 2048 (g 28) (g 30) (g 31) (g 32) cl st_ a 8 ∧ w = mW D h (up f 33 (fstM 1073741824 2048 (g 28) (g 30) (g 31) (g 32) cl st_ a (f 33) 8)) g) xN := by
  refine ct_U (lv := [(0, .ref (h 36)), (1, .int (iI a)), (2, .int (iI st_)), (3, .int (iI cl))]) RX3 (by decide) rfl rfl hst (Nat.le_of_ble_eq_true rfl) rfl ?_
  intro p e s mm args below meth c A C htab hex hnm
  have hp2 := p2_le hnb
  refine g_ldc C q1272 dX3_best_2_0 (z := 1073741824) rfl ?_
  refine g_istore C dX3_best_2_2 (lv' := [(0, .ref (h 36)), (1, .int (iI a)), (2, .int (iI st_)), (3, .int (iI cl)), (4, .int (iI 1073741824))]) [1, 2, 3, 4, 0] rfl (Nat.le_of_ble_eq_true rfl) ?_
  refine g_iconst C dX3_best_2_4 ?_
  refine g_istore C dX3_best_2_5 (lv' := [(0, .ref (h 36)), (1, .int (iI a)), (2, .int (iI st_)), (3, .int (iI cl)), (4, .int (iI 1073741824)), (5, .int (iI 0))]) [1, 2, 3, 4, 5, 0] rfl (Nat.le_of_ble_eq_true rfl) ?_
  have L1 : ∀ (n : Nat) (m : Int) (le : Int) (fi : Int), (0 ≤ m ∧ m ≤ 8) → (le = bstM 1073741824 2048 (g 28) (g 30) (g 31) (g 32) cl st_ a m.toNat) → (fi = fstM 1073741824 2048 (g 28) (g 30) (g 31) (g 32) cl st_ a (f 33) m.toNat) → (8 - m).toNat < n → GO p l e (rmD 1 0 0) s mm args below meth c 9 D A A 0 0 (MX below D A (pI fun z w => z = bstM 1073741824 2048 (g 28) (g 30) (g 31) (g 32) cl st_ a 8 ∧ w = mW D h (up f 33 (fstM 1073741824 2048 (g 28) (g 30) (g 31) (g 32) cl st_ a (f 33) 8)) g) xN args s (0) (0)) (mW D h (up f 33 fi) g) 7 [(0, .ref (h 36)), (1, .int (iI a)), (2, .int (iI st_)), (3, .int (iI cl)), (4, .int (iI le)), (5, .int (iI m))] [] := by
    intro n
    induction n with
    | zero => intro m le fi hm hle hfi hm; exact absurd hm (Nat.not_lt_zero _)
    | succ n ih1 =>
      intro m le fi hm hle hfi hm1
      have hl1 : le ≤ 1073741824 := by rw [hle]; exact bst_le' _
      have hl0 : 0 ≤ le := by rw [hle]; exact bst_nn (by omega) (by omega) hnb hTB hse ha hV _ (by omega)
      refine g_iload C dX3_best_2_7 5 rfl ?_
      refine g_bipush C dX3_best_2_9 (z := 8) rfl ?_
      refine g_icmp_ge C (tgt := 143) dX3_best_2_11 (by decide) (by omega) (by omega) (fun hc11_2 => ?_) (fun hc11_2 => ?_)
      ·
        have em : m = 8 := by omega
        subst em
        refine g_iload C dX3_best_2_143 4 rfl ?_
        exact g_iret C dX3_best_2_145 rfl (Nat.le_of_ble_eq_true rfl) (Nat.le_of_ble_eq_true rfl) ⟨_, rfl, hle, (by rw [hfi]; rfl)⟩
      ·
        refine g_bipush C dX3_best_2_14 (z := 8) rfl ?_
        refine g_iload_n C dX3_best_2_16 rfl 1 rfl ?_
        refine g_imul C dX3_best_2_17 ?_
        refine g_iload C dX3_best_2_18 5 rfl ?_
        refine g_iadd C dX3_best_2_20 ?_
        refine g_istore C dX3_best_2_21 (lv' := [(0, .ref (h 36)), (1, .int (iI a)), (2, .int (iI st_)), (3, .int (iI cl)), (4, .int (iI le)), (5, .int (iI m)), (6, .int (iI ((8 * a) + m)))]) [1, 2, 3, 4, 5, 6, 0] rfl (Nat.le_of_ble_eq_true rfl) ?_
        have htb := hTB (8 * a + m) (by omega) (by omega)
        refine g_aload_n C dX3_best_2_23 rfl 0 rfl ?_
        refine gm_get30 C dX3_best_2_24 ?_
        refine g_iload C dX3_best_2_27 6 rfl ?_
        refine gm_ald30 C (v := (g 30) ((8 * a) + m)) rfl dX3_best_2_29 (by omega) ?_
        refine g_iconst C dX3_best_2_30 ?_
        refine g_icmp_ne C (tgt := 37) dX3_best_2_31 (by decide) (by omega) (by omega) (fun hc31_3 => ?_) (fun hc31_3 => ?_)
        ·
          have htc := htb.2 (by omega)
          refine g_iload_n C dX3_best_2_37 rfl 2 rfl ?_
          refine g_aload_n C dX3_best_2_38 rfl 0 rfl ?_
          refine gm_get32 C dX3_best_2_39 ?_
          refine g_iload C dX3_best_2_42 6 rfl ?_
          refine gm_ald32 C (v := (g 32) ((8 * a) + m)) rfl dX3_best_2_44 (by omega) ?_
          refine g_iload_n C dX3_best_2_45 rfl 3 rfl ?_
          refine kX3_X3_behind st_ ((g 32) ((8 * a) + m)) cl C (by omega) (by omega) hcl ⟨Nat.le_of_ble_eq_true rfl, Nat.le_of_ble_eq_true rfl⟩ (Nat.le_of_ble_eq_true rfl) ⟨Nat.le_of_ble_eq_true rfl, Nat.le_of_ble_eq_true rfl⟩ (rv := bhd st_ ((g 32) ((8 * a) + m)) cl) rfl dX3_best_2_46 ?_
          refine g_istore C dX3_best_2_49 (lv' := [(0, .ref (h 36)), (1, .int (iI a)), (2, .int (iI st_)), (3, .int (iI cl)), (4, .int (iI le)), (5, .int (iI m)), (6, .int (iI ((8 * a) + m))), (7, .int (iI (bhd st_ ((g 32) ((8 * a) + m)) cl)))]) [1, 2, 3, 4, 5, 6, 7, 0] rfl (Nat.le_of_ble_eq_true rfl) ?_
          have hbr := bhd_rg (set := st_) (cv := g 32 (8 * a + m)) (cl := cl) hnb hse htc.2
          refine g_iload C dX3_best_2_51 7 rfl ?_
          refine g_iconst C dX3_best_2_53 ?_
          refine g_icmp_eq C (tgt := 137) dX3_best_2_54 (by decide) (by omega) (by omega) (fun hc54_4 => ?_) (fun hc54_4 => ?_)
          ·
            refine g_iinc C dX3_best_2_137 5 rfl (lv' := [(0, .ref (h 36)), (1, .int (iI a)), (2, .int (iI st_)), (3, .int (iI cl)), (4, .int (iI le)), (5, .int (iI (m + 1))), (6, .int (iI ((8 * a) + m))), (7, .int (iI (bhd st_ ((g 32) ((8 * a) + m)) cl)))]) [1, 2, 3, 4, 5, 0, 6, 7] rfl (Nat.le_of_ble_eq_true rfl) ?_
            refine g_goto C (tgt := 7) dX3_best_2_140 (by decide) ?_
            refine g_lv [0, 1, 2, 3, 4, 5] rfl ?_
            exact ih1 (m + 1) le fi (by omega) (bnx_n hm.1 hle hfi (by first | rw [mv_1 (by omega)]; omega | rw [mv_2 (by omega) (by omega)]; omega | rw [mv_3 (by omega) (by omega) (by omega)]; omega | rw [mv_4 (by omega) (by omega) (by omega)]; omega)).1 (bnx_n hm.1 hle hfi (by first | rw [mv_1 (by omega)]; omega | rw [mv_2 (by omega) (by omega)]; omega | rw [mv_3 (by omega) (by omega) (by omega)]; omega | rw [mv_4 (by omega) (by omega) (by omega)]; omega)).2 (by omega)
          ·
            have hVq := hV (60 * bhd st_ (g 32 (8 * a + m)) cl + g 30 (8 * a + m)) (by omega) (by omega)
            refine g_aload_n C dX3_best_2_57 rfl 0 rfl ?_
            refine gm_get28 C dX3_best_2_58 ?_
            refine g_bipush C dX3_best_2_61 (z := 60) rfl ?_
            refine g_iload C dX3_best_2_63 7 rfl ?_
            refine g_imul C dX3_best_2_65 ?_
            refine g_aload_n C dX3_best_2_66 rfl 0 rfl ?_
            refine gm_get30 C dX3_best_2_67 ?_
            refine g_iload C dX3_best_2_70 6 rfl ?_
            refine gm_ald30 C (v := (g 30) ((8 * a) + m)) rfl dX3_best_2_72 (by omega) ?_
            refine g_iadd C dX3_best_2_73 ?_
            refine gm_ald28 C (v := (g 28) ((60 * (bhd st_ ((g 32) ((8 * a) + m)) cl)) + ((g 30) ((8 * a) + m)))) rfl dX3_best_2_74 (by omega) ?_
            refine g_ldc C q1272 dX3_best_2_75 (z := 1073741824) rfl ?_
            refine g_icmp_lt C (tgt := 83) dX3_best_2_77 (by decide) (by omega) (by omega) (fun hc77_5 => ?_) (fun hc77_5 => ?_)
            ·
              refine g_aload_n C dX3_best_2_83 rfl 0 rfl ?_
              refine gm_get28 C dX3_best_2_84 ?_
              refine g_bipush C dX3_best_2_87 (z := 60) rfl ?_
              refine g_iload C dX3_best_2_89 7 rfl ?_
              refine g_imul C dX3_best_2_91 ?_
              refine g_aload_n C dX3_best_2_92 rfl 0 rfl ?_
              refine gm_get30 C dX3_best_2_93 ?_
              refine g_iload C dX3_best_2_96 6 rfl ?_
              refine gm_ald30 C (v := (g 30) ((8 * a) + m)) rfl dX3_best_2_98 (by omega) ?_
              refine g_iadd C dX3_best_2_99 ?_
              refine gm_ald28 C (v := (g 28) ((60 * (bhd st_ ((g 32) ((8 * a) + m)) cl)) + ((g 30) ((8 * a) + m)))) rfl dX3_best_2_100 (by omega) ?_
              refine g_sipush C dX3_best_2_101 (z := 2048) rfl ?_
              refine g_aload_n C dX3_best_2_104 rfl 0 rfl ?_
              refine gm_get31 C dX3_best_2_105 ?_
              refine g_iload C dX3_best_2_108 6 rfl ?_
              refine gm_ald31 C (v := (g 31) ((8 * a) + m)) rfl dX3_best_2_110 (by omega) ?_
              refine g_imul C dX3_best_2_111 ?_
              refine g_iadd C dX3_best_2_112 ?_
              refine g_iconst C dX3_best_2_113 ?_
              refine g_iadd C dX3_best_2_114 ?_
              refine g_istore C dX3_best_2_115 (lv' := [(0, .ref (h 36)), (1, .int (iI a)), (2, .int (iI st_)), (3, .int (iI cl)), (4, .int (iI le)), (5, .int (iI m)), (6, .int (iI ((8 * a) + m))), (7, .int (iI (bhd st_ ((g 32) ((8 * a) + m)) cl))), (8, .int (iI ((((g 28) ((60 * (bhd st_ ((g 32) ((8 * a) + m)) cl)) + ((g 30) ((8 * a) + m)))) + (2048 * ((g 31) ((8 * a) + m)))) + 1)))]) [1, 2, 3, 4, 5, 6, 7, 8, 0] rfl (Nat.le_of_ble_eq_true rfl) ?_
              refine g_iload C dX3_best_2_117 8 rfl ?_
              refine g_iload C dX3_best_2_119 4 rfl ?_
              refine g_icmp_lt C (tgt := 127) dX3_best_2_121 (by decide) (by omega) (by omega) (fun hc121_6 => ?_) (fun hc121_6 => ?_)
              ·
                refine g_iload C dX3_best_2_127 8 rfl ?_
                refine g_istore C dX3_best_2_129 (lv' := [(0, .ref (h 36)), (1, .int (iI a)), (2, .int (iI st_)), (3, .int (iI cl)), (4, .int (iI ((((g 28) ((60 * (bhd st_ ((g 32) ((8 * a) + m)) cl)) + ((g 30) ((8 * a) + m)))) + (2048 * ((g 31) ((8 * a) + m)))) + 1))), (5, .int (iI m)), (6, .int (iI ((8 * a) + m))), (7, .int (iI (bhd st_ ((g 32) ((8 * a) + m)) cl))), (8, .int (iI ((((g 28) ((60 * (bhd st_ ((g 32) ((8 * a) + m)) cl)) + ((g 30) ((8 * a) + m)))) + (2048 * ((g 31) ((8 * a) + m)))) + 1)))]) [1, 2, 3, 4, 0, 5, 6, 7, 8] rfl (Nat.le_of_ble_eq_true rfl) ?_
                refine g_aload_n C dX3_best_2_131 rfl 0 rfl ?_
                refine g_iload C dX3_best_2_132 5 rfl ?_
                refine gm_put33 C (f' := (up f 33 m)) rfl dX3_best_2_134 ?_
                refine g_iinc C dX3_best_2_137 5 rfl (lv' := [(0, .ref (h 36)), (1, .int (iI a)), (2, .int (iI st_)), (3, .int (iI cl)), (4, .int (iI ((((g 28) ((60 * (bhd st_ ((g 32) ((8 * a) + m)) cl)) + ((g 30) ((8 * a) + m)))) + (2048 * ((g 31) ((8 * a) + m)))) + 1))), (5, .int (iI (m + 1))), (6, .int (iI ((8 * a) + m))), (7, .int (iI (bhd st_ ((g 32) ((8 * a) + m)) cl))), (8, .int (iI ((((g 28) ((60 * (bhd st_ ((g 32) ((8 * a) + m)) cl)) + ((g 30) ((8 * a) + m)))) + (2048 * ((g 31) ((8 * a) + m)))) + 1)))]) [1, 2, 3, 4, 5, 0, 6, 7, 8] rfl (Nat.le_of_ble_eq_true rfl) ?_
                refine g_goto C (tgt := 7) dX3_best_2_140 (by decide) ?_
                refine g_lv [0, 1, 2, 3, 4, 5] rfl ?_
                exact ih1 (m + 1) ((((g 28) ((60 * (bhd st_ ((g 32) ((8 * a) + m)) cl)) + ((g 30) ((8 * a) + m)))) + (2048 * ((g 31) ((8 * a) + m)))) + 1) m (by omega) (bnx_y (fi := fi) (f0 := f 33) hm.1 hle (mv_4 (by omega) (by omega) (by omega)).symm (by omega)).1 (bnx_y (fi := fi) (f0 := f 33) hm.1 hle (mv_4 (by omega) (by omega) (by omega)).symm (by omega)).2 (by omega)
              ·
                refine g_goto C (tgt := 137) dX3_best_2_124 (by decide) ?_
                refine g_iinc C dX3_best_2_137 5 rfl (lv' := [(0, .ref (h 36)), (1, .int (iI a)), (2, .int (iI st_)), (3, .int (iI cl)), (4, .int (iI le)), (5, .int (iI (m + 1))), (6, .int (iI ((8 * a) + m))), (7, .int (iI (bhd st_ ((g 32) ((8 * a) + m)) cl))), (8, .int (iI ((((g 28) ((60 * (bhd st_ ((g 32) ((8 * a) + m)) cl)) + ((g 30) ((8 * a) + m)))) + (2048 * ((g 31) ((8 * a) + m)))) + 1)))]) [1, 2, 3, 4, 5, 0, 6, 7, 8] rfl (Nat.le_of_ble_eq_true rfl) ?_
                refine g_goto C (tgt := 7) dX3_best_2_140 (by decide) ?_
                refine g_lv [0, 1, 2, 3, 4, 5] rfl ?_
                exact ih1 (m + 1) le fi (by omega) (bnx_n hm.1 hle hfi (by first | rw [mv_1 (by omega)]; omega | rw [mv_2 (by omega) (by omega)]; omega | rw [mv_3 (by omega) (by omega) (by omega)]; omega | rw [mv_4 (by omega) (by omega) (by omega)]; omega)).1 (bnx_n hm.1 hle hfi (by first | rw [mv_1 (by omega)]; omega | rw [mv_2 (by omega) (by omega)]; omega | rw [mv_3 (by omega) (by omega) (by omega)]; omega | rw [mv_4 (by omega) (by omega) (by omega)]; omega)).2 (by omega)
            ·
              refine g_goto C (tgt := 137) dX3_best_2_80 (by decide) ?_
              refine g_iinc C dX3_best_2_137 5 rfl (lv' := [(0, .ref (h 36)), (1, .int (iI a)), (2, .int (iI st_)), (3, .int (iI cl)), (4, .int (iI le)), (5, .int (iI (m + 1))), (6, .int (iI ((8 * a) + m))), (7, .int (iI (bhd st_ ((g 32) ((8 * a) + m)) cl)))]) [1, 2, 3, 4, 5, 0, 6, 7] rfl (Nat.le_of_ble_eq_true rfl) ?_
              refine g_goto C (tgt := 7) dX3_best_2_140 (by decide) ?_
              refine g_lv [0, 1, 2, 3, 4, 5] rfl ?_
              exact ih1 (m + 1) le fi (by omega) (bnx_n hm.1 hle hfi (by first | rw [mv_1 (by omega)]; omega | rw [mv_2 (by omega) (by omega)]; omega | rw [mv_3 (by omega) (by omega) (by omega)]; omega | rw [mv_4 (by omega) (by omega) (by omega)]; omega)).1 (bnx_n hm.1 hle hfi (by first | rw [mv_1 (by omega)]; omega | rw [mv_2 (by omega) (by omega)]; omega | rw [mv_3 (by omega) (by omega) (by omega)]; omega | rw [mv_4 (by omega) (by omega) (by omega)]; omega)).2 (by omega)
        ·
          refine g_goto C (tgt := 137) dX3_best_2_34 (by decide) ?_
          refine g_iinc C dX3_best_2_137 5 rfl (lv' := [(0, .ref (h 36)), (1, .int (iI a)), (2, .int (iI st_)), (3, .int (iI cl)), (4, .int (iI le)), (5, .int (iI (m + 1))), (6, .int (iI ((8 * a) + m)))]) [1, 2, 3, 4, 5, 0, 6] rfl (Nat.le_of_ble_eq_true rfl) ?_
          refine g_goto C (tgt := 7) dX3_best_2_140 (by decide) ?_
          refine g_lv [0, 1, 2, 3, 4, 5] rfl ?_
          exact ih1 (m + 1) le fi (by omega) (bnx_n hm.1 hle hfi (by first | rw [mv_1 (by omega)]; omega | rw [mv_2 (by omega) (by omega)]; omega | rw [mv_3 (by omega) (by omega) (by omega)]; omega | rw [mv_4 (by omega) (by omega) (by omega)]; omega)).1 (bnx_n hm.1 hle hfi (by first | rw [mv_1 (by omega)]; omega | rw [mv_2 (by omega) (by omega)]; omega | rw [mv_3 (by omega) (by omega) (by omega)]; omega | rw [mv_4 (by omega) (by omega) (by omega)]; omega)).2 (by omega)
  exact L1 _ 0 1073741824 (f 33) (by omega) rfl rfl (Nat.lt_succ_self _)

section MK
variable {p : Program} {l : Launch} {e : Env} {R : Room} {s : State} {mm : MethodId} {args : Array Value} {below : List Frame} {meth : Method} {c : Code} {cc : ByteArray} {nL : Nat} {ret : Option FieldType} {D : va_G} {A B : Nat → Prop} {cells slots : Nat} {Q : State → Prop} {pc : Nat} {lv : List (Nat × Value)} {st : List Value}
theorem kX3_X3_best_2 {h : Nat → Nat} {f : Nat → Int} {g : Nat → Int → Int} (nb : Nat) (a st_ cl : Int) (C : CX p l s mm args meth c RX3 cc nL ret D A) (hnb : nb ≤ 10) (hTB : TBok nb (g 30) (g 31) (g 32)) (hV : ∀ q, 0 ≤ q → q < 60 * 2 ^ nb → 0 ≤ g 28 q ∧ g 28 q ≤ 1073741824) (ha : 0 ≤ a ∧ a < 60) (hse : 0 ≤ st_ ∧ st_ < 2 ^ nb) (hcl : 0 ≤ cl ∧ cl ≤ 1) (hR : 1 + 1 ≤ R.frames ∧ 8 + (9 + 11) + 64 * 1 ≤ R.locals) (hcat : (st.map fun v => v.category).sum ≤ 8) (hroom : cells ≤ R.cells ∧ slots ≤ R.slots) (d : decode cc pc = .ok (.invokevirtual 196, 3)) (K : GO p l e R s mm args below meth c nL D A A cells slots Q (mW D h (up f 33 (fstM 1073741824 2048 (g 28) (g 30) (g 31) (g 32) cl st_ a (f 33) 8)) g) (pc + 3) lv (.int (iI (bstM 1073741824 2048 (g 28) (g 30) (g 31) (g 32) cl st_ a 8)) :: st)) : GO p l e R s mm args below meth c nL D A A cells slots Q (mW D h f g) (pc) lv (.int (iI cl) :: .int (iI st_) :: .int (iI a) :: .ref (h 36) :: st) := by
  refine g_callVU C (c_X3_best_2 l D C.hl h f g nb a st_ cl hnb hTB hV ha hse hcl) (As := [.int (iI a), .int (iI st_), .int (iI cl)]) (n := 3) (lw_V q1273 q1275 qs45 q69 q1276) (by decide +kernel) rfl rfl hR (rcv C 0 rfl rfl rfl) rfl rfl hcat ⟨hroom.1, hroom.2⟩ d (wr := []) Sb.rf exT_b hex_t (fun v w hp => ?_) kx_nu
  obtain ⟨z, rfl, rfl, rfl⟩ := hp
  exact K 
end MK

set_option maxHeartbeats 4000000 in
set_option maxRecDepth 100000 in
theorem c_X3_reckon (l : Launch) (D : va_G) (hst : l.stackTraces = false) (h : Nat → Nat) (f : Nat → Int) (g : Nat → Int → Int) (nb : Nat) (en cl : Int) (hnb : nb ≤ 10) (hTB : TBok nb (g 30) (g 31) (g 32)) (hen : 0 ≤ en ∧ en < 60) (hcl : 0 ≤ cl ∧ cl ≤ 1) : CT l D yX3_reckon (ws_ yX3_reckon cX3_reckon 8 none) (rmD 2 0 0) (0) (0) va_A [.ref (h 36), .int (iI en), .int (iI (2 ^ nb)), .int (iI cl)] (mW D h f g) exT (pV fun w => ∃ V : Int → Int, ∃ fi : Int, (Bel 1073741824 2048 (g 30) (g 31) (g 32) cl (2 ^ nb) en V) ∧ w = mW D h (up f 33 fi) (ug g 28 V)) xN := by
  refine ct_U (lv := [(0, .ref (h 36)), (1, .int (iI en)), (2, .int (iI (2 ^ nb))), (3, .int (iI cl))]) RX3 (by decide) rfl rfl hst (Nat.le_of_ble_eq_true rfl) rfl ?_
  intro p e s mm args below meth c A C htab hex hnm
  have hp2 := p2_le hnb
  have hp1 := p2_pos nb
  refine g_iconst C dX3_reckon_0 ?_
  refine g_istore C dX3_reckon_1 (lv' := [(0, .ref (h 36)), (1, .int (iI en)), (2, .int (iI (2 ^ nb))), (3, .int (iI cl)), (4, .int (iI 0))]) [1, 2, 3, 4, 0] rfl (Nat.le_of_ble_eq_true rfl) ?_
  have L1 : ∀ (n : Nat) (k : Int) (y28 : Int → Int), (0 ≤ k ∧ k ≤ 60 * 2 ^ nb) → (∀ q, 0 ≤ q → q < k → y28 q = 1073741824) → (60 * 2 ^ nb - k).toNat < n → GO p l e (rmD 2 0 0) s mm args below meth c 8 D A A 0 0 (MX below D A (pV fun w => ∃ V : Int → Int, ∃ fi : Int, (Bel 1073741824 2048 (g 30) (g 31) (g 32) cl (2 ^ nb) en V) ∧ w = mW D h (up f 33 fi) (ug g 28 V)) xN args s (0) (0)) (mW D h f (ug g 28 y28)) 3 [(0, .ref (h 36)), (1, .int (iI en)), (2, .int (iI (2 ^ nb))), (3, .int (iI cl)), (4, .int (iI k))] [] := by
    intro n
    induction n with
    | zero => intro k y28 hk hy hm; exact absurd hm (Nat.not_lt_zero _)
    | succ n ih1 =>
      intro k y28 hk hy hm1
      refine g_iload C dX3_reckon_3 4 rfl ?_
      refine g_bipush C dX3_reckon_5 (z := 60) rfl ?_
      refine g_iload_n C dX3_reckon_7 rfl 2 rfl ?_
      refine g_imul C dX3_reckon_8 ?_
      refine g_icmp_ge C (tgt := 27) dX3_reckon_9 (by decide) (by omega) (by omega) (fun hc9_2 => ?_) (fun hc9_2 => ?_)
      ·
        refine g_aload_n C dX3_reckon_27 rfl 0 rfl ?_
        refine gm_get28 C dX3_reckon_28 ?_
        refine g_bipush C dX3_reckon_31 (z := 60) rfl ?_
        refine g_iload_n C dX3_reckon_33 rfl 2 rfl ?_
        refine g_iconst C dX3_reckon_34 ?_
        refine g_isub C dX3_reckon_35 ?_
        refine g_imul C dX3_reckon_36 ?_
        refine g_iload_n C dX3_reckon_37 rfl 1 rfl ?_
        refine g_iadd C dX3_reckon_38 ?_
        refine g_iconst C dX3_reckon_39 ?_
        refine gm_ast28 C (g' := (ug g 28 (uI y28 ((60 * ((2 ^ nb) - 1)) + en) 0))) rfl dX3_reckon_40 (by omega) ?_
        refine g_iload_n C dX3_reckon_41 rfl 2 rfl ?_
        refine g_iconst C dX3_reckon_42 ?_
        refine g_isub C dX3_reckon_43 ?_
        refine g_istore C dX3_reckon_44 (lv' := [(0, .ref (h 36)), (1, .int (iI en)), (2, .int (iI (2 ^ nb))), (3, .int (iI cl)), (4, .int (iI ((2 ^ nb) - 1)))]) [1, 2, 3, 4, 0] rfl (Nat.le_of_ble_eq_true rfl) ?_
        have L3 : ∀ (n : Nat) (st_ : Int) (y28 : Int → Int) (fi : Int), (-1 ≤ st_ ∧ st_ < 2 ^ nb) → (RK 1073741824 2048 (g 30) (g 31) (g 32) cl (2 ^ nb) en st_ y28) → (st_ + 1).toNat < n → GO p l e (rmD 2 0 0) s mm args below meth c 8 D A A 0 0 (MX below D A (pV fun w => ∃ V : Int → Int, ∃ fi : Int, (Bel 1073741824 2048 (g 30) (g 31) (g 32) cl (2 ^ nb) en V) ∧ w = mW D h (up f 33 fi) (ug g 28 V)) xN args s (0) (0)) (mW D h (up f 33 fi) (ug g 28 y28)) 46 [(0, .ref (h 36)), (1, .int (iI en)), (2, .int (iI (2 ^ nb))), (3, .int (iI cl)), (4, .int (iI st_))] [] := by
          intro n
          induction n with
          | zero => intro st_ y28 fi hst hrk hm; exact absurd hm (Nat.not_lt_zero _)
          | succ n ih3 =>
            intro st_ y28 fi hst hrk hm3
            refine g_iload C dX3_reckon_46 4 rfl ?_
            refine g_if_lt C (tgt := 137) dX3_reckon_48 (by decide) (by omega) (fun hc48_4 => ?_) (fun hc48_4 => ?_)
            ·
              have es : st_ = -1 := by omega
              subst es
              exact g_vret C dX3_reckon_137 (Nat.le_of_ble_eq_true rfl) (Nat.le_of_ble_eq_true rfl) ⟨rfl, y28, fi, (RK_Bel hrk), rfl⟩
            ·
              refine g_iconst C dX3_reckon_51 ?_
              refine g_istore C dX3_reckon_52 (lv' := [(0, .ref (h 36)), (1, .int (iI en)), (2, .int (iI (2 ^ nb))), (3, .int (iI cl)), (4, .int (iI st_)), (5, .int (iI 1))]) [1, 2, 3, 4, 5, 0] rfl (Nat.le_of_ble_eq_true rfl) ?_
              have L5 : ∀ (n : Nat) (mo : Int) (y28 : Int → Int) (fi : Int), (0 ≤ mo ∧ mo ≤ 1) → (RK 1073741824 2048 (g 30) (g 31) (g 32) cl (2 ^ nb) en st_ y28) → (mo = 0 → ∀ p, 0 ≤ p → p < 60 → y28 (60 * st_ + p) ≤ bstM 1073741824 2048 y28 (g 30) (g 31) (g 32) cl st_ p 8) → (2 * sm60 y28 st_ + mo).toNat < n → GO p l e (rmD 2 0 0) s mm args below meth c 8 D A A 0 0 (MX below D A (pV fun w => ∃ V : Int → Int, ∃ fi : Int, (Bel 1073741824 2048 (g 30) (g 31) (g 32) cl (2 ^ nb) en V) ∧ w = mW D h (up f 33 fi) (ug g 28 V)) xN args s (0) (0)) (mW D h (up f 33 fi) (ug g 28 y28)) 54 [(0, .ref (h 36)), (1, .int (iI en)), (2, .int (iI (2 ^ nb))), (3, .int (iI cl)), (4, .int (iI st_)), (5, .int (iI mo))] [] := by
                intro n
                induction n with
                | zero => intro mo y28 fi hmo hrk hst2 hm; exact absurd hm (Nat.not_lt_zero _)
                | succ n ih5 =>
                  intro mo y28 fi hmo hrk hst2 hm5
                  have hs0 := sm60_nn (set := st_) hrk.1 (by omega)
                  refine g_iload C dX3_reckon_54 5 rfl ?_
                  refine g_if_eq C (tgt := 131) dX3_reckon_56 (by decide) (by omega) (fun hc56_6 => ?_) (fun hc56_6 => ?_)
                  ·
                    refine g_iinc C dX3_reckon_131 4 rfl (lv' := [(0, .ref (h 36)), (1, .int (iI en)), (2, .int (iI (2 ^ nb))), (3, .int (iI cl)), (4, .int (iI (st_ + (-1)))), (5, .int (iI mo))]) [1, 2, 3, 4, 0, 5] rfl (Nat.le_of_ble_eq_true rfl) ?_
                    refine g_goto C (tgt := 46) dX3_reckon_134 (by decide) ?_
                    refine g_lv [0, 1, 2, 3, 4] rfl ?_
                    exact ih3 (st_ + (-1)) y28 fi (by omega) (RK_down hrk (by omega) (hst2 (by omega))) (by omega)
                  ·
                    refine g_iconst C dX3_reckon_59 ?_
                    refine g_istore C dX3_reckon_60 (lv' := [(0, .ref (h 36)), (1, .int (iI en)), (2, .int (iI (2 ^ nb))), (3, .int (iI cl)), (4, .int (iI st_)), (5, .int (iI 0))]) [1, 2, 3, 4, 5, 0] rfl (Nat.le_of_ble_eq_true rfl) ?_
                    refine g_iconst C dX3_reckon_62 ?_
                    refine g_istore C dX3_reckon_63 (lv' := [(0, .ref (h 36)), (1, .int (iI en)), (2, .int (iI (2 ^ nb))), (3, .int (iI cl)), (4, .int (iI st_)), (5, .int (iI 0)), (6, .int (iI 0))]) [1, 2, 3, 4, 5, 6, 0] rfl (Nat.le_of_ble_eq_true rfl) ?_
                    have L7 : ∀ (n : Nat) (a : Int) (mo : Int) (z28 : Int → Int) (fi : Int), (0 ≤ a ∧ a ≤ 60) → (RK 1073741824 2048 (g 30) (g 31) (g 32) cl (2 ^ nb) en st_ z28) → ((mo = 0 ∧ z28 = y28 ∧ ∀ p, 0 ≤ p → p < a → z28 (60 * st_ + p) ≤ bstM 1073741824 2048 z28 (g 30) (g 31) (g 32) cl st_ p 8) ∨ (mo = 1 ∧ sm60 z28 st_ < sm60 y28 st_)) → (60 - a).toNat < n → GO p l e (rmD 2 0 0) s mm args below meth c 8 D A A 0 0 (MX below D A (pV fun w => ∃ V : Int → Int, ∃ fi : Int, (Bel 1073741824 2048 (g 30) (g 31) (g 32) cl (2 ^ nb) en V) ∧ w = mW D h (up f 33 fi) (ug g 28 V)) xN args s (0) (0)) (mW D h (up f 33 fi) (ug g 28 z28)) 65 [(0, .ref (h 36)), (1, .int (iI en)), (2, .int (iI (2 ^ nb))), (3, .int (iI cl)), (4, .int (iI st_)), (5, .int (iI mo)), (6, .int (iI a))] [] := by
                      intro n
                      induction n with
                      | zero => intro a mo z28 fi ha hrk hpass hm; exact absurd hm (Nat.not_lt_zero _)
                      | succ n ih7 =>
                        intro a mo z28 fi ha hrk hpass hm7
                        refine g_iload C dX3_reckon_65 6 rfl ?_
                        refine g_bipush C dX3_reckon_67 (z := 60) rfl ?_
                        refine g_icmp_ge C (tgt := 128) dX3_reckon_69 (by decide) (by omega) (by omega) (fun hc69_8 => ?_) (fun hc69_8 => ?_)
                        ·
                          refine g_goto C (tgt := 54) dX3_reckon_128 (by decide) ?_
                          refine g_lv [0, 1, 2, 3, 4, 5] rfl ?_
                          exact ih5 mo z28 fi (by omega) (by omega) (fun q p h0 h1 => by rcases hpass with ⟨-, -, h3⟩ | ⟨h3, -⟩; exact h3 p h0 (by omega); omega) (by rcases hpass with ⟨h3, h4, -⟩ | ⟨h3, h4⟩; subst h4; omega; have hs1 := sm60_nn (set := st_) hrk.1 (by omega); omega)
                        ·
                          refine g_aload_n C dX3_reckon_72 rfl 0 rfl ?_
                          refine g_iload C dX3_reckon_73 6 rfl ?_
                          refine g_iload C dX3_reckon_75 4 rfl ?_
                          refine g_iload_n C dX3_reckon_77 rfl 3 rfl ?_
                          refine kX3_X3_best_2 nb a st_ cl C hnb hTB hrk.1 (by omega) (by omega) hcl ⟨Nat.le_of_ble_eq_true rfl, Nat.le_of_ble_eq_true rfl⟩ (Nat.le_of_ble_eq_true rfl) ⟨Nat.le_of_ble_eq_true rfl, Nat.le_of_ble_eq_true rfl⟩ dX3_reckon_78 ?_
                          refine g_ws (ws' := mW D h (up f 33 (fstM 1073741824 2048 (z28) (g 30) (g 31) (g 32) cl st_ a (fi) 8)) (ug g 28 z28)) rfl ?_
                          have hbn := bst_nn (FAR := 1073741824) (ST := 2048) (cl := cl) (by omega) (by omega) hnb hTB (show 0 ≤ st_ ∧ st_ < 2 ^ nb by omega) (show 0 ≤ a ∧ a < 60 by omega) hrk.1 8 (by decide)
                          have hbf := bst_far (FAR := 1073741824) (ST := 2048) (V := z28) (LD := g 30) (LN := g 31) (CV := g 32) (cl := cl) (set := st_) (at_ := a) 8
                          have hzr := hrk.1 (60 * st_ + a) (by omega) (by omega)
                          refine g_istore C dX3_reckon_81 (lv' := [(0, .ref (h 36)), (1, .int (iI en)), (2, .int (iI (2 ^ nb))), (3, .int (iI cl)), (4, .int (iI st_)), (5, .int (iI mo)), (6, .int (iI a)), (7, .int (iI (bstM 1073741824 2048 (z28) (g 30) (g 31) (g 32) cl st_ a 8)))]) [1, 2, 3, 4, 5, 6, 7, 0] rfl (Nat.le_of_ble_eq_true rfl) ?_
                          refine g_iload C dX3_reckon_83 7 rfl ?_
                          refine g_aload_n C dX3_reckon_85 rfl 0 rfl ?_
                          refine gm_get28 C dX3_reckon_86 ?_
                          refine g_bipush C dX3_reckon_89 (z := 60) rfl ?_
                          refine g_iload C dX3_reckon_91 4 rfl ?_
                          refine g_imul C dX3_reckon_93 ?_
                          refine g_iload C dX3_reckon_94 6 rfl ?_
                          refine g_iadd C dX3_reckon_96 ?_
                          refine gm_ald28 C (v := z28 ((60 * st_) + a)) rfl dX3_reckon_97 (by omega) ?_
                          refine g_icmp_lt C (tgt := 104) dX3_reckon_98 (by decide) (by omega) (by omega) (fun hc98_9 => ?_) (fun hc98_9 => ?_)
                          ·
                            refine g_aload_n C dX3_reckon_104 rfl 0 rfl ?_
                            refine gm_get28 C dX3_reckon_105 ?_
                            refine g_bipush C dX3_reckon_108 (z := 60) rfl ?_
                            refine g_iload C dX3_reckon_110 4 rfl ?_
                            refine g_imul C dX3_reckon_112 ?_
                            refine g_iload C dX3_reckon_113 6 rfl ?_
                            refine g_iadd C dX3_reckon_115 ?_
                            refine g_iload C dX3_reckon_116 7 rfl ?_
                            refine gm_ast28 C (g' := (ug g 28 (uI z28 ((60 * st_) + a) (bstM 1073741824 2048 (z28) (g 30) (g 31) (g 32) cl st_ a 8)))) rfl dX3_reckon_118 (by omega) ?_
                            refine g_iconst C dX3_reckon_119 ?_
                            refine g_istore C dX3_reckon_120 (lv' := [(0, .ref (h 36)), (1, .int (iI en)), (2, .int (iI (2 ^ nb))), (3, .int (iI cl)), (4, .int (iI st_)), (5, .int (iI 1)), (6, .int (iI a)), (7, .int (iI (bstM 1073741824 2048 (z28) (g 30) (g 31) (g 32) cl st_ a 8)))]) [1, 2, 3, 4, 5, 0, 6, 7] rfl (Nat.le_of_ble_eq_true rfl) ?_
                            refine g_iinc C dX3_reckon_122 6 rfl (lv' := [(0, .ref (h 36)), (1, .int (iI en)), (2, .int (iI (2 ^ nb))), (3, .int (iI cl)), (4, .int (iI st_)), (5, .int (iI 1)), (6, .int (iI (a + 1))), (7, .int (iI (bstM 1073741824 2048 (z28) (g 30) (g 31) (g 32) cl st_ a 8)))]) [1, 2, 3, 4, 5, 6, 0, 7] rfl (Nat.le_of_ble_eq_true rfl) ?_
                            refine g_goto C (tgt := 65) dX3_reckon_125 (by decide) ?_
                            refine g_lv [0, 1, 2, 3, 4, 5, 6] rfl ?_
                            exact ih7 (a + 1) 1 (uI z28 ((60 * st_) + a) (bstM 1073741824 2048 (z28) (g 30) (g 31) (g 32) cl st_ a 8)) (fstM 1073741824 2048 (z28) (g 30) (g 31) (g 32) cl st_ a (fi) 8) (by omega) (RK_upd (by omega) (by omega) hnb hTB (by omega) (by omega) hen hrk (by omega)) (Or.inr ⟨rfl, by have h9 := sm60_lt (V := z28) (set := st_) (a := a) (v := bstM 1073741824 2048 z28 (g 30) (g 31) (g 32) cl st_ a 8) (by omega) (by omega); rcases hpass with ⟨-, h2, -⟩ | ⟨-, h2⟩; (rw [← h2]; exact h9); omega⟩) (by omega)
                          ·
                            refine g_goto C (tgt := 122) dX3_reckon_101 (by decide) ?_
                            refine g_iinc C dX3_reckon_122 6 rfl (lv' := [(0, .ref (h 36)), (1, .int (iI en)), (2, .int (iI (2 ^ nb))), (3, .int (iI cl)), (4, .int (iI st_)), (5, .int (iI mo)), (6, .int (iI (a + 1))), (7, .int (iI (bstM 1073741824 2048 (z28) (g 30) (g 31) (g 32) cl st_ a 8)))]) [1, 2, 3, 4, 5, 6, 0, 7] rfl (Nat.le_of_ble_eq_true rfl) ?_
                            refine g_goto C (tgt := 65) dX3_reckon_125 (by decide) ?_
                            refine g_lv [0, 1, 2, 3, 4, 5, 6] rfl ?_
                            exact ih7 (a + 1) mo z28 (fstM 1073741824 2048 (z28) (g 30) (g 31) (g 32) cl st_ a (fi) 8) (by omega) hrk (hpass.imp (fun ⟨h1, h2, h3⟩ => ⟨h1, h2, fun p h4 h5 => by by_cases e9 : p = a; (subst e9; omega); exact h3 p h4 (by omega)⟩) id) (by omega)
                    exact L7 _ 0 0 y28 fi (by omega) (by omega) (Or.inl ⟨rfl, rfl, fun p h0 h1 => absurd h1 (by omega)⟩) (Nat.lt_succ_self _)
              exact L5 _ 1 y28 fi (by omega) (by omega) (fun q => absurd q (by decide)) (Nat.lt_succ_self _)
        exact L3 _ ((2 ^ nb) - 1) (uI y28 ((60 * ((2 ^ nb) - 1)) + en) 0) (f 33) (by omega) (RK_init (by omega) hen (by omega) (fun q h0 h1 => hy q h0 (by omega))) (Nat.lt_succ_self _)
      ·
        refine g_aload_n C dX3_reckon_12 rfl 0 rfl ?_
        refine gm_get28 C dX3_reckon_13 ?_
        refine g_iload C dX3_reckon_16 4 rfl ?_
        refine g_ldc C q1272 dX3_reckon_18 (z := 1073741824) rfl ?_
        refine gm_ast28 C (g' := (ug g 28 (uI y28 k 1073741824))) rfl dX3_reckon_20 (by omega) ?_
        refine g_iinc C dX3_reckon_21 4 rfl (lv' := [(0, .ref (h 36)), (1, .int (iI en)), (2, .int (iI (2 ^ nb))), (3, .int (iI cl)), (4, .int (iI (k + 1)))]) [1, 2, 3, 4, 0] rfl (Nat.le_of_ble_eq_true rfl) ?_
        refine g_goto C (tgt := 3) dX3_reckon_24 (by decide) ?_
        exact ih1 (k + 1) (uI y28 k 1073741824) (by omega) (uI_all (P := fun j y => y = 1073741824) hy rfl) (by omega)
  exact L1 _ 0 (g 28) (by omega) (fun j h0 h1 => absurd h1 (by omega)) (Nat.lt_succ_self _)

section MK
variable {p : Program} {l : Launch} {e : Env} {R : Room} {s : State} {mm : MethodId} {args : Array Value} {below : List Frame} {meth : Method} {c : Code} {cc : ByteArray} {nL : Nat} {ret : Option FieldType} {D : va_G} {A B : Nat → Prop} {cells slots : Nat} {Q : State → Prop} {pc : Nat} {lv : List (Nat × Value)} {st : List Value}
theorem kX3_X3_reckon {h : Nat → Nat} {f : Nat → Int} {g : Nat → Int → Int} (nb : Nat) (en cl : Int) (C : CX p l s mm args meth c RX3 cc nL ret D A) (hnb : nb ≤ 10) (hTB : TBok nb (g 30) (g 31) (g 32)) (hen : 0 ≤ en ∧ en < 60) (hcl : 0 ≤ cl ∧ cl ≤ 1) (hR : 2 + 1 ≤ R.frames ∧ 8 + (8 + 11) + 64 * 2 ≤ R.locals) (hcat : (st.map fun v => v.category).sum ≤ 8) (hroom : cells ≤ R.cells ∧ slots ≤ R.slots) (d : decode cc pc = .ok (.invokevirtual 209, 3)) (K : ∀ (V : Int → Int) (fi : Int) , (Bel 1073741824 2048 (g 30) (g 31) (g 32) cl (2 ^ nb) en V) → GO p l e R s mm args below meth c nL D A A cells slots Q (mW D h (up f 33 fi) (ug g 28 V)) (pc + 3) lv (st)) : GO p l e R s mm args below meth c nL D A A cells slots Q (mW D h f g) (pc) lv (.int (iI cl) :: .int (iI (2 ^ nb)) :: .int (iI en) :: .ref (h 36) :: st) := by
  refine g_callVU C (c_X3_reckon l D C.hl h f g nb en cl hnb hTB hen hcl) (As := [.int (iI en), .int (iI (2 ^ nb)), .int (iI cl)]) (n := 3) (lw_V q1268 q1270 qs44 q69 q1271) (by decide +kernel) rfl rfl hR (rcv C 0 rfl rfl rfl) rfl rfl hcat ⟨hroom.1, hroom.2⟩ d (wr := []) Sb.rf exT_b hex_t (fun v w hp => ?_) kx_nu
  obtain ⟨rfl, V, fi, h0_, rfl⟩ := hp
  exact K V fi h0_
end MK

end MC7
