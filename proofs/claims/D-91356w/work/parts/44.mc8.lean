/-! ===== contracts of the model: best, move, count ===== -/
def sm_best (f : Nat → Int) (g : Nat → Int → Int) (a cl : Int) (z : Int) (f' : Nat → Int) (g' : Nat → Int → Int) : Prop :=
  ((¬ (0 ≤ a ∧ a < f 3)) ∧ z = 0 ∧ f' = (up f 1 1) ∧ g' = g) ∨
  (((0 ≤ a ∧ a < f 3) ∧ 10 < (ndc (g 17) (f 8))) ∧ z = -1 ∧ ∃ y29 : Int → Int, f' = (up f 1 0) ∧ g' = (ug g 29 y29)) ∨
  (((0 ≤ a ∧ a < f 3) ∧ (ndc (g 17) (f 8)) ≤ 10) ∧ z = -1 ∧ ∃ y29 : Int → Int, ∃ y30 : Int → Int, ∃ y31 : Int → Int, ∃ y32 : Int → Int, ∃ V : Int → Int, ∃ fi : Int, (Bel 1073741824 2048 (LDc (f 2) (f 3) (g 12)) (LNc (g 11) (g 10)) (CVc (f 8) (g 14) (g 15) (g 16) (g 17)) cl (2 ^ (ndc (g 17) (f 8)).toNat) (2 * (6 * 0 + a) + 0) V) ∧ (1073741824 ≤ V (2 * (6 * 0 + a) + 0)) ∧ f' = (up (up f 1 0) 33 fi) ∧ g' = (ug (ug (ug (ug (ug g 28 V) 29 y29) 30 y30) 31 y31) 32 y32)) ∨
  (((0 ≤ a ∧ a < f 3) ∧ (ndc (g 17) (f 8)) ≤ 10) ∧ ∃ y29 : Int → Int, ∃ y30 : Int → Int, ∃ y31 : Int → Int, ∃ y32 : Int → Int, ∃ V : Int → Int, ∃ fi : Int, ∃ km : Int, ∃ y21 : Int → Int, (z = V (2 * (6 * 0 + a) + 0) / 2048) ∧ (Bel 1073741824 2048 (LDc (f 2) (f 3) (g 12)) (LNc (g 11) (g 10)) (CVc (f 8) (g 14) (g 15) (g 16) (g 17)) cl (2 ^ (ndc (g 17) (f 8)).toNat) (2 * (6 * 0 + a) + 0) V) ∧ (V (2 * (6 * 0 + a) + 0) < 1073741824) ∧ (KP 1073741824 2048 V (LDc (f 2) (f 3) (g 12)) (LNc (g 11) (g 10)) (CVc (f 8) (g 14) (g 15) (g 16) (g 17)) cl (2 * (6 * 0 + a) + 0) km y21) ∧ f' = (up (up (up f 1 0) 9 km) 33 fi) ∧ g' = (ug (ug (ug (ug (ug (ug g 21 y21) 28 V) 29 y29) 30 y30) 31 y31) 32 y32))
section MC8
set_option maxHeartbeats 4000000 in
set_option maxRecDepth 100000 in
theorem c_X3_best (l : Launch) (D : va_G) (hst : l.stackTraces = false) (h : Nat → Nat) (f : Nat → Int) (g : Nat → Int → Int) (a cl : Int) (hF : 1 ≤ f 2 ∧ f 2 ≤ 5) (hS : 2 ≤ f 3 ∧ f 3 ≤ 6) (hkd : ∀ j, 0 ≤ j → j < 6 → 0 ≤ g 12 j ∧ g 12 j ≤ 3) (hth : ∀ j, 0 ≤ j → j < 5 → 1 ≤ g 10 j ∧ g 10 j ≤ 50) (hht : ∀ j, 0 ≤ j → j < 6 → 0 ≤ g 11 j ∧ g 11 j ≤ 400) (hri : ∀ j, 0 ≤ j → j + 1 < f 3 → g 11 j < g 11 (j + 1)) (hnp : 0 ≤ f 8 ∧ f 8 ≤ 55) (hpt : ∀ j, 0 ≤ j → j < f 8 → (0 ≤ g 14 j ∧ g 14 j ≤ 4) ∧ (0 ≤ g 15 j ∧ g 15 j ≤ 5) ∧ (0 ≤ g 16 j ∧ g 16 j ≤ 2) ∧ (0 ≤ g 17 j ∧ g 17 j ≤ 1)) (har : -2147483648 ≤ a ∧ a < 2147483648) (hcl : 0 ≤ cl ∧ cl ≤ 1) : CT l D yX3_best (ws_ yX3_best cX3_best 10 (some .int)) (rmD 4 0 0) (0) (0) va_A [.ref (h 36), .int (iI a), .int (iI cl)] (mW D h f g) exT (pI fun z w => ∃ f' g', sm_best f g a cl z f' g' ∧ w = mW D h f' g') xN := by
  refine ct_U (lv := [(0, .ref (h 36)), (1, .int (iI a)), (2, .int (iI cl))]) RX3 (by decide) rfl rfl hst (Nat.le_of_ble_eq_true rfl) rfl ?_
  intro p e s mm args below meth c A C htab hex hnm
  have hpn : ∀ j, 0 ≤ j → j < f 8 → 0 ≤ g 17 j ∧ g 17 j ≤ 1 := fun j h0 h1 => (hpt j h0 h1).2.2.2
  have hnd := ndc_rg hpn hnp.1 (Int.le_refl _)
  refine g_aload_n C dX3_best_0 rfl 0 rfl ?_
  refine g_iconst C dX3_best_1 ?_
  refine gm_put1 C (f' := (up f 1 0)) rfl dX3_best_2 ?_
  refine g_aload_n C dX3_best_5 rfl 0 rfl ?_
  refine g_iload_n C dX3_best_6 rfl 1 rfl ?_
  refine kX3_X3_isStation a C hS (by omega) ⟨Nat.le_of_ble_eq_true rfl, Nat.le_of_ble_eq_true rfl⟩ (Nat.le_of_ble_eq_true rfl) ⟨Nat.le_of_ble_eq_true rfl, Nat.le_of_ble_eq_true rfl⟩ (rv := bI (decide (0 ≤ a ∧ a < f 3))) rfl dX3_best_7 ?_
  have hbb1 : 0 ≤ bI (decide (0 ≤ a ∧ a < f 3)) ∧ bI (decide (0 ≤ a ∧ a < f 3)) ≤ 1 := bI_rg _
  refine g_if_ne C (tgt := 19) dX3_best_10 (by decide) (by omega) (fun hc10_2 => ?_) (fun hc10_2 => ?_)
  ·
    have hc10_2b : 0 ≤ a ∧ a < f 3 := of_decide_eq_true (bI_1.mp (by omega))
    refine g_iconst C dX3_best_19 ?_
    refine g_istore_n C dX3_best_20 rfl (lv' := [(0, .ref (h 36)), (1, .int (iI a)), (2, .int (iI cl)), (3, .int (iI 0))]) [1, 2, 3, 0] rfl (Nat.le_of_ble_eq_true rfl) ?_
    refine g_iconst C dX3_best_21 ?_
    refine g_istore C dX3_best_22 (lv' := [(0, .ref (h 36)), (1, .int (iI a)), (2, .int (iI cl)), (3, .int (iI 0)), (4, .int (iI 0))]) [1, 2, 3, 4, 0] rfl (Nat.le_of_ble_eq_true rfl) ?_
    have L3 : ∀ (n : Nat) (k : Int) (nn : Int) (y29 : Int → Int), (0 ≤ k ∧ k ≤ f 8) → (nn = ndc (g 17) k) → (∀ j, 0 ≤ j → j < k → y29 j = ndc (g 17) j) → (f 8 - k).toNat < n → GO p l e (rmD 4 0 0) s mm args below meth c 10 D A A 0 0 (MX below D A (pI fun z w => ∃ f' g', sm_best f g a cl z f' g' ∧ w = mW D h f' g') xN args s (0) (0)) (mW D h (up f 1 0) (ug g 29 y29)) 24 [(0, .ref (h 36)), (1, .int (iI a)), (2, .int (iI cl)), (3, .int (iI nn)), (4, .int (iI k))] [] := by
      intro n
      induction n with
      | zero => intro k nn y29 hk hn hy29 hm; exact absurd hm (Nat.not_lt_zero _)
      | succ n ih3 =>
        intro k nn y29 hk hn hy29 hm3
        have hnr := ndc_rg hpn hk.1 hk.2
        refine g_iload C dX3_best_24 4 rfl ?_
        refine g_aload_n C dX3_best_26 rfl 0 rfl ?_
        refine gm_get8 C (v := f 8) rfl dX3_best_27 ?_
        refine g_icmp_ge C (tgt := 65) dX3_best_30 (by decide) (by omega) (by omega) (fun hc30_4 => ?_) (fun hc30_4 => ?_)
        ·
          have ek : k = f 8 := by omega
          subst ek
          subst hn
          refine g_iload_n C dX3_best_65 rfl 3 rfl ?_
          refine g_bipush C dX3_best_66 (z := 10) rfl ?_
          refine g_icmp_le C (tgt := 73) dX3_best_68 (by decide) (by omega) (by omega) (fun hc68_5 => ?_) (fun hc68_5 => ?_)
          ·
            have hnb : (ndc (g 17) (f 8)).toNat ≤ 10 := by omega
            have hb29 : ∀ j, 0 ≤ j → j < f 8 → 0 ≤ y29 j ∧ y29 j ≤ 55 := fun j h0 h1 => by rw [hy29 j h0 h1]; have := ndc_rg hpn h0 (by omega); omega
            have hp2 := p2_le hnb
            have hp1 := p2_pos (ndc (g 17) (f 8)).toNat
            refine g_iconst C dX3_best_73 ?_
            refine g_iload_n C dX3_best_74 rfl 3 rfl ?_
            refine g_ishl C dX3_best_75 (z := 2 ^ (ndc (g 17) (f 8)).toNat) (shl_p2 ⟨by omega, by omega⟩) ?_
            refine g_istore C dX3_best_76 (lv' := [(0, .ref (h 36)), (1, .int (iI a)), (2, .int (iI cl)), (3, .int (iI (ndc (g 17) (f 8)))), (4, .int (iI (2 ^ (ndc (g 17) (f 8)).toNat)))]) [1, 2, 3, 4, 0] rfl (Nat.le_of_ble_eq_true rfl) ?_
            refine g_iconst C dX3_best_78 ?_
            refine g_iload_n C dX3_best_79 rfl 1 rfl ?_
            refine g_iconst C dX3_best_80 ?_
            refine kX3_X3_place 0 a 0 C (by omega) (by omega) (by omega) ⟨Nat.le_of_ble_eq_true rfl, Nat.le_of_ble_eq_true rfl⟩ (Nat.le_of_ble_eq_true rfl) ⟨Nat.le_of_ble_eq_true rfl, Nat.le_of_ble_eq_true rfl⟩ (rv := 2 * (6 * 0 + a) + 0) rfl dX3_best_81 ?_
            refine g_istore C dX3_best_84 (lv' := [(0, .ref (h 36)), (1, .int (iI a)), (2, .int (iI cl)), (3, .int (iI (ndc (g 17) (f 8)))), (4, .int (iI (2 ^ (ndc (g 17) (f 8)).toNat))), (5, .int (iI (2 * (6 * 0 + a) + 0)))]) [1, 2, 3, 4, 5, 0] rfl (Nat.le_of_ble_eq_true rfl) ?_
            refine g_aload_n C dX3_best_86 rfl 0 rfl ?_
            refine kX3_X3_tables  C hF hS hkd hth hht hnp hpt hb29 ⟨Nat.le_of_ble_eq_true rfl, Nat.le_of_ble_eq_true rfl⟩ (Nat.le_of_ble_eq_true rfl) ⟨Nat.le_of_ble_eq_true rfl, Nat.le_of_ble_eq_true rfl⟩ dX3_best_87 ?_
            intro y30_6 y31_7 y32_8 hTT_9
            refine g_ws (ws' := mW D h (up f 1 0) (ug (ug (ug (ug g 29 y29) 30 y30_6) 31 y31_7) 32 y32_8)) rfl ?_
            have hTT_9 : ∀ k, 0 ≤ k → k < 480 → y30_6 k = ldT (f 2) (f 3) (g 12) (k / 8) (k % 8) ∧ (ldT (f 2) (f 3) (g 12) (k / 8) (k % 8) ≠ -1 → y31_7 k = leng (g 11) (g 10) (k / 8) (k % 8) ∧ y32_8 k = cvT (f 8) (g 14) (g 15) (g 16) (g 17) (y29) (k / 8) (k % 8)) := hTT_9
            have hTa : TBa y30_6 y31_7 y32_8 (LDc (f 2) (f 3) (g 12)) (LNc (g 11) (g 10)) (CVc (f 8) (g 14) (g 15) (g 16) (g 17)) := fun k h0 h1 => ⟨(hTT_9 k h0 h1).1, fun q => ⟨((hTT_9 k h0 h1).2 (by rw [← (hTT_9 k h0 h1).1]; exact q)).1, ((hTT_9 k h0 h1).2 (by rw [← (hTT_9 k h0 h1).1]; exact q)).2.trans (cvT_c hnp.1 hy29)⟩⟩
            have hTB : TBok (((ndc (g 17) (f 8)).toNat : Nat) : Int) y30_6 y31_7 y32_8 := TBok_T hTa (TB_c hF hS hnp.1 hpn hth hht hri)
            refine g_aload_n C dX3_best_90 rfl 0 rfl ?_
            refine g_iload C dX3_best_91 5 rfl ?_
            refine g_iload C dX3_best_93 4 rfl ?_
            refine g_iload_n C dX3_best_95 rfl 2 rfl ?_
            refine kX3_X3_reckon ((ndc (g 17) (f 8)).toNat) (2 * (6 * 0 + a) + 0) cl C hnb hTB (by omega) hcl ⟨Nat.le_of_ble_eq_true rfl, Nat.le_of_ble_eq_true rfl⟩ (Nat.le_of_ble_eq_true rfl) ⟨Nat.le_of_ble_eq_true rfl, Nat.le_of_ble_eq_true rfl⟩ dX3_best_96 ?_
            intro V_10 fi_11 hBel_12
            refine g_ws (ws' := mW D h (up (up f 1 0) 33 fi_11) (ug (ug (ug (ug (ug g 28 V_10) 29 y29) 30 y30_6) 31 y31_7) 32 y32_8)) rfl ?_
            have hBel_12 : Bel 1073741824 2048 (y30_6) (y31_7) (y32_8) cl (2 ^ ((ndc (g 17) (f 8)).toNat)) (2 * (6 * 0 + a) + 0) V_10 := hBel_12
            have hBel := hBel_12
            have hV0 := hBel.1 (2 * (6 * 0 + a) + 0) (by omega) (by omega)
            refine g_aload_n C dX3_best_99 rfl 0 rfl ?_
            refine gm_get28 C dX3_best_100 ?_
            refine g_iload C dX3_best_103 5 rfl ?_
            refine gm_ald28 C (v := V_10 (2 * (6 * 0 + a) + 0)) rfl dX3_best_105 (by omega) ?_
            refine g_istore C dX3_best_106 (lv' := [(0, .ref (h 36)), (1, .int (iI a)), (2, .int (iI cl)), (3, .int (iI (ndc (g 17) (f 8)))), (4, .int (iI (2 ^ (ndc (g 17) (f 8)).toNat))), (5, .int (iI (2 * (6 * 0 + a) + 0))), (6, .int (iI (V_10 (2 * (6 * 0 + a) + 0))))]) [1, 2, 3, 4, 5, 6, 0] rfl (Nat.le_of_ble_eq_true rfl) ?_
            refine g_iload C dX3_best_108 6 rfl ?_
            refine g_ldc C q1272 dX3_best_110 (z := 1073741824) rfl ?_
            refine g_icmp_lt C (tgt := 117) dX3_best_112 (by decide) (by omega) (by omega) (fun hc112_13 => ?_) (fun hc112_13 => ?_)
            ·
              refine g_aload_n C dX3_best_117 rfl 0 rfl ?_
              refine g_iconst C dX3_best_118 ?_
              refine gm_put9 C (f' := (up (up (up f 1 0) 9 0) 33 fi_11)) rfl dX3_best_119 ?_
              refine g_iload C dX3_best_122 5 rfl ?_
              refine g_istore C dX3_best_124 (lv' := [(0, .ref (h 36)), (1, .int (iI a)), (2, .int (iI cl)), (3, .int (iI (ndc (g 17) (f 8)))), (4, .int (iI (2 ^ (ndc (g 17) (f 8)).toNat))), (5, .int (iI (2 * (6 * 0 + a) + 0))), (6, .int (iI (V_10 (2 * (6 * 0 + a) + 0)))), (7, .int (iI (2 * (6 * 0 + a) + 0)))]) [1, 2, 3, 4, 5, 6, 7, 0] rfl (Nat.le_of_ble_eq_true rfl) ?_
              refine g_iconst C dX3_best_126 ?_
              refine g_istore C dX3_best_127 (lv' := [(0, .ref (h 36)), (1, .int (iI a)), (2, .int (iI cl)), (3, .int (iI (ndc (g 17) (f 8)))), (4, .int (iI (2 ^ (ndc (g 17) (f 8)).toNat))), (5, .int (iI (2 * (6 * 0 + a) + 0))), (6, .int (iI (V_10 (2 * (6 * 0 + a) + 0)))), (7, .int (iI (2 * (6 * 0 + a) + 0))), (8, .int (iI 0))]) [1, 2, 3, 4, 5, 6, 7, 8, 0] rfl (Nat.le_of_ble_eq_true rfl) ?_
              have L14 : ∀ (n : Nat) (st_ : Int) (at_ : Int) (km : Int) (y21 : Int → Int) (fi : Int), (0 ≤ st_ ∧ st_ < 2 ^ (ndc (g 17) (f 8)).toNat) → (0 ≤ at_ ∧ at_ < 60) → (V_10 (60 * st_ + at_) < 1073741824) → (0 ≤ km ∧ km + mbd V_10 st_ at_ ≤ 659) → (KPk 1073741824 2048 V_10 y30_6 y31_7 y32_8 cl (2 * (6 * 0 + a) + 0) km y21 st_ at_) → (V_10 (60 * st_ + at_)).toNat < n → GO p l e (rmD 4 0 0) s mm args below meth c 10 D A A 0 0 (MX below D A (pI fun z w => ∃ f' g', sm_best f g a cl z f' g' ∧ w = mW D h f' g') xN args s (0) (0)) (mW D h (up (up (up f 1 0) 9 km) 33 fi) (ug (ug (ug (ug (ug (ug g 21 y21) 28 V_10) 29 y29) 30 y30_6) 31 y31_7) 32 y32_8)) 129 [(0, .ref (h 36)), (1, .int (iI a)), (2, .int (iI cl)), (3, .int (iI (ndc (g 17) (f 8)))), (5, .int (iI (2 * (6 * 0 + a) + 0))), (6, .int (iI (V_10 (2 * (6 * 0 + a) + 0)))), (7, .int (iI at_)), (8, .int (iI st_))] [] := by
                intro n
                induction n with
                | zero => intro st_ at_ km y21 fi hse hat hvf hkm hkp hm; exact absurd hm (Nat.not_lt_zero _)
                | succ n ih14 =>
                  intro st_ at_ km y21 fi hse hat hvf hkm hkp hm14
                  have hVq := hBel.1 (60 * st_ + at_) (by omega) (by omega)
                  have hmb := mbd_rg (V := V_10) (set := st_) hat
                  refine g_aload_n C dX3_best_129 rfl 0 rfl ?_
                  refine gm_get28 C dX3_best_130 ?_
                  refine g_bipush C dX3_best_133 (z := 60) rfl ?_
                  refine g_iload C dX3_best_135 7 rfl ?_
                  refine g_imul C dX3_best_137 ?_
                  refine g_iload C dX3_best_138 6 rfl ?_
                  refine g_iadd C dX3_best_140 ?_
                  refine gm_ald28 C (v := V_10 ((60 * st_) + at_)) rfl dX3_best_141 (by omega) ?_
                  refine g_if_le C (tgt := 217) dX3_best_142 (by decide) (by omega) (fun hc142_15 => ?_) (fun hc142_15 => ?_)
                  ·
                    refine g_iload C dX3_best_217 5 rfl ?_
                    refine g_sipush C dX3_best_219 (z := 2048) rfl ?_
                    refine g_idiv C dX3_best_222 (by omega) (by omega) ?_
                    exact g_iret C dX3_best_223 rfl (Nat.le_of_ble_eq_true rfl) (Nat.le_of_ble_eq_true rfl) ⟨_, rfl, _, _, (Or.inr (Or.inr (Or.inr (⟨⟨by omega, by omega⟩, y29, y30_6, y31_7, y32_8, V_10, fi, km, y21, rfl, (Bel_T hTa hBel), (by omega), (KP_T (by omega) hnb hTB (by omega) hBel (by rw [show (60 : Int) * 0 + (2 * (6 * 0 + a) + 0) = 2 * (6 * 0 + a) + 0 by omega]; omega) hTa (hkp.end (by omega) (by omega))), rfl, rfl⟩)))), rfl⟩
                  ·
                    obtain ⟨s1, s2, s3, s4, s5, s6, s7, s8⟩ := pstep (by omega) hnb hTB hse hat hBel (by omega) hvf
                    refine g_aload_n C dX3_best_145 rfl 0 rfl ?_
                    refine g_iload C dX3_best_146 6 rfl ?_
                    refine g_iload C dX3_best_148 7 rfl ?_
                    refine g_iload_n C dX3_best_150 rfl 2 rfl ?_
                    refine kX3_X3_best_2 ((ndc (g 17) (f 8)).toNat) at_ st_ cl C hnb hTB hBel.1 (by omega) (by omega) hcl ⟨Nat.le_of_ble_eq_true rfl, Nat.le_of_ble_eq_true rfl⟩ (Nat.le_of_ble_eq_true rfl) ⟨Nat.le_of_ble_eq_true rfl, Nat.le_of_ble_eq_true rfl⟩ dX3_best_151 ?_
                    refine g_ws (ws' := mW D h (up (up (up f 1 0) 9 km) 33 (fstM 1073741824 2048 (V_10) (y30_6) (y31_7) (y32_8) cl st_ at_ (fi) 8)) (ug (ug (ug (ug (ug (ug g 21 y21) 28 V_10) 29 y29) 30 y30_6) 31 y31_7) 32 y32_8)) rfl ?_
                    have hff : fstM 1073741824 2048 V_10 y30_6 y31_7 y32_8 cl st_ at_ fi 8 = fstM 1073741824 2048 V_10 y30_6 y31_7 y32_8 cl st_ at_ 0 8 := fst_f0 (by omega)
                    rw [hff]
                    refine g_pop C dX3_best_154 rfl ?_
                    refine g_aload_n C dX3_best_155 rfl 0 rfl ?_
                    refine gm_get21 C dX3_best_156 ?_
                    refine g_aload_n C dX3_best_159 rfl 0 rfl ?_
                    refine gm_get9 C (v := km) rfl dX3_best_160 ?_
                    refine g_aload_n C dX3_best_163 rfl 0 rfl ?_
                    refine gm_get33 C (v := fstM 1073741824 2048 (V_10) (y30_6) (y31_7) (y32_8) cl st_ at_ 0 8) rfl dX3_best_164 ?_
                    refine gm_ast21 C (g' := (ug (ug (ug (ug (ug (ug g 21 (uI y21 km (fstM 1073741824 2048 (V_10) (y30_6) (y31_7) (y32_8) cl st_ at_ 0 8))) 28 V_10) 29 y29) 30 y30_6) 31 y31_7) 32 y32_8)) rfl dX3_best_167 (by omega) ?_
                    refine g_aload_n C dX3_best_168 rfl 0 rfl ?_
                    refine g_dup C dX3_best_169 rfl ?_
                    refine gm_get9 C (v := km) rfl dX3_best_170 ?_
                    refine g_iconst C dX3_best_173 ?_
                    refine g_iadd C dX3_best_174 ?_
                    refine gm_put9 C (f' := (up (up (up f 1 0) 9 (km + 1)) 33 (fstM 1073741824 2048 (V_10) (y30_6) (y31_7) (y32_8) cl st_ at_ 0 8))) rfl dX3_best_175 ?_
                    refine g_bipush C dX3_best_178 (z := 8) rfl ?_
                    refine g_iload C dX3_best_180 6 rfl ?_
                    refine g_imul C dX3_best_182 ?_
                    refine g_aload_n C dX3_best_183 rfl 0 rfl ?_
                    refine gm_get33 C (v := fstM 1073741824 2048 (V_10) (y30_6) (y31_7) (y32_8) cl st_ at_ 0 8) rfl dX3_best_184 ?_
                    refine g_iadd C dX3_best_187 ?_
                    refine g_istore C dX3_best_188 (lv' := [(0, .ref (h 36)), (1, .int (iI a)), (2, .int (iI cl)), (3, .int (iI (ndc (g 17) (f 8)))), (5, .int (iI (2 * (6 * 0 + a) + 0))), (6, .int (iI (V_10 (2 * (6 * 0 + a) + 0)))), (7, .int (iI at_)), (8, .int (iI st_)), (9, .int (iI ((8 * at_) + (fstM 1073741824 2048 (V_10) (y30_6) (y31_7) (y32_8) cl st_ at_ 0 8))))]) [1, 2, 3, 4, 5, 6, 7, 8, 0] rfl (Nat.le_of_ble_eq_true rfl) ?_
                    refine g_iload C dX3_best_190 7 rfl ?_
                    refine g_aload_n C dX3_best_192 rfl 0 rfl ?_
                    refine gm_get32 C dX3_best_193 ?_
                    refine g_iload C dX3_best_196 8 rfl ?_
                    refine gm_ald32 C (v := y32_8 ((8 * at_) + (fstM 1073741824 2048 (V_10) (y30_6) (y31_7) (y32_8) cl st_ at_ 0 8))) rfl dX3_best_198 (by omega) ?_
                    refine g_iload_n C dX3_best_199 rfl 2 rfl ?_
                    refine kX3_X3_behind st_ (y32_8 ((8 * at_) + (fstM 1073741824 2048 (V_10) (y30_6) (y31_7) (y32_8) cl st_ at_ 0 8))) cl C (by omega) (by omega) hcl ⟨Nat.le_of_ble_eq_true rfl, Nat.le_of_ble_eq_true rfl⟩ (Nat.le_of_ble_eq_true rfl) ⟨Nat.le_of_ble_eq_true rfl, Nat.le_of_ble_eq_true rfl⟩ (rv := bhd st_ (y32_8 ((8 * at_) + (fstM 1073741824 2048 (V_10) (y30_6) (y31_7) (y32_8) cl st_ at_ 0 8))) cl) rfl dX3_best_200 ?_
                    refine g_istore C dX3_best_203 (lv' := [(0, .ref (h 36)), (1, .int (iI a)), (2, .int (iI cl)), (3, .int (iI (ndc (g 17) (f 8)))), (5, .int (iI (2 * (6 * 0 + a) + 0))), (6, .int (iI (V_10 (2 * (6 * 0 + a) + 0)))), (7, .int (iI at_)), (8, .int (iI (bhd st_ (y32_8 ((8 * at_) + (fstM 1073741824 2048 (V_10) (y30_6) (y31_7) (y32_8) cl st_ at_ 0 8))) cl))), (9, .int (iI ((8 * at_) + (fstM 1073741824 2048 (V_10) (y30_6) (y31_7) (y32_8) cl st_ at_ 0 8))))]) [1, 2, 3, 4, 5, 6, 7, 0, 8] rfl (Nat.le_of_ble_eq_true rfl) ?_
                    refine g_aload_n C dX3_best_205 rfl 0 rfl ?_
                    refine gm_get30 C dX3_best_206 ?_
                    refine g_iload C dX3_best_209 8 rfl ?_
                    refine gm_ald30 C (v := y30_6 ((8 * at_) + (fstM 1073741824 2048 (V_10) (y30_6) (y31_7) (y32_8) cl st_ at_ 0 8))) rfl dX3_best_211 (by omega) ?_
                    refine g_istore C dX3_best_212 (lv' := [(0, .ref (h 36)), (1, .int (iI a)), (2, .int (iI cl)), (3, .int (iI (ndc (g 17) (f 8)))), (5, .int (iI (2 * (6 * 0 + a) + 0))), (6, .int (iI (V_10 (2 * (6 * 0 + a) + 0)))), (7, .int (iI (y30_6 ((8 * at_) + (fstM 1073741824 2048 (V_10) (y30_6) (y31_7) (y32_8) cl st_ at_ 0 8))))), (8, .int (iI (bhd st_ (y32_8 ((8 * at_) + (fstM 1073741824 2048 (V_10) (y30_6) (y31_7) (y32_8) cl st_ at_ 0 8))) cl))), (9, .int (iI ((8 * at_) + (fstM 1073741824 2048 (V_10) (y30_6) (y31_7) (y32_8) cl st_ at_ 0 8))))]) [1, 2, 3, 4, 5, 6, 0, 7, 8] rfl (Nat.le_of_ble_eq_true rfl) ?_
                    refine g_goto C (tgt := 129) dX3_best_214 (by decide) ?_
                    refine g_lv [0, 1, 2, 3, 4, 5, 6, 7] rfl ?_
                    exact ih14 (bhd st_ (y32_8 ((8 * at_) + (fstM 1073741824 2048 (V_10) (y30_6) (y31_7) (y32_8) cl st_ at_ 0 8))) cl) (y30_6 ((8 * at_) + (fstM 1073741824 2048 (V_10) (y30_6) (y31_7) (y32_8) cl st_ at_ 0 8))) (km + 1) (uI y21 km (fstM 1073741824 2048 (V_10) (y30_6) (y31_7) (y32_8) cl st_ at_ 0 8)) (fstM 1073741824 2048 (V_10) (y30_6) (y31_7) (y32_8) cl st_ at_ 0 8) (by omega) (by omega) (by omega) (by omega) (KPk_s hkp hkm.1 (by omega)) (by omega)
              refine g_lv [0, 1, 2, 3, 5, 6, 7, 8] rfl ?_
              exact L14 _ 0 (2 * (6 * 0 + a) + 0) 0 (g 21) fi_11 (by omega) (by omega) (by rw [show (60 : Int) * 0 + (2 * (6 * 0 + a) + 0) = 2 * (6 * 0 + a) + 0 by omega]; omega) (by have := mbd_rg (V := V_10) (set := 0) (at_ := 2 * (6 * 0 + a) + 0) (by omega); omega) KPk_0 (Nat.lt_succ_self _)
            ·
              refine g_iconst C dX3_best_115 ?_
              exact g_iret C dX3_best_116 rfl (Nat.le_of_ble_eq_true rfl) (Nat.le_of_ble_eq_true rfl) ⟨_, rfl, _, _, (Or.inr (Or.inr (Or.inl ⟨⟨by omega, by omega⟩, rfl, y29, y30_6, y31_7, y32_8, V_10, fi_11, (Bel_T hTa hBel), (by omega), rfl, rfl⟩))), rfl⟩
          ·
            refine g_iconst C dX3_best_71 ?_
            exact g_iret C dX3_best_72 rfl (Nat.le_of_ble_eq_true rfl) (Nat.le_of_ble_eq_true rfl) ⟨_, rfl, _, _, (Or.inr (Or.inl ⟨⟨by omega, by omega⟩, rfl, y29, rfl, rfl⟩)), rfl⟩
        ·
          refine g_aload_n C dX3_best_33 rfl 0 rfl ?_
          refine gm_get29 C dX3_best_34 ?_
          refine g_iload C dX3_best_37 4 rfl ?_
          refine g_iload_n C dX3_best_39 rfl 3 rfl ?_
          refine gm_ast29 C (g' := (ug g 29 (uI y29 k nn))) rfl dX3_best_40 (by omega) ?_
          refine g_iload_n C dX3_best_41 rfl 3 rfl ?_
          refine g_aload_n C dX3_best_42 rfl 0 rfl ?_
          refine gm_get17 C dX3_best_43 ?_
          refine g_iload C dX3_best_46 4 rfl ?_
          refine gm_ald17 C (v := (g 17) k) rfl dX3_best_48 (by omega) ?_
          have hf16 := hpt (k) (by omega) (by omega)
          refine g_if_eq C (tgt := 56) dX3_best_49 (by decide) (by omega) (fun hc49_17 => ?_) (fun hc49_17 => ?_)
          ·
            refine g_iconst C dX3_best_56 ?_
            refine g_iadd C dX3_best_57 ?_
            refine g_istore_n C dX3_best_58 rfl (lv' := [(0, .ref (h 36)), (1, .int (iI a)), (2, .int (iI cl)), (3, .int (iI (nn + 0))), (4, .int (iI k))]) [1, 2, 3, 0, 4] rfl (Nat.le_of_ble_eq_true rfl) ?_
            refine g_iinc C dX3_best_59 4 rfl (lv' := [(0, .ref (h 36)), (1, .int (iI a)), (2, .int (iI cl)), (3, .int (iI (nn + 0))), (4, .int (iI (k + 1)))]) [1, 2, 3, 4, 0] rfl (Nat.le_of_ble_eq_true rfl) ?_
            refine g_goto C (tgt := 24) dX3_best_62 (by decide) ?_
            exact ih3 (k + 1) (nn + 0) (uI y29 k nn) (by omega) (by rw [ndc_s hk.1, hn]; omega) (uI_all (P := fun j y => y = ndc (g 17) j) hy29 hn) (by omega)
          ·
            refine g_iconst C dX3_best_52 ?_
            refine g_goto C (tgt := 57) dX3_best_53 (by decide) ?_
            refine g_iadd C dX3_best_57 ?_
            refine g_istore_n C dX3_best_58 rfl (lv' := [(0, .ref (h 36)), (1, .int (iI a)), (2, .int (iI cl)), (3, .int (iI (nn + 1))), (4, .int (iI k))]) [1, 2, 3, 0, 4] rfl (Nat.le_of_ble_eq_true rfl) ?_
            refine g_iinc C dX3_best_59 4 rfl (lv' := [(0, .ref (h 36)), (1, .int (iI a)), (2, .int (iI cl)), (3, .int (iI (nn + 1))), (4, .int (iI (k + 1)))]) [1, 2, 3, 4, 0] rfl (Nat.le_of_ble_eq_true rfl) ?_
            refine g_goto C (tgt := 24) dX3_best_62 (by decide) ?_
            exact ih3 (k + 1) (nn + 1) (uI y29 k nn) (by omega) (by rw [ndc_s hk.1, hn]; omega) (uI_all (P := fun j y => y = ndc (g 17) j) hy29 hn) (by omega)
    exact L3 _ 0 0 (g 29) (by omega) rfl (fun j h0 h1 => absurd h1 (by omega)) (Nat.lt_succ_self _)
  ·
    have hc10_2b : ¬ (0 ≤ a ∧ a < f 3) := of_decide_eq_false (bI_0.mp (by omega))
    refine g_aload_n C dX3_best_13 rfl 0 rfl ?_
    refine g_iconst C dX3_best_14 ?_
    refine kX3_X3_fail 1 C  ⟨Nat.le_of_ble_eq_true rfl, Nat.le_of_ble_eq_true rfl⟩ (Nat.le_of_ble_eq_true rfl) ⟨Nat.le_of_ble_eq_true rfl, Nat.le_of_ble_eq_true rfl⟩ dX3_best_15 ?_
    refine g_ws (ws' := mW D h (up f 1 1) g) rfl ?_
    exact g_iret C dX3_best_18 rfl (Nat.le_of_ble_eq_true rfl) (Nat.le_of_ble_eq_true rfl) ⟨_, rfl, _, _, (Or.inl ⟨by omega, rfl, rfl, rfl⟩), rfl⟩

end MC8
