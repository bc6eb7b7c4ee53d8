/-! ===== contracts of the class: makes, book, kind ===== -/
section SC8
set_option maxHeartbeats 4000000 in
set_option maxRecDepth 100000 in
theorem c_X1_makes (l : Launch) (D : va_G) (hst : l.stackTraces = false) (h : Nat → Nat) (f : Nat → Int) (g : Nat → Int → Int) (N : Nat → Nat) (M : Nat → Nat → Nat) (T : va_W)  (hF : 1 ≤ f 0 ∧ f 0 ≤ 5) (hS : 2 ≤ f 1 ∧ f 1 ≤ 6) (hkd : ∀ j, 0 ≤ j → j < 6 → 0 ≤ g 5 j ∧ g 5 j ≤ 3) (hnp : 0 ≤ f 6 ∧ f 6 ≤ 55) (hN6 : N 6 = 55) : CT l D yX1_makes (ws_ yX1_makes cX1_makes 3 none) (rmD 8 110 220) (110) (220) va_A [.ref (h 0)] (sW D h f g N M T) exT (pV fun w => ∃ np : Int, ∃ k21 : Int, ∃ x24 : Int → Int, ∃ x25 : Int → Int, ∃ x26 : Int → Int, ∃ x27 : Int → Int, ∃ px : Nat → Nat, ∃ hb : Nat, (PA (paL (f 1).toNat (g 5) (f 0).toNat) np x24 x25 x26 x27) ∧ w = sW D (uN h 21 hb) (up (up f 6 np) 21 k21) (ug (ug (ug (ug g 24 x24) 25 x25) 26 x26) 27 x27) N (uM M 6 px) (ptW px x24 x25 x26 x27 np)) (xN) := by
  refine ct_U (lv := [(0, .ref (h 0))]) RX1 (by decide) rfl rfl hst (Nat.le_of_ble_eq_true rfl) rfl ?_
  intro p e s mm args below meth c A C htab hex hnm
  refine g_aload_n C dX1_makes_0 rfl 0 rfl ?_
  refine gs_get6 C dX1_makes_1 ?_
  refine gs_clear6 C (show 0 ≤ (f 6) ∧ (f 6) ≤ ((N 6 : Nat) : Int) ∧ N 6 ≤ 3000 by omega) ⟨Nat.le_of_ble_eq_true rfl, Nat.le_of_ble_eq_true rfl⟩ (Nat.le_of_ble_eq_true rfl) ⟨Nat.le_of_ble_eq_true rfl, Nat.le_of_ble_eq_true rfl⟩ dX1_makes_4 ?_
  refine g_sb (ws' := sW D h (up (up f 6 0) 21 (f 21 + 1)) g N M []) (Sb.tr Sb.lt Sb.toNil) ?_
  refine g_ws (ws' := sW D h (up (up f 6 0) 21 (f 21 + 1)) g N M (ptW (M 6) (g 24) (g 25) (g 26) (g 27) 0)) rfl ?_
  refine g_iconst C dX1_makes_7 ?_
  refine g_istore_n C dX1_makes_8 rfl (lv' := [(0, .ref (h 0)), (1, .int (iI 0))]) [1, 0] rfl (Nat.le_of_ble_eq_true rfl) ?_
  have L1 : ∀ (n : Nat) (i : Int) (np : Int) (k21 : Int) (x24 : Int → Int) (x25 : Int → Int) (x26 : Int → Int) (x27 : Int → Int) (px : Nat → Nat) (hb : Nat) (cv : Nat) (sv : Nat), (0 ≤ i ∧ i ≤ f 0) → (PA (paL (f 1).toNat (g 5) i.toNat) np x24 x25 x26 x27) → (cv ≤ 2 * np.toNat ∧ sv ≤ 4 * np.toNat) → (f 0 - i).toNat < n → GO p l e (rmD 8 110 220) s mm args below meth c 3 D A A cv sv (MX below D A (pV fun w => ∃ np : Int, ∃ k21 : Int, ∃ x24 : Int → Int, ∃ x25 : Int → Int, ∃ x26 : Int → Int, ∃ x27 : Int → Int, ∃ px : Nat → Nat, ∃ hb : Nat, (PA (paL (f 1).toNat (g 5) (f 0).toNat) np x24 x25 x26 x27) ∧ w = sW D (uN h 21 hb) (up (up f 6 np) 21 k21) (ug (ug (ug (ug g 24 x24) 25 x25) 26 x26) 27 x27) N (uM M 6 px) (ptW px x24 x25 x26 x27 np)) (xN) args s (110) (220)) (sW D (uN h 21 hb) (up (up f 6 np) 21 k21) (ug (ug (ug (ug g 24 x24) 25 x25) 26 x26) 27 x27) N (uM M 6 px) (ptW px x24 x25 x26 x27 np)) 9 [(0, .ref (h 0)), (1, .int (iI i))] [] := by
    intro n
    induction n with
    | zero => intro i np k21 x24 x25 x26 x27 px hb cv sv hi hPA hcv hm; exact absurd hm (Nat.not_lt_zero _)
    | succ n ih1 =>
      intro i np k21 x24 x25 x26 x27 px hb cv sv hi hPA hcv hm1
      have hb0 := paL_55 (S := (f 1).toNat) (F := i.toNat) (kd := g 5) (by omega) (by omega)
      have hlen0 := hPA.1
      refine g_iload_n C dX1_makes_9 rfl 1 rfl ?_
      refine g_aload_n C dX1_makes_10 rfl 0 rfl ?_
      refine gs_get0 C (v := f 0) rfl dX1_makes_11 ?_
      refine g_icmp_ge C (tgt := 149) dX1_makes_14 (by decide) (by omega) (by omega) (fun hc14_2 => ?_) (fun hc14_2 => ?_)
      ·
        exact g_vret C dX1_makes_149 (show cv ≤ 110 by omega) (show sv ≤ 220 by omega) ⟨rfl, np, k21, x24, x25, x26, x27, px, hb, (hPA.to (by rw [show i = f 0 by omega])), rfl⟩
      ·
        refine g_iconst C dX1_makes_17 ?_
        refine g_istore_n C dX1_makes_18 rfl (lv' := [(0, .ref (h 0)), (1, .int (iI i)), (2, .int (iI 0))]) [1, 2, 0] rfl (Nat.le_of_ble_eq_true rfl) ?_
        have L3 : ∀ (n : Nat) (k : Int) (np : Int) (k21 : Int) (x24 : Int → Int) (x25 : Int → Int) (x26 : Int → Int) (x27 : Int → Int) (px : Nat → Nat) (hb : Nat) (cv : Nat) (sv : Nat), (0 ≤ k ∧ k ≤ f 1 - 1) → (PA (paL (f 1).toNat (g 5) i.toNat ++ rnL i k.toNat) np x24 x25 x26 x27) → (cv ≤ 2 * np.toNat ∧ sv ≤ 4 * np.toNat) → (f 1 - k).toNat < n → GO p l e (rmD 8 110 220) s mm args below meth c 3 D A A cv sv (MX below D A (pV fun w => ∃ np : Int, ∃ k21 : Int, ∃ x24 : Int → Int, ∃ x25 : Int → Int, ∃ x26 : Int → Int, ∃ x27 : Int → Int, ∃ px : Nat → Nat, ∃ hb : Nat, (PA (paL (f 1).toNat (g 5) (f 0).toNat) np x24 x25 x26 x27) ∧ w = sW D (uN h 21 hb) (up (up f 6 np) 21 k21) (ug (ug (ug (ug g 24 x24) 25 x25) 26 x26) 27 x27) N (uM M 6 px) (ptW px x24 x25 x26 x27 np)) (xN) args s (110) (220)) (sW D (uN h 21 hb) (up (up f 6 np) 21 k21) (ug (ug (ug (ug g 24 x24) 25 x25) 26 x26) 27 x27) N (uM M 6 px) (ptW px x24 x25 x26 x27 np)) 19 [(0, .ref (h 0)), (1, .int (iI i)), (2, .int (iI k))] [] := by
          intro n
          induction n with
          | zero => intro k np k21 x24 x25 x26 x27 px hb cv sv hk hPA1 hcv hm; exact absurd hm (Nat.not_lt_zero _)
          | succ n ih3 =>
            intro k np k21 x24 x25 x26 x27 px hb cv sv hk hPA1 hcv hm3
            have hb0 := paL_55 (S := (f 1).toNat) (F := i.toNat) (kd := g 5) (by omega) (by omega)
            have hlen := hPA1.1
            simp only [List.length_append, rnL_l] at hlen
            have hr8 : 0 ≤ np ∧ np < 55 := by omega
            refine g_iload_n C dX1_makes_19 rfl 2 rfl ?_
            refine g_iconst C dX1_makes_20 ?_
            refine g_iadd C dX1_makes_21 ?_
            refine g_aload_n C dX1_makes_22 rfl 0 rfl ?_
            refine gs_get1 C (v := f 1) rfl dX1_makes_23 ?_
            refine g_icmp_ge C (tgt := 53) dX1_makes_26 (by decide) (by omega) (by omega) (fun hc26_4 => ?_) (fun hc26_4 => ?_)
            ·
              refine g_iconst C dX1_makes_53 ?_
              refine g_istore_n C dX1_makes_54 rfl (lv' := [(0, .ref (h 0)), (1, .int (iI i)), (2, .int (iI 0))]) [1, 2, 0] rfl (Nat.le_of_ble_eq_true rfl) ?_
              have L5 : ∀ (n : Nat) (k : Int) (np : Int) (k21 : Int) (x24 : Int → Int) (x25 : Int → Int) (x26 : Int → Int) (x27 : Int → Int) (px : Nat → Nat) (hb : Nat) (cv : Nat) (sv : Nat), (0 ≤ k ∧ k ≤ f 1) → (PA (paL (f 1).toNat (g 5) i.toNat ++ rnL i ((f 1).toNat - 1) ++ ppL i (f 1).toNat (g 5) k.toNat 2 1) np x24 x25 x26 x27) → (cv ≤ 2 * np.toNat ∧ sv ≤ 4 * np.toNat) → (f 1 - k).toNat < n → GO p l e (rmD 8 110 220) s mm args below meth c 3 D A A cv sv (MX below D A (pV fun w => ∃ np : Int, ∃ k21 : Int, ∃ x24 : Int → Int, ∃ x25 : Int → Int, ∃ x26 : Int → Int, ∃ x27 : Int → Int, ∃ px : Nat → Nat, ∃ hb : Nat, (PA (paL (f 1).toNat (g 5) (f 0).toNat) np x24 x25 x26 x27) ∧ w = sW D (uN h 21 hb) (up (up f 6 np) 21 k21) (ug (ug (ug (ug g 24 x24) 25 x25) 26 x26) 27 x27) N (uM M 6 px) (ptW px x24 x25 x26 x27 np)) (xN) args s (110) (220)) (sW D (uN h 21 hb) (up (up f 6 np) 21 k21) (ug (ug (ug (ug g 24 x24) 25 x25) 26 x26) 27 x27) N (uM M 6 px) (ptW px x24 x25 x26 x27 np)) 55 [(0, .ref (h 0)), (1, .int (iI i)), (2, .int (iI k))] [] := by
                intro n
                induction n with
                | zero => intro k np k21 x24 x25 x26 x27 px hb cv sv hk hPA2 hcv hm; exact absurd hm (Nat.not_lt_zero _)
                | succ n ih5 =>
                  intro k np k21 x24 x25 x26 x27 px hb cv sv hk hPA2 hcv hm5
                  have hb0 := paL_55 (S := (f 1).toNat) (F := i.toNat) (kd := g 5) (by omega) (by omega)
                  have hb2 := ppL_le i (f 1).toNat (g 5) 2 1 k.toNat
                  have hlen := hPA2.1
                  simp only [List.length_append, rnL_l] at hlen
                  have hr8 : 0 ≤ np ∧ (k < f 1 → np < 55) := by omega
                  refine g_iload_n C dX1_makes_55 rfl 2 rfl ?_
                  refine g_aload_n C dX1_makes_56 rfl 0 rfl ?_
                  refine gs_get1 C (v := f 1) rfl dX1_makes_57 ?_
                  refine g_icmp_ge C (tgt := 97) dX1_makes_60 (by decide) (by omega) (by omega) (fun hc60_6 => ?_) (fun hc60_6 => ?_)
                  ·
                    refine g_iconst C dX1_makes_97 ?_
                    refine g_istore_n C dX1_makes_98 rfl (lv' := [(0, .ref (h 0)), (1, .int (iI i)), (2, .int (iI 0))]) [1, 2, 0] rfl (Nat.le_of_ble_eq_true rfl) ?_
                    have L7 : ∀ (n : Nat) (k : Int) (np : Int) (k21 : Int) (x24 : Int → Int) (x25 : Int → Int) (x26 : Int → Int) (x27 : Int → Int) (px : Nat → Nat) (hb : Nat) (cv : Nat) (sv : Nat), (0 ≤ k ∧ k ≤ f 1 - 1) → (PA (paL (f 1).toNat (g 5) i.toNat ++ rnL i ((f 1).toNat - 1) ++ ppL i (f 1).toNat (g 5) (f 1).toNat 2 1 ++ ppL i (f 1).toNat (g 5) k.toNat 3 2) np x24 x25 x26 x27) → (cv ≤ 2 * np.toNat ∧ sv ≤ 4 * np.toNat) → (f 1 - k).toNat < n → GO p l e (rmD 8 110 220) s mm args below meth c 3 D A A cv sv (MX below D A (pV fun w => ∃ np : Int, ∃ k21 : Int, ∃ x24 : Int → Int, ∃ x25 : Int → Int, ∃ x26 : Int → Int, ∃ x27 : Int → Int, ∃ px : Nat → Nat, ∃ hb : Nat, (PA (paL (f 1).toNat (g 5) (f 0).toNat) np x24 x25 x26 x27) ∧ w = sW D (uN h 21 hb) (up (up f 6 np) 21 k21) (ug (ug (ug (ug g 24 x24) 25 x25) 26 x26) 27 x27) N (uM M 6 px) (ptW px x24 x25 x26 x27 np)) (xN) args s (110) (220)) (sW D (uN h 21 hb) (up (up f 6 np) 21 k21) (ug (ug (ug (ug g 24 x24) 25 x25) 26 x26) 27 x27) N (uM M 6 px) (ptW px x24 x25 x26 x27 np)) 99 [(0, .ref (h 0)), (1, .int (iI i)), (2, .int (iI k))] [] := by
                      intro n
                      induction n with
                      | zero => intro k np k21 x24 x25 x26 x27 px hb cv sv hk hPA3 hcv hm; exact absurd hm (Nat.not_lt_zero _)
                      | succ n ih7 =>
                        intro k np k21 x24 x25 x26 x27 px hb cv sv hk hPA3 hcv hm7
                        have hb0 := paL_55 (S := (f 1).toNat) (F := i.toNat) (kd := g 5) (by omega) (by omega)
                        have hb3 := ppL_tw (f := i) (S := (f 1).toNat) (kd := g 5) (k := k.toNat) (by omega)
                        have hlen := hPA3.1
                        simp only [List.length_append, rnL_l] at hlen
                        refine g_iload_n C dX1_makes_99 rfl 2 rfl ?_
                        refine g_iconst C dX1_makes_100 ?_
                        refine g_iadd C dX1_makes_101 ?_
                        refine g_aload_n C dX1_makes_102 rfl 0 rfl ?_
                        refine gs_get1 C (v := f 1) rfl dX1_makes_103 ?_
                        refine g_icmp_ge C (tgt := 143) dX1_makes_106 (by decide) (by omega) (by omega) (fun hc106_8 => ?_) (fun hc106_8 => ?_)
                        ·
                          refine g_iinc C dX1_makes_143 1 rfl (lv' := [(0, .ref (h 0)), (1, .int (iI (i + 1))), (2, .int (iI k))]) [1, 0, 2] rfl (Nat.le_of_ble_eq_true rfl) ?_
                          refine g_goto C (tgt := 9) dX1_makes_146 (by decide) ?_
                          refine g_lv [0, 1] rfl ?_
                          exact ih1 (i + 1) np k21 x24 x25 x26 x27 px hb cv sv (by omega) (hPA3.to (by rw [paL_t hi.1, show k = f 1 - 1 by omega, show (f 1 - 1).toNat = (f 1).toNat - 1 by omega])) (by omega) (by omega)
                        ·
                          refine g_aload_n C dX1_makes_109 rfl 0 rfl ?_
                          refine gs_get5 C dX1_makes_110 ?_
                          refine g_iload_n C dX1_makes_113 rfl 2 rfl ?_
                          refine gs_ald5 C (v := (g 5) k) rfl dX1_makes_114 (by omega) ?_
                          have hf9 := hkd (k) (by omega) (by omega)
                          refine g_iconst C dX1_makes_115 ?_
                          refine g_icmp_ne C (tgt := 137) dX1_makes_116 (by decide) (by omega) (by omega) (fun hc116_10 => ?_) (fun hc116_10 => ?_)
                          ·
                            refine g_iinc C dX1_makes_137 2 rfl (lv' := [(0, .ref (h 0)), (1, .int (iI i)), (2, .int (iI (k + 1)))]) [1, 2, 0] rfl (Nat.le_of_ble_eq_true rfl) ?_
                            refine g_goto C (tgt := 99) dX1_makes_140 (by decide) ?_
                            exact ih7 (k + 1) np k21 x24 x25 x26 x27 px hb cv sv (by omega) (hPA3.to (by rw [ppL_tn hk.1 (by omega)])) (by omega) (by omega)
                          ·
                            have hb4 := ppL_tw (f := i) (S := (f 1).toNat) (kd := g 5) (k := (k + 1).toNat) (by omega)
                            rw [ppL_ty hk.1 (by omega), List.length_append] at hb4
                            have hb5 : ([(i, k, (2 : Int))]).length = 1 := rfl
                            have hr9 : 0 ≤ np ∧ np < 55 := by omega
                            refine g_aload_n C dX1_makes_119 rfl 0 rfl ?_
                            refine gs_get6 C dX1_makes_120 ?_
                            refine g_new C in_X2 tyX2 tyX2_ok (ci := 2) rfl (fs := [.int (iI 0), .int (iI 0), .int (iI 0), .int (iI 0)]) (by decide +kernel) q438 q439 q68 dX1_makes_123 (show cv + 1 ≤ 110 by omega) (show sv + 4 ≤ 220 by omega) (fun q11 => ?_)
                            refine g_dup C dX1_makes_126 rfl ?_
                            refine g_iload_n C dX1_makes_127 rfl 1 rfl ?_
                            refine g_iload_n C dX1_makes_128 rfl 2 rfl ?_
                            refine g_iconst C dX1_makes_129 ?_
                            refine kX1_newPart (wr := sW D (uN h 21 hb) (up (up f 6 np) 21 k21) (ug (ug (ug (ug g 24 x24) 25 x25) 26 x26) 27 x27) N (uM M 6 px) (ptW px x24 x25 x26 x27 np)) q11 i k 2 C ⟨Nat.le_of_ble_eq_true rfl, Nat.le_of_ble_eq_true rfl⟩ (Nat.le_of_ble_eq_true rfl) ⟨(show cv + 1 + 0 ≤ 110 by omega), (show sv + 4 + 0 ≤ 220 by omega)⟩ Sb.rf dX1_makes_130 ?_
                            refine gs_addPart C (show 0 ≤ np ∧ np < 55 by omega) hN6 ⟨Nat.le_of_ble_eq_true rfl, Nat.le_of_ble_eq_true rfl⟩ (Nat.le_of_ble_eq_true rfl) ⟨(show cv + 1 + (0) + 1 ≤ 110 by omega), (show sv + 4 + (0) + 0 ≤ 220 by omega)⟩ dX1_makes_133 (fun b12 => ?_)
                            refine g_ws (ws' := sW D (uN h 21 b12) (up (up f 6 (np + 1)) 21 (k21 + 1)) (ug (ug (ug (ug g 24 (uI x24 np i)) 25 (uI x25 np k)) 26 (uI x26 np 2)) 27 (uI x27 np 1)) N (uM M 6 (paU px np q11)) (ptW (paU px np q11) (uI x24 np i) (uI x25 np k) (uI x26 np 2) (uI x27 np 1) (np + 1))) rfl ?_
                            refine g_pop C dX1_makes_136 rfl ?_
                            refine g_iinc C dX1_makes_137 2 rfl (lv' := [(0, .ref (h 0)), (1, .int (iI i)), (2, .int (iI (k + 1)))]) [1, 2, 0] rfl (Nat.le_of_ble_eq_true rfl) ?_
                            refine g_goto C (tgt := 99) dX1_makes_140 (by decide) ?_
                            exact ih7 (k + 1) (np + 1) (k21 + 1) (uI x24 np i) (uI x25 np k) (uI x26 np 2) (uI x27 np 1) (paU px np q11) b12 (cv + 1 + (0) + 1) (sv + 4 + (0)) (by omega) ((hPA3.push i k 2).to (by rw [ppL_ty hk.1 (by omega), List.append_assoc])) (by omega) (by omega)
                    exact L7 _ 0 np k21 x24 x25 x26 x27 px hb cv sv (by omega) (hPA2.to (by rw [show k = f 1 by omega]; show _ = _ ++ ppL i _ _ 0 3 2; rw [ppL_0, List.append_nil])) (by omega) (Nat.lt_succ_self _)
                  ·
                    refine g_aload_n C dX1_makes_63 rfl 0 rfl ?_
                    refine gs_get5 C dX1_makes_64 ?_
                    refine g_iload_n C dX1_makes_67 rfl 2 rfl ?_
                    refine gs_ald5 C (v := (g 5) k) rfl dX1_makes_68 (by omega) ?_
                    have hf13 := hkd (k) (by omega) (by omega)
                    refine g_iconst C dX1_makes_69 ?_
                    refine g_icmp_ne C (tgt := 91) dX1_makes_70 (by decide) (by omega) (by omega) (fun hc70_14 => ?_) (fun hc70_14 => ?_)
                    ·
                      refine g_iinc C dX1_makes_91 2 rfl (lv' := [(0, .ref (h 0)), (1, .int (iI i)), (2, .int (iI (k + 1)))]) [1, 2, 0] rfl (Nat.le_of_ble_eq_true rfl) ?_
                      refine g_goto C (tgt := 55) dX1_makes_94 (by decide) ?_
                      exact ih5 (k + 1) np k21 x24 x25 x26 x27 px hb cv sv (by omega) (hPA2.to (by rw [ppL_tn hk.1 (by omega)])) (by omega) (by omega)
                    ·
                      have hr9 : 0 ≤ np ∧ np < 55 := by omega
                      refine g_aload_n C dX1_makes_73 rfl 0 rfl ?_
                      refine gs_get6 C dX1_makes_74 ?_
                      refine g_new C in_X2 tyX2 tyX2_ok (ci := 2) rfl (fs := [.int (iI 0), .int (iI 0), .int (iI 0), .int (iI 0)]) (by decide +kernel) q438 q439 q68 dX1_makes_77 (show cv + 1 ≤ 110 by omega) (show sv + 4 ≤ 220 by omega) (fun q15 => ?_)
                      refine g_dup C dX1_makes_80 rfl ?_
                      refine g_iload_n C dX1_makes_81 rfl 1 rfl ?_
                      refine g_iload_n C dX1_makes_82 rfl 2 rfl ?_
                      refine g_iconst C dX1_makes_83 ?_
                      refine kX1_newPart (wr := sW D (uN h 21 hb) (up (up f 6 np) 21 k21) (ug (ug (ug (ug g 24 x24) 25 x25) 26 x26) 27 x27) N (uM M 6 px) (ptW px x24 x25 x26 x27 np)) q15 i k 1 C ⟨Nat.le_of_ble_eq_true rfl, Nat.le_of_ble_eq_true rfl⟩ (Nat.le_of_ble_eq_true rfl) ⟨(show cv + 1 + 0 ≤ 110 by omega), (show sv + 4 + 0 ≤ 220 by omega)⟩ Sb.rf dX1_makes_84 ?_
                      refine gs_addPart C (show 0 ≤ np ∧ np < 55 by omega) hN6 ⟨Nat.le_of_ble_eq_true rfl, Nat.le_of_ble_eq_true rfl⟩ (Nat.le_of_ble_eq_true rfl) ⟨(show cv + 1 + (0) + 1 ≤ 110 by omega), (show sv + 4 + (0) + 0 ≤ 220 by omega)⟩ dX1_makes_87 (fun b16 => ?_)
                      refine g_ws (ws' := sW D (uN h 21 b16) (up (up f 6 (np + 1)) 21 (k21 + 1)) (ug (ug (ug (ug g 24 (uI x24 np i)) 25 (uI x25 np k)) 26 (uI x26 np 1)) 27 (uI x27 np 1)) N (uM M 6 (paU px np q15)) (ptW (paU px np q15) (uI x24 np i) (uI x25 np k) (uI x26 np 1) (uI x27 np 1) (np + 1))) rfl ?_
                      refine g_pop C dX1_makes_90 rfl ?_
                      refine g_iinc C dX1_makes_91 2 rfl (lv' := [(0, .ref (h 0)), (1, .int (iI i)), (2, .int (iI (k + 1)))]) [1, 2, 0] rfl (Nat.le_of_ble_eq_true rfl) ?_
                      refine g_goto C (tgt := 55) dX1_makes_94 (by decide) ?_
                      exact ih5 (k + 1) (np + 1) (k21 + 1) (uI x24 np i) (uI x25 np k) (uI x26 np 1) (uI x27 np 1) (paU px np q15) b16 (cv + 1 + (0) + 1) (sv + 4 + (0)) (by omega) ((hPA2.push i k 1).to (by rw [ppL_ty hk.1 (by omega), List.append_assoc])) (by omega) (by omega)
              exact L5 _ 0 np k21 x24 x25 x26 x27 px hb cv sv (by omega) (hPA1.to (by rw [show k.toNat = (f 1).toNat - 1 by omega]; show _ = _ ++ ppL i _ _ 0 2 1; rw [ppL_0, List.append_nil])) (by omega) (Nat.lt_succ_self _)
            ·
              refine g_aload_n C dX1_makes_29 rfl 0 rfl ?_
              refine gs_get6 C dX1_makes_30 ?_
              refine g_new C in_X2 tyX2 tyX2_ok (ci := 2) rfl (fs := [.int (iI 0), .int (iI 0), .int (iI 0), .int (iI 0)]) (by decide +kernel) q438 q439 q68 dX1_makes_33 (show cv + 1 ≤ 110 by omega) (show sv + 4 ≤ 220 by omega) (fun q17 => ?_)
              refine g_dup C dX1_makes_36 rfl ?_
              refine g_iload_n C dX1_makes_37 rfl 1 rfl ?_
              refine g_iload_n C dX1_makes_38 rfl 2 rfl ?_
              refine g_iconst C dX1_makes_39 ?_
              refine kX1_newPart (wr := sW D (uN h 21 hb) (up (up f 6 np) 21 k21) (ug (ug (ug (ug g 24 x24) 25 x25) 26 x26) 27 x27) N (uM M 6 px) (ptW px x24 x25 x26 x27 np)) q17 i k 0 C ⟨Nat.le_of_ble_eq_true rfl, Nat.le_of_ble_eq_true rfl⟩ (Nat.le_of_ble_eq_true rfl) ⟨(show cv + 1 + 0 ≤ 110 by omega), (show sv + 4 + 0 ≤ 220 by omega)⟩ Sb.rf dX1_makes_40 ?_
              refine gs_addPart C (show 0 ≤ np ∧ np < 55 by omega) hN6 ⟨Nat.le_of_ble_eq_true rfl, Nat.le_of_ble_eq_true rfl⟩ (Nat.le_of_ble_eq_true rfl) ⟨(show cv + 1 + (0) + 1 ≤ 110 by omega), (show sv + 4 + (0) + 0 ≤ 220 by omega)⟩ dX1_makes_43 (fun b18 => ?_)
              refine g_ws (ws' := sW D (uN h 21 b18) (up (up f 6 (np + 1)) 21 (k21 + 1)) (ug (ug (ug (ug g 24 (uI x24 np i)) 25 (uI x25 np k)) 26 (uI x26 np 0)) 27 (uI x27 np 1)) N (uM M 6 (paU px np q17)) (ptW (paU px np q17) (uI x24 np i) (uI x25 np k) (uI x26 np 0) (uI x27 np 1) (np + 1))) rfl ?_
              refine g_pop C dX1_makes_46 rfl ?_
              refine g_iinc C dX1_makes_47 2 rfl (lv' := [(0, .ref (h 0)), (1, .int (iI i)), (2, .int (iI (k + 1)))]) [1, 2, 0] rfl (Nat.le_of_ble_eq_true rfl) ?_
              refine g_goto C (tgt := 19) dX1_makes_50 (by decide) ?_
              exact ih3 (k + 1) (np + 1) (k21 + 1) (uI x24 np i) (uI x25 np k) (uI x26 np 0) (uI x27 np 1) (paU px np q17) b18 (cv + 1 + (0) + 1) (sv + 4 + (0)) (by omega) ((hPA1.push i k 0).to (by rw [rnL_t hk.1, List.append_assoc])) (by omega) (by omega)
        exact L3 _ 0 np k21 x24 x25 x26 x27 px hb cv sv (by omega) (hPA.to (by show _ = _ ++ rnL i 0; simp [rnL])) (by omega) (Nat.lt_succ_self _)
  exact L1 _ 0 0 (f 21 + 1) (g 24) (g 25) (g 26) (g 27) (M 6) (h 21) 0 0 (by omega) (PA.nil _ _ _ _) (by omega) (Nat.lt_succ_self _)

section MK
variable {p : Program} {l : Launch} {e : Env} {R : Room} {s : State} {mm : MethodId} {args : Array Value} {below : List Frame} {meth : Method} {c : Code} {cc : ByteArray} {nL : Nat} {ret : Option FieldType} {D : va_G} {A B : Nat → Prop} {cells slots : Nat} {Q : State → Prop} {pc : Nat} {lv : List (Nat × Value)} {st : List Value}
theorem kX1_X1_makes (h : Nat → Nat) (f : Nat → Int) (g : Nat → Int → Int) (N : Nat → Nat) (M : Nat → Nat → Nat) (T : va_W)  (C : CX p l s mm args meth c RX1 cc nL ret D A) (hF : 1 ≤ f 0 ∧ f 0 ≤ 5) (hS : 2 ≤ f 1 ∧ f 1 ≤ 6) (hkd : ∀ j, 0 ≤ j → j < 6 → 0 ≤ g 5 j ∧ g 5 j ≤ 3) (hnp : 0 ≤ f 6 ∧ f 6 ≤ 55) (hN6 : N 6 = 55) (hR : 8 + 1 ≤ R.frames ∧ 8 + (3 + 11) + 64 * 8 ≤ R.locals) (hcat : (st.map fun v => v.category).sum ≤ 8) (hroom : cells + 110 ≤ R.cells ∧ slots + 220 ≤ R.slots) (d : decode cc pc = .ok (.invokevirtual 94, 3)) (K : ∀ (np : Int) (k21 : Int) (x24 : Int → Int) (x25 : Int → Int) (x26 : Int → Int) (x27 : Int → Int) (px : Nat → Nat) (hb : Nat) , (PA (paL (f 1).toNat (g 5) (f 0).toNat) np x24 x25 x26 x27) → GO p l e R s mm args below meth c nL D A A (cells + 110) (slots + 220) Q (sW D (uN h 21 hb) (up (up f 6 np) 21 k21) (ug (ug (ug (ug g 24 x24) 25 x25) 26 x26) 27 x27) N (uM M 6 px) (ptW px x24 x25 x26 x27 np)) (pc + 3) lv (st)) : GO p l e R s mm args below meth c nL D A A cells slots Q (sW D h f g N M T) (pc) lv (.ref (h 0) :: st) := by
  refine g_callVU C (c_X1_makes l D C.hl h f g N M T hF hS hkd hnp hN6) (As := []) (n := 0) (lw_V q434 q436 qs1 q48 q437) (by decide +kernel) rfl rfl hR (rcvM C) rfl rfl hcat hroom d (wr := []) Sb.rf exT_b hex_t (fun v w hp => ?_) kx_nu
  obtain ⟨rfl, np, k21, x24, x25, x26, x27, px, hb, h0_, rfl⟩ := hp
  exact K np k21 x24 x25 x26 x27 px hb h0_
end MK

end SC8
