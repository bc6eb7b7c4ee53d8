/-! ===== contracts of the class: kind, book ===== -/
section SC9
set_option maxHeartbeats 4000000 in
set_option maxRecDepth 100000 in
theorem c_X1_kind (l : Launch) (D : va_G) (hst : l.stackTraces = false) (h : Nat → Nat) (f : Nat → Int) (g : Nat → Int → Int) (N : Nat → Nat) (M : Nat → Nat → Nat) (T : va_W) (a v : Int) (hF : 1 ≤ f 0 ∧ f 0 ≤ 5) (hS : 2 ≤ f 1 ∧ f 1 ≤ 6) (hkd : ∀ j, 0 ≤ j → j < 6 → 0 ≤ g 5 j ∧ g 5 j ≤ 3) (hpl : 0 ≤ f 7 ∧ f 7 ≤ 8) (hnp : 0 ≤ f 6 ∧ f 6 ≤ 55) (hN6 : N 6 = 55) (har : -2147483648 ≤ a ∧ a < 2147483648) (hvr : -2147483648 ≤ v ∧ v < 2147483648) : CT l D yX1_kind (ws_ yX1_kind cX1_kind 3 (some .boolean)) (rmD 9 111 226) (111) (226) va_A [.ref (h 0), .int (iI a), .int (iI v)] (sW D h f g N M T) exT (pI fun z w => (((0 ≤ a ∧ a < f 1) ∧ (0 < f 7 ∨ v < 0 ∨ 3 < v)) ∧ z = 0 ∧ w = sW D h f g N M T) ∨ (((0 ≤ a ∧ a < f 1) ∧ f 7 = 0 ∧ 0 ≤ v ∧ v ≤ 3) ∧ z = 1 ∧ ∃ np : Int, ∃ k21 : Int, ∃ x24 : Int → Int, ∃ x25 : Int → Int, ∃ x26 : Int → Int, ∃ x27 : Int → Int, ∃ px : Nat → Nat, ∃ hb : Nat, PA (paL (f 1).toNat (uI (g 5) a v) (f 0).toNat) np x24 x25 x26 x27 ∧ w = sW D (uN h 21 hb) (up (up f 6 np) 21 k21) (ug (ug (ug (ug (ug g 5 (uI (g 5) a v)) 24 x24) 25 x25) 26 x26) 27 x27) N (uM M 6 px) (ptW px x24 x25 x26 x27 np))) (fun E _ w => E = EN ∧ ¬ (0 ≤ a ∧ a < f 1) ∧ w = sW D h f g N M T) := by
  refine ct_U (lv := [(0, .ref (h 0)), (1, .int (iI a)), (2, .int (iI v))]) RX1 (by decide) rfl rfl hst (Nat.le_of_ble_eq_true rfl) rfl ?_
  intro p e s mm args below meth c A C htab hex hnm
  refine g_aload_n C dX1_kind_0 rfl 0 rfl ?_
  refine g_iload_n C dX1_kind_1 rfl 1 rfl ?_
  refine kX1_X1_isStation h f g N M T a C hS (by omega) ⟨Nat.le_of_ble_eq_true rfl, Nat.le_of_ble_eq_true rfl⟩ (Nat.le_of_ble_eq_true rfl) ⟨Nat.le_of_ble_eq_true rfl, Nat.le_of_ble_eq_true rfl⟩ Sb.rf dX1_kind_2 (fun hN1 => ?_) (fun hT2 q3 => ?_)
  ·
    refine g_aload_n C dX1_kind_5 rfl 0 rfl ?_
    refine gs_get7 C dX1_kind_6 ?_
    refine kX1_lsize (h 7) (h 22) (f 22) (N 7) (f 7) (M 7) C ⟨Nat.le_of_ble_eq_true rfl, Nat.le_of_ble_eq_true rfl⟩ (Nat.le_of_ble_eq_true rfl) ⟨Nat.le_of_ble_eq_true rfl, Nat.le_of_ble_eq_true rfl⟩ (rv := f 7) rfl sb_l7 dX1_kind_9 ?_
    refine g_if_gt C (tgt := 24) dX1_kind_12 (by decide) (by omega) (fun hc12_4 => ?_) (fun hc12_4 => ?_)
    ·
      refine g_iconst C dX1_kind_24 ?_
      exact g_iret C dX1_kind_25 rfl (Nat.le_of_ble_eq_true rfl) (Nat.le_of_ble_eq_true rfl) ⟨_, rfl, Or.inl ⟨by omega, rfl, rfl⟩⟩
    ·
      refine g_iload_n C dX1_kind_15 rfl 2 rfl ?_
      refine g_if_lt C (tgt := 24) dX1_kind_16 (by decide) (by omega) (fun hc16_5 => ?_) (fun hc16_5 => ?_)
      ·
        refine g_iconst C dX1_kind_24 ?_
        exact g_iret C dX1_kind_25 rfl (Nat.le_of_ble_eq_true rfl) (Nat.le_of_ble_eq_true rfl) ⟨_, rfl, Or.inl ⟨by omega, rfl, rfl⟩⟩
      ·
        refine g_iload_n C dX1_kind_19 rfl 2 rfl ?_
        refine g_iconst C dX1_kind_20 ?_
        refine g_icmp_le C (tgt := 26) dX1_kind_21 (by decide) (by omega) (by omega) (fun hc21_6 => ?_) (fun hc21_6 => ?_)
        ·
          refine g_aload_n C dX1_kind_26 rfl 0 rfl ?_
          refine gs_get5 C dX1_kind_27 ?_
          refine g_iload_n C dX1_kind_30 rfl 1 rfl ?_
          refine g_iload_n C dX1_kind_31 rfl 2 rfl ?_
          refine gs_ast5 C (g' := (ug g 5 (uI (g 5) a v))) rfl dX1_kind_32 (by omega) ?_
          refine g_aload_n C dX1_kind_33 rfl 0 rfl ?_
          refine kX1_X1_makes h f (ug g 5 (uI (g 5) a v)) N M T C hF hS (fun j h0 h1 => by show 0 ≤ uI (g 5) a v j ∧ uI (g 5) a v j ≤ 3; unfold uI; split; omega; exact hkd j h0 h1) hnp hN6 ⟨Nat.le_of_ble_eq_true rfl, Nat.le_of_ble_eq_true rfl⟩ (Nat.le_of_ble_eq_true rfl) ⟨Nat.le_of_ble_eq_true rfl, Nat.le_of_ble_eq_true rfl⟩ dX1_kind_34 ?_
          intro np_7 k21_8 x24_9 x25_10 x26_11 x27_12 px_13 hb_14 hPA_15
          refine g_ws (ws' := sW D (uN h 21 hb_14) (up (up f 6 np_7) 21 k21_8) (ug (ug (ug (ug (ug g 5 (uI (g 5) a v)) 24 x24_9) 25 x25_10) 26 x26_11) 27 x27_12) N (uM M 6 px_13) (ptW px_13 x24_9 x25_10 x26_11 x27_12 np_7)) rfl ?_
          refine g_iconst C dX1_kind_37 ?_
          exact g_iret C dX1_kind_38 rfl (Nat.le_of_ble_eq_true rfl) (Nat.le_of_ble_eq_true rfl) ⟨_, rfl, Or.inr ⟨by omega, rfl, np_7, k21_8, x24_9, x25_10, x26_11, x27_12, px_13, hb_14, hPA_15, rfl⟩⟩
        ·
          refine g_iconst C dX1_kind_24 ?_
          exact g_iret C dX1_kind_25 rfl (Nat.le_of_ble_eq_true rfl) (Nat.le_of_ble_eq_true rfl) ⟨_, rfl, Or.inl ⟨by omega, rfl, rfl⟩⟩
  ·
    exact x_out C htab (Nat.le_of_ble_eq_true rfl) (Nat.le_of_ble_eq_true rfl) ⟨rfl, by omega, rfl⟩

set_option maxHeartbeats 4000000 in
set_option maxRecDepth 100000 in
theorem c_X1_book (l : Launch) (D : va_G) (hst : l.stackTraces = false) (h : Nat → Nat) (f : Nat → Int) (g : Nat → Int → Int) (N : Nat → Nat) (M : Nat → Nat → Nat) (T : va_W) (a b : Int) (hnp : 0 ≤ f 6 ∧ f 6 ≤ 55) (hN6 : N 6 = 55) (hpn : 0 ≤ f 7 ∧ f 7 ≤ N 7 ∧ N 7 ≤ 3000) (hkn : 0 ≤ f 11 ∧ f 11 ≤ 1000 ∧ f 11 ≤ N 11 ∧ N 11 ≤ 3000) (har : -2147483648 ≤ a ∧ a < 2147483648) (hbr : -2147483648 ≤ b ∧ b < 2147483648) : CT l D yX1_book (ws_ yX1_book cX1_book 4 (some .boolean)) (rmD 9 110 220) (110) (220) va_A [.ref (h 0), .int (iI a), .int (iI b)] (sW D h f g N M T) exT (pI fun z w => (¬ (1 ≤ a ∧ a ≤ 5 ∧ 2 ≤ b ∧ b ≤ 6) ∧ z = 0 ∧ w = sW D h f g N M T) ∨ ((1 ≤ a ∧ a ≤ 5 ∧ 2 ≤ b ∧ b ≤ 6) ∧ z = 1 ∧ ∃ np : Int, ∃ k21 : Int, ∃ x24 : Int → Int, ∃ x25 : Int → Int, ∃ x26 : Int → Int, ∃ x27 : Int → Int, ∃ px : Nat → Nat, ∃ hb : Nat, PA (paL b.toNat (fun _ => 0) a.toNat) np x24 x25 x26 x27 ∧ w = sW D (uN h 21 hb) (up (up (up (up (up (up (up (up (up f 0 a) 1 b) 2 1) 6 np) 7 0) 11 0) 21 k21) 22 (f 22 + 1)) 23 (f 23 + 1)) (ug (ug (ug (ug (ug (ug (ug g 3 (fun _ => 10)) 4 (fun j => 20 * j)) 5 (fun _ => 0)) 24 x24) 25 x25) 26 x26) 27 x27) N (uM M 6 px) (ptW px x24 x25 x26 x27 np))) (xN) := by
  refine ct_U (lv := [(0, .ref (h 0)), (1, .int (iI a)), (2, .int (iI b))]) RX1 (by decide) rfl rfl hst (Nat.le_of_ble_eq_true rfl) rfl ?_
  intro p e s mm args below meth c A C htab hex hnm
  refine g_iload_n C dX1_book_0 rfl 1 rfl ?_
  refine g_iconst C dX1_book_1 ?_
  refine g_icmp_lt C (tgt := 21) dX1_book_2 (by decide) (by omega) (by omega) (fun hc2_1 => ?_) (fun hc2_1 => ?_)
  ·
    refine g_iconst C dX1_book_21 ?_
    exact g_iret C dX1_book_22 rfl (Nat.le_of_ble_eq_true rfl) (Nat.le_of_ble_eq_true rfl) ⟨_, rfl, Or.inl ⟨by omega, rfl, rfl⟩⟩
  ·
    refine g_iload_n C dX1_book_5 rfl 1 rfl ?_
    refine g_iconst C dX1_book_6 ?_
    refine g_icmp_gt C (tgt := 21) dX1_book_7 (by decide) (by omega) (by omega) (fun hc7_2 => ?_) (fun hc7_2 => ?_)
    ·
      refine g_iconst C dX1_book_21 ?_
      exact g_iret C dX1_book_22 rfl (Nat.le_of_ble_eq_true rfl) (Nat.le_of_ble_eq_true rfl) ⟨_, rfl, Or.inl ⟨by omega, rfl, rfl⟩⟩
    ·
      refine g_iload_n C dX1_book_10 rfl 2 rfl ?_
      refine g_iconst C dX1_book_11 ?_
      refine g_icmp_lt C (tgt := 21) dX1_book_12 (by decide) (by omega) (by omega) (fun hc12_3 => ?_) (fun hc12_3 => ?_)
      ·
        refine g_iconst C dX1_book_21 ?_
        exact g_iret C dX1_book_22 rfl (Nat.le_of_ble_eq_true rfl) (Nat.le_of_ble_eq_true rfl) ⟨_, rfl, Or.inl ⟨by omega, rfl, rfl⟩⟩
      ·
        refine g_iload_n C dX1_book_15 rfl 2 rfl ?_
        refine g_bipush C dX1_book_16 (z := 6) rfl ?_
        refine g_icmp_le C (tgt := 23) dX1_book_18 (by decide) (by omega) (by omega) (fun hc18_4 => ?_) (fun hc18_4 => ?_)
        ·
          refine g_aload_n C dX1_book_23 rfl 0 rfl ?_
          refine g_iload_n C dX1_book_24 rfl 1 rfl ?_
          refine gs_put0 C (f' := (up f 0 a)) rfl dX1_book_25 ?_
          refine g_aload_n C dX1_book_28 rfl 0 rfl ?_
          refine g_iload_n C dX1_book_29 rfl 2 rfl ?_
          refine gs_put1 C (f' := (up (up f 0 a) 1 b)) rfl dX1_book_30 ?_
          refine g_aload_n C dX1_book_33 rfl 0 rfl ?_
          refine g_iconst C dX1_book_34 ?_
          refine gs_put2 C (f' := (up (up (up f 0 a) 1 b) 2 1)) rfl dX1_book_35 ?_
          refine g_iconst C dX1_book_38 ?_
          refine g_istore_n C dX1_book_39 rfl (lv' := [(0, .ref (h 0)), (1, .int (iI a)), (2, .int (iI b)), (3, .int (iI 0))]) [1, 2, 3, 0] rfl (Nat.le_of_ble_eq_true rfl) ?_
          have L5 : ∀ (n : Nat) (k : Int) (y3 : Int → Int), (0 ≤ k ∧ k ≤ 5) → (∀ j, 0 ≤ j → j < k → y3 j = 10) → (5 - k).toNat < n → GO p l e (rmD 9 110 220) s mm args below meth c 4 D A A 0 0 (MX below D A (pI fun z w => (¬ (1 ≤ a ∧ a ≤ 5 ∧ 2 ≤ b ∧ b ≤ 6) ∧ z = 0 ∧ w = sW D h f g N M T) ∨ ((1 ≤ a ∧ a ≤ 5 ∧ 2 ≤ b ∧ b ≤ 6) ∧ z = 1 ∧ ∃ np : Int, ∃ k21 : Int, ∃ x24 : Int → Int, ∃ x25 : Int → Int, ∃ x26 : Int → Int, ∃ x27 : Int → Int, ∃ px : Nat → Nat, ∃ hb : Nat, PA (paL b.toNat (fun _ => 0) a.toNat) np x24 x25 x26 x27 ∧ w = sW D (uN h 21 hb) (up (up (up (up (up (up (up (up (up f 0 a) 1 b) 2 1) 6 np) 7 0) 11 0) 21 k21) 22 (f 22 + 1)) 23 (f 23 + 1)) (ug (ug (ug (ug (ug (ug (ug g 3 (fun _ => 10)) 4 (fun j => 20 * j)) 5 (fun _ => 0)) 24 x24) 25 x25) 26 x26) 27 x27) N (uM M 6 px) (ptW px x24 x25 x26 x27 np))) (xN) args s (110) (220)) (sW D h (up (up (up f 0 a) 1 b) 2 1) (ug g 3 y3) N M T) 40 [(0, .ref (h 0)), (1, .int (iI a)), (2, .int (iI b)), (3, .int (iI k))] [] := by
            intro n
            induction n with
            | zero => intro k y3 hk h3 hm; exact absurd hm (Nat.not_lt_zero _)
            | succ n ih5 =>
              intro k y3 hk h3 hm5
              refine g_iload_n C dX1_book_40 rfl 3 rfl ?_
              refine g_iconst C dX1_book_41 ?_
              refine g_icmp_ge C (tgt := 59) dX1_book_42 (by decide) (by omega) (by omega) (fun hc42_6 => ?_) (fun hc42_6 => ?_)
              ·
                refine gs_con3 (x := fun _ => 10) (g' := (ug g 3 (fun _ => 10))) (fun j h0 h1 => h3 j h0 (by omega)) rfl ?_
                refine g_iconst C dX1_book_59 ?_
                refine g_istore_n C dX1_book_60 rfl (lv' := [(0, .ref (h 0)), (1, .int (iI a)), (2, .int (iI b)), (3, .int (iI 0))]) [1, 2, 3, 0] rfl (Nat.le_of_ble_eq_true rfl) ?_
                have L7 : ∀ (n : Nat) (k : Int) (y4 : Int → Int) (y5 : Int → Int), (0 ≤ k ∧ k ≤ 6) → (∀ j, 0 ≤ j → j < k → y4 j = 20 * j) → (∀ j, 0 ≤ j → j < k → y5 j = 0) → (6 - k).toNat < n → GO p l e (rmD 9 110 220) s mm args below meth c 4 D A A 0 0 (MX below D A (pI fun z w => (¬ (1 ≤ a ∧ a ≤ 5 ∧ 2 ≤ b ∧ b ≤ 6) ∧ z = 0 ∧ w = sW D h f g N M T) ∨ ((1 ≤ a ∧ a ≤ 5 ∧ 2 ≤ b ∧ b ≤ 6) ∧ z = 1 ∧ ∃ np : Int, ∃ k21 : Int, ∃ x24 : Int → Int, ∃ x25 : Int → Int, ∃ x26 : Int → Int, ∃ x27 : Int → Int, ∃ px : Nat → Nat, ∃ hb : Nat, PA (paL b.toNat (fun _ => 0) a.toNat) np x24 x25 x26 x27 ∧ w = sW D (uN h 21 hb) (up (up (up (up (up (up (up (up (up f 0 a) 1 b) 2 1) 6 np) 7 0) 11 0) 21 k21) 22 (f 22 + 1)) 23 (f 23 + 1)) (ug (ug (ug (ug (ug (ug (ug g 3 (fun _ => 10)) 4 (fun j => 20 * j)) 5 (fun _ => 0)) 24 x24) 25 x25) 26 x26) 27 x27) N (uM M 6 px) (ptW px x24 x25 x26 x27 np))) (xN) args s (110) (220)) (sW D h (up (up (up f 0 a) 1 b) 2 1) (ug (ug (ug g 3 (fun _ => 10)) 4 y4) 5 y5) N M T) 61 [(0, .ref (h 0)), (1, .int (iI a)), (2, .int (iI b)), (3, .int (iI k))] [] := by
                  intro n
                  induction n with
                  | zero => intro k y4 y5 hk h4 h5 hm; exact absurd hm (Nat.not_lt_zero _)
                  | succ n ih7 =>
                    intro k y4 y5 hk h4 h5 hm7
                    refine g_iload_n C dX1_book_61 rfl 3 rfl ?_
                    refine g_bipush C dX1_book_62 (z := 6) rfl ?_
                    refine g_icmp_ge C (tgt := 90) dX1_book_64 (by decide) (by omega) (by omega) (fun hc64_8 => ?_) (fun hc64_8 => ?_)
                    ·
                      refine gs_con4 (x := fun j => 20 * j) (g' := (ug (ug (ug g 3 (fun _ => 10)) 4 (fun j => 20 * j)) 5 y5)) (fun j h0 h1 => h4 j h0 (by omega)) rfl ?_
                      refine gs_con5 (x := fun _ => 0) (g' := (ug (ug (ug g 3 (fun _ => 10)) 4 (fun j => 20 * j)) 5 (fun _ => 0))) (fun j h0 h1 => h5 j h0 (by omega)) rfl ?_
                      refine g_aload_n C dX1_book_90 rfl 0 rfl ?_
                      refine gs_get7 C dX1_book_91 ?_
                      refine gs_clear7 C (show 0 ≤ (f 7) ∧ (f 7) ≤ ((N 7 : Nat) : Int) ∧ N 7 ≤ 3000 by omega) ⟨Nat.le_of_ble_eq_true rfl, Nat.le_of_ble_eq_true rfl⟩ (Nat.le_of_ble_eq_true rfl) ⟨Nat.le_of_ble_eq_true rfl, Nat.le_of_ble_eq_true rfl⟩ dX1_book_94 ?_
                      refine g_aload_n C dX1_book_97 rfl 0 rfl ?_
                      refine gs_get11 C dX1_book_98 ?_
                      refine gs_clear11 C (show 0 ≤ (f 11) ∧ (f 11) ≤ ((N 11 : Nat) : Int) ∧ N 11 ≤ 3000 by omega) ⟨Nat.le_of_ble_eq_true rfl, Nat.le_of_ble_eq_true rfl⟩ (Nat.le_of_ble_eq_true rfl) ⟨Nat.le_of_ble_eq_true rfl, Nat.le_of_ble_eq_true rfl⟩ dX1_book_101 ?_
                      refine g_aload_n C dX1_book_104 rfl 0 rfl ?_
                      refine kX1_X1_makes h (up (up (up (up (up (up (up f 0 a) 1 b) 2 1) 7 0) 11 0) 22 (f 22 + 1)) 23 (f 23 + 1)) (ug (ug (ug g 3 (fun _ => 10)) 4 (fun j => 20 * j)) 5 (fun _ => 0)) N M T C (show 1 ≤ a ∧ a ≤ 5 by omega) (show 2 ≤ b ∧ b ≤ 6 by omega) (fun j h0 h1 => (⟨by decide, by decide⟩ : (0 : Int) ≤ 0 ∧ (0 : Int) ≤ 3)) hnp hN6 ⟨Nat.le_of_ble_eq_true rfl, Nat.le_of_ble_eq_true rfl⟩ (Nat.le_of_ble_eq_true rfl) ⟨Nat.le_of_ble_eq_true rfl, Nat.le_of_ble_eq_true rfl⟩ dX1_book_105 ?_
                      intro np_9 k21_10 x24_11 x25_12 x26_13 x27_14 px_15 hb_16 hPA_17
                      refine g_ws (ws' := sW D (uN h 21 hb_16) (up (up (up (up (up (up (up (up (up f 0 a) 1 b) 2 1) 6 np_9) 7 0) 11 0) 21 k21_10) 22 (f 22 + 1)) 23 (f 23 + 1)) (ug (ug (ug (ug (ug (ug (ug g 3 (fun _ => 10)) 4 (fun j => 20 * j)) 5 (fun _ => 0)) 24 x24_11) 25 x25_12) 26 x26_13) 27 x27_14) N (uM M 6 px_15) (ptW px_15 x24_11 x25_12 x26_13 x27_14 np_9)) rfl ?_
                      refine g_iconst C dX1_book_108 ?_
                      exact g_iret C dX1_book_109 rfl (Nat.le_of_ble_eq_true rfl) (Nat.le_of_ble_eq_true rfl) ⟨_, rfl, Or.inr ⟨by omega, rfl, np_9, k21_10, x24_11, x25_12, x26_13, x27_14, px_15, hb_16, hPA_17, rfl⟩⟩
                    ·
                      refine g_aload_n C dX1_book_67 rfl 0 rfl ?_
                      refine gs_get4 C dX1_book_68 ?_
                      refine g_iload_n C dX1_book_71 rfl 3 rfl ?_
                      refine g_bipush C dX1_book_72 (z := 20) rfl ?_
                      refine g_iload_n C dX1_book_74 rfl 3 rfl ?_
                      refine g_imul C dX1_book_75 ?_
                      refine gs_ast4 C (g' := (ug (ug (ug g 3 (fun _ => 10)) 4 (uI y4 k (20 * k))) 5 y5)) rfl dX1_book_76 (by omega) ?_
                      refine g_aload_n C dX1_book_77 rfl 0 rfl ?_
                      refine gs_get5 C dX1_book_78 ?_
                      refine g_iload_n C dX1_book_81 rfl 3 rfl ?_
                      refine g_iconst C dX1_book_82 ?_
                      refine gs_ast5 C (g' := (ug (ug (ug g 3 (fun _ => 10)) 4 (uI y4 k (20 * k))) 5 (uI y5 k 0))) rfl dX1_book_83 (by omega) ?_
                      refine g_iinc C dX1_book_84 3 rfl (lv' := [(0, .ref (h 0)), (1, .int (iI a)), (2, .int (iI b)), (3, .int (iI (k + 1)))]) [1, 2, 3, 0] rfl (Nat.le_of_ble_eq_true rfl) ?_
                      refine g_goto C (tgt := 61) dX1_book_87 (by decide) ?_
                      exact ih7 (k + 1) (uI y4 k (20 * k)) (uI y5 k 0) (by omega) (uI_all (P := fun j y => y = 20 * j) h4 rfl) (uI_all (P := fun j y => y = 0) h5 rfl) (by omega)
                exact L7 _ 0 (g 4) (g 5) (by omega) (fun j h0 h1 => absurd h1 (by omega)) (fun j h0 h1 => absurd h1 (by omega)) (Nat.lt_succ_self _)
              ·
                refine g_aload_n C dX1_book_45 rfl 0 rfl ?_
                refine gs_get3 C dX1_book_46 ?_
                refine g_iload_n C dX1_book_49 rfl 3 rfl ?_
                refine g_bipush C dX1_book_50 (z := 10) rfl ?_
                refine gs_ast3 C (g' := (ug g 3 (uI y3 k 10))) rfl dX1_book_52 (by omega) ?_
                refine g_iinc C dX1_book_53 3 rfl (lv' := [(0, .ref (h 0)), (1, .int (iI a)), (2, .int (iI b)), (3, .int (iI (k + 1)))]) [1, 2, 3, 0] rfl (Nat.le_of_ble_eq_true rfl) ?_
                refine g_goto C (tgt := 40) dX1_book_56 (by decide) ?_
                exact ih5 (k + 1) (uI y3 k 10) (by omega) (uI_all (P := fun j y => y = 10) h3 rfl) (by omega)
          exact L5 _ 0 (g 3) (by omega) (fun j h0 h1 => absurd h1 (by omega)) (Nat.lt_succ_self _)
        ·
          refine g_iconst C dX1_book_21 ?_
          exact g_iret C dX1_book_22 rfl (Nat.le_of_ble_eq_true rfl) (Nat.le_of_ble_eq_true rfl) ⟨_, rfl, Or.inl ⟨by omega, rfl, rfl⟩⟩


end SC9
