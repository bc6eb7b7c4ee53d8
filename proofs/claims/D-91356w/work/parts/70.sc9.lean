/-! ===== contracts of the class: kind, book ===== -/
section SC9
set_option maxHeartbeats 4000000 in
set_option maxRecDepth 100000 in
theorem c_X1_kind (l : Launch) (D : va_G) (hst : l.stackTraces = false) (h : Nat → Nat) (f : Nat → Int) (g : Nat → Int → Int) (N : Nat → Nat) (M : Nat → Nat → Nat) (T : va_W) (a v : Int) (hF : 1 ≤ f 0 ∧ f 0 ≤ 5) (hS : 2 ≤ f 1 ∧ f 1 ≤ 6) (hkd : ∀ j, 0 ≤ j → j < 6 → 0 ≤ g 5 j ∧ g 5 j ≤ 3) (hpl : 0 ≤ f 7 ∧ f 7 ≤ 8) (hnp : 0 ≤ f 6 ∧ f 6 ≤ 55) (hN6 : N 6 = 55) (har : -2147483648 ≤ a ∧ a < 2147483648) (hvr : -2147483648 ≤ v ∧ v < 2147483648) : CT l D yX1_kind (ws_ yX1_kind cX1_kind 3 (some .boolean)) (rmD 9 111 226) (111) (226) va_A [.ref (h 0), .int (iI a), .int (iI v)] (sW D h f g N M T) exT (pI fun z w => (((0 ≤ a ∧ a < f 1) ∧ (0 < f 7 ∨ v < 0 ∨ 3 < v)) ∧ z = 0 ∧ w = sW D h f g N M T) ∨ (((0 ≤ a ∧ a < f 1) ∧ f 7 = 0 ∧ 0 ≤ v ∧ v ≤ 3) ∧ z = 1 ∧ ∃ np : Int, ∃ k21 : Int, ∃ x24 : Int → Int, ∃ x25 : Int → Int, ∃ x26 : Int → Int, ∃ x27 : Int → Int, ∃ px : Nat → Nat, ∃ hb : Nat, PA (paL (f 1).toNat (uI (g 5) a v) (f 0).toNat) np x24 x25 x26 x27 ∧ w = sW D (uN h 21 hb) (up (up f 6 np) 21 k21) (ug (ug (ug (ug (ug g 5 (uI (g 5) a v)) 24 x24) 25 x25) 26 x26) 27 x27) N (uM M 6 px) (ptW px x24 x25 x26 x27 np))) (fun E _ w => E = EN ∧ ¬ (0 ≤ a ∧ a < f 1) ∧ w = sW D h f g N M T) := by
  refine ct_U (lv := [(0, .ref (h 0)), (1, .int (iI a)), (2, .int (iI v))]) RX1 (by decide) rfl rfl hst (Nat.le_of_ble_eq_true rfl) rfl ?_
  intro p e s mm args below meth c A C htab hex hnm
  refine g_aload_n C dX1_kind_0 rfl 0 rfl ?_
  refine g_iload_n C dX1_kind_1 rfl 1 rfl ?_
  refine kX1_X1_isStation h f g N M T a C hS (by omega) ⟨Nat.le_of_ble_eq_true rfl, Nat.le_of_ble_eq_true rfl⟩ (Nat.le_of_ble_eq_true rfl) ⟨Nat.le_of_ble_eq_true rfl, Nat.le_of_ble_eq_true rfl⟩ Sb.rf dX1_kind_2 (fun hN1 => ?_) (fun hT2 q3 => ?_)
  ·
    refine g_aload_n C dX1_kind_5 rfl 0 rfl ?_
    refine gs_get7 C dX1_kind_6 ?_
    refine kX1_lsize (h 7) (h 22) (f 22) (N 7) (f 7) (M 7) C ⟨Nat.le_of_ble_eq_true rfl, Nat.le_of_ble_eq_true rfl⟩ (Nat.le_of_ble_eq_true rfl) ⟨Nat.le_of_ble_eq_true rfl, Nat.le_of_ble_eq_true rfl⟩ (rv := f 7) rfl sb_l7 dX1_kind_9 ?_
    refine g_if_gt C (tgt := 24) dX1_kind_12 (by decide) (by omega) (fun hc12_4 => ?_) (fun hc12_4 => ?_)
    ·
      refine g_iconst C dX1_kind_24 ?_
      exact g_iret C dX1_kind_25 rfl (Nat.le_of_ble_eq_true rfl) (Nat.le_of_ble_eq_true rfl) ⟨_, rfl, Or.inl ⟨by omega, rfl, rfl⟩⟩
    ·
      refine g_iload_n C dX1_kind_15 rfl 2 rfl ?_
      refine g_if_lt C (tgt := 24) dX1_kind_16 (by decide) (by omega) (fun hc16_5 => ?_) (fun hc16_5 => ?_)
      ·
        refine g_iconst C dX1_kind_24 ?_
        exact g_iret C dX1_kind_25 rfl (Nat.le_of_ble_eq_true rfl) (Nat.le_of_ble_eq_true rfl) ⟨_, rfl, Or.inl ⟨by omega, rfl, rfl⟩⟩
      ·
        refine g_iload_n C dX1_kind_19 rfl 2 rfl ?_
        refine g_iconst C dX1_kind_20 ?_
        refine g_icmp_le C (tgt := 26) dX1_kind_21 (by decide) (by omega) (by omega) (fun hc21_6 => ?_) (fun hc21_6 => ?_)
        ·
          refine g_aload_n C dX1_kind_26 rfl 0 rfl ?_
          refine gs_get5 C dX1_kind_27 ?_
          refine g_iload_n C dX1_kind_30 rfl 1 rfl ?_
          refine g_iload_n C dX1_kind_31 rfl 2 rfl ?_
          refine gs_ast5 C (g' := (ug g 5 (uI (g 5) a v))) rfl dX1_kind_32 (by omega) ?_
          refine g_aload_n C dX1_kind_33 rfl 0 rfl ?_
          refine kX1_X1_makes h f (ug g 5 (uI (g 5) a v)) N M T C hF hS (fun j h0 h1 => by show 0 ≤ uI (g 5) a v j ∧ uI (g 5) a v j ≤ 3; unfold uI; split; omega; exact hkd j h0 h1) hnp hN6 ⟨Nat.le_of_ble_eq_true rfl, Nat.le_of_ble_eq_true rfl⟩ (Nat.le_of_ble_eq_true rfl) ⟨Nat.le_of_ble_eq_true rfl, Nat.le_of_ble_eq_true rfl⟩ dX1_kind_34 ?_
          intro np_7 k21_8 x24_9 x25_10 x26_11 x27_12 px_13 hb_14 hPA_15
          refine g_ws (ws' := sW D (uN h 21 hb_14) (up (up f 6 np_7) 21 k21_8) (ug (ug (ug (ug (ug g 5 (uI (g 5) a v)) 24 x24_9) 25 x25_10) 26 x26_11) 27 x27_12) N (uM M 6 px_13) (ptW px_13 x24_9 x25_10 x26_11 x27_12 np_7)) rfl ?_
          refine g_iconst C dX1_kind_37 ?_
          exact g_iret C dX1_kind_38 rfl (Nat.le_of_ble_eq_true rfl) (Nat.le_of_ble_eq_true rfl) ⟨_, rfl, Or.inr ⟨by omega, rfl, np_7, k21_8, x24_9, x25_10, x26_11, x27_12, px_13, hb_14, hPA_15, rfl⟩⟩
        ·
          refine g_iconst C dX1_kind_24 ?_
          exact g_iret C dX1_kind_25 rfl (Nat.le_of_ble_eq_true rfl) (Nat.le_of_ble_eq_true rfl) ⟨_, rfl, Or.inl ⟨by omega, rfl, rfl⟩⟩
  ·
    exact x_out C htab (Nat.le_of_ble_eq_true rfl) (Nat.le_of_ble_eq_true rfl) ⟨rfl, by omega, rfl⟩

end SC9
