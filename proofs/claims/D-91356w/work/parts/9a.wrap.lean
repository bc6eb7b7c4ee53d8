/-! ===== the law's wrappers: what an operation answers or throws, told as 0, 1, 2 ===== -/
/-- the law's array of one long -/
abbrev oC (D : va_G) (o : Nat → Int64) : va_E := .inl (D.1 103, 1, .inr (.inl o))
theorem b01 {z : Int} (h : (iI 0).toInt64 = 0) : True := trivial
theorem l64_1 : (iI 1).toInt64 = 1 := by decide
theorem l64_0 : (iI 0).toInt64 = 0 := by decide
set_option maxHeartbeats 4000000 in
set_option maxRecDepth 100000 in
theorem c_X0_thick (l : Launch) (D : va_G) (hst : l.stackTraces = false) (h : Nat → Nat) (f : Nat → Int) (g : Nat → Int → Int) (N : Nat → Nat) (M : Nat → Nat → Nat) (T : va_W) (a v : Int) (hF : 1 ≤ f 0 ∧ f 0 ≤ 5) (hpl : 0 ≤ f 7 ∧ f 7 ≤ 8) (har : -2147483648 ≤ a ∧ a < 2147483648) (hvr : -2147483648 ≤ v ∧ v < 2147483648) (qo : Nat) (o : Nat → Int64) : CT l D yX0_thick (wsW_ yX0_thick cX0_thick 5 (some .int) [((0 : Nat), (17 : Nat), (20 : Nat), (13 : Nat))]) (rmD 9 1 6) (1) (6) va_A [.ref (h 0), .int (iI a), .int (iI v), .ref qo] ((qo, oC D o) :: (sW D h f g N M T)) exT (pI fun k_ w => ∃ (z : Int) (o' : Nat → Int64) (w1 : va_W), ((k_ = 0 ∧ (fun (z : Int) (w : va_W) => ∃ f' g', ss_thick f g a v z f' g' ∧ w = sW D h f' g' N M T) z w1 ∧ o' 0 = (iI z).toInt64) ∨ (k_ = 1 ∧ (fun (E : String) (_ : Nat) (w : va_W) => E = EN ∧ (¬ (0 ≤ a ∧ a < f 0)) ∧ w = sW D h f g N M T) EN 0 w1)) ∧ w = (qo, oC D o') :: w1) xN := by
  refine ct_HU (lv := [(0, .ref (h 0)), (1, .int (iI a)), (2, .int (iI v)), (3, .ref qo)]) RX0 (by decide) rfl rfl hst (Nat.le_of_ble_eq_true rfl) rfl ?_
  intro p e s mm args below meth c A C htab hex
  refine g_aload_n C dX0_thick_0 rfl 3 rfl ?_
  refine g_iconst C dX0_thick_1 ?_
  refine g_aload_n C dX0_thick_2 rfl 0 rfl ?_
  refine g_iload_n C dX0_thick_3 rfl 1 rfl ?_
  refine g_iload_n C dX0_thick_4 rfl 2 rfl ?_
  refine g_callVU C (c_X1_thick l D C.hl h f g N M T a v hF hpl har hvr) (As := [.int (iI a), .int (iI v)]) (n := 2) (lw_V q665 q666 q667 q48 q668) (by decide +kernel) rfl rfl ⟨Nat.le_of_ble_eq_true rfl, Nat.le_of_ble_eq_true rfl⟩ (rcv C 1 (ci := 1) rfl rfl rfl) rfl rfl (Nat.le_of_ble_eq_true rfl) ⟨Nat.le_of_ble_eq_true rfl, Nat.le_of_ble_eq_true rfl⟩ dX0_thick_5 (wr := [(qo, oC D o)]) Sb.rf exT_b hex_t (fun v w hp => ?_) (fun E q w hp => ?_)
  · obtain ⟨z, rfl, hp⟩ := hp
    have hz : z = 0 ∨ z = 1 := by obtain ⟨f', g', hs, -⟩ := hp; unfold ss_thick at hs; omega
    rcases hz with rfl | rfl
    · refine g_if_eq C (tgt := 15) dX0_thick_8 (by decide) (by decide) (fun _ => ?_) (fun hc => absurd rfl hc)
      refine g_lconst C (v := 0) dX0_thick_15 rfl ?_
      refine g_last C 0 (ws' := (qo, oC D (vp_updL o 0 0)) :: w) rfl (by omega) (by decide) rfl dX0_thick_16 ?_
      refine g_goto C (tgt := 24) dX0_thick_17 (by decide) ?_
      refine g_iconst C dX0_thick_24 ?_
      exact g_iret C dX0_thick_25 rfl (Nat.le_of_ble_eq_true rfl) (Nat.le_of_ble_eq_true rfl) ⟨0, rfl, 0, _, w, Or.inl ⟨rfl, hp, l64_0.symm⟩, rfl⟩
    · refine g_if_eq C (tgt := 15) dX0_thick_8 (by decide) (by decide) (fun hc => absurd hc (by decide)) (fun _ => ?_)
      refine g_lconst C (v := 1) dX0_thick_11 rfl ?_
      refine g_goto C (tgt := 16) dX0_thick_12 (by decide) ?_
      refine g_last C 0 (ws' := (qo, oC D (vp_updL o 0 1)) :: w) rfl (by omega) (by decide) rfl dX0_thick_16 ?_
      refine g_goto C (tgt := 24) dX0_thick_17 (by decide) ?_
      refine g_iconst C dX0_thick_24 ?_
      exact g_iret C dX0_thick_25 rfl (Nat.le_of_ble_eq_true rfl) (Nat.le_of_ble_eq_true rfl) ⟨0, rfl, 1, _, w, Or.inl ⟨rfl, hp, l64_1.symm⟩, rfl⟩
  · obtain ⟨rfl, hp⟩ := hp
    refine x_catch C (name := EN) [] ⟨0, 17, 20, 13⟩ [] htab (fun z hz => nomatch hz) rfl (by decide) q664 (by decide) ?_
    refine g_astore C dX0_thick_20 (lv' := [(0, .ref (h 0)), (1, .int (iI a)), (2, .int (iI v)), (3, .ref qo), (4, .ref q)]) [1, 2, 3, 4, 0] rfl (Nat.le_of_ble_eq_true rfl) ?_
    refine g_iconst C dX0_thick_22 ?_
    exact g_iret C dX0_thick_23 rfl (Nat.le_of_ble_eq_true rfl) (Nat.le_of_ble_eq_true rfl) ⟨1, rfl, 0, o, w, Or.inr ⟨rfl, rfl, hp⟩, rfl⟩
set_option maxHeartbeats 4000000 in
set_option maxRecDepth 100000 in
theorem c_X0_kind (l : Launch) (D : va_G) (hst : l.stackTraces = false) (h : Nat → Nat) (f : Nat → Int) (g : Nat → Int → Int) (N : Nat → Nat) (M : Nat → Nat → Nat) (T : va_W) (a v : Int) (hF : 1 ≤ f 0 ∧ f 0 ≤ 5) (hS : 2 ≤ f 1 ∧ f 1 ≤ 6) (hkd : ∀ j, 0 ≤ j → j < 6 → 0 ≤ g 5 j ∧ g 5 j ≤ 3) (hpl : 0 ≤ f 7 ∧ f 7 ≤ 8) (hnp : 0 ≤ f 6 ∧ f 6 ≤ 55) (hN6 : N 6 = 55) (har : -2147483648 ≤ a ∧ a < 2147483648) (hvr : -2147483648 ≤ v ∧ v < 2147483648) (qo : Nat) (o : Nat → Int64) : CT l D yX0_kind (wsW_ yX0_kind cX0_kind 5 (some .int) [((0 : Nat), (17 : Nat), (20 : Nat), (13 : Nat))]) (rmD 10 111 226) (111) (226) va_A [.ref (h 0), .int (iI a), .int (iI v), .ref qo] ((qo, oC D o) :: (sW D h f g N M T)) exT (pI fun k_ w => ∃ (z : Int) (o' : Nat → Int64) (w1 : va_W), ((k_ = 0 ∧ (fun (z : Int) (w : va_W) => (((0 ≤ a ∧ a < f 1) ∧ (0 < f 7 ∨ v < 0 ∨ 3 < v)) ∧ z = 0 ∧ w = sW D h f g N M T) ∨ (((0 ≤ a ∧ a < f 1) ∧ f 7 = 0 ∧ 0 ≤ v ∧ v ≤ 3) ∧ z = 1 ∧ ∃ np : Int, ∃ k21 : Int, ∃ x24 : Int → Int, ∃ x25 : Int → Int, ∃ x26 : Int → Int, ∃ x27 : Int → Int, ∃ px : Nat → Nat, ∃ hb : Nat, PA (paL (f 1).toNat (uI (g 5) a v) (f 0).toNat) np x24 x25 x26 x27 ∧ w = sW D (uN h 21 hb) (up (up f 6 np) 21 k21) (ug (ug (ug (ug (ug g 5 (uI (g 5) a v)) 24 x24) 25 x25) 26 x26) 27 x27) N (uM M 6 px) (ptW px x24 x25 x26 x27 np))) z w1 ∧ o' 0 = (iI z).toInt64) ∨ (k_ = 1 ∧ (fun (E : String) (_ : Nat) (w : va_W) => E = EN ∧ ¬ (0 ≤ a ∧ a < f 1) ∧ w = sW D h f g N M T) EN 0 w1)) ∧ w = (qo, oC D o') :: w1) xN := by
  refine ct_HU (lv := [(0, .ref (h 0)), (1, .int (iI a)), (2, .int (iI v)), (3, .ref qo)]) RX0 (by decide) rfl rfl hst (Nat.le_of_ble_eq_true rfl) rfl ?_
  intro p e s mm args below meth c A C htab hex
  refine g_aload_n C dX0_kind_0 rfl 3 rfl ?_
  refine g_iconst C dX0_kind_1 ?_
  refine g_aload_n C dX0_kind_2 rfl 0 rfl ?_
  refine g_iload_n C dX0_kind_3 rfl 1 rfl ?_
  refine g_iload_n C dX0_kind_4 rfl 2 rfl ?_
  refine g_callVU C (c_X1_kind l D C.hl h f g N M T a v hF hS hkd hpl hnp hN6 har hvr) (As := [.int (iI a), .int (iI v)]) (n := 2) (lw_V q700 q701 q702 q48 q703) (by decide +kernel) rfl rfl ⟨Nat.le_of_ble_eq_true rfl, Nat.le_of_ble_eq_true rfl⟩ (rcv C 1 (ci := 1) rfl rfl rfl) rfl rfl (Nat.le_of_ble_eq_true rfl) ⟨Nat.le_of_ble_eq_true rfl, Nat.le_of_ble_eq_true rfl⟩ dX0_kind_5 (wr := [(qo, oC D o)]) Sb.rf exT_b hex_t (fun v w hp => ?_) (fun E q w hp => ?_)
  · obtain ⟨z, rfl, hp⟩ := hp
    have hz : z = 0 ∨ z = 1 := by rcases hp with ⟨-, h, -⟩ | ⟨-, h, -⟩ <;> omega
    rcases hz with rfl | rfl
    · refine g_if_eq C (tgt := 15) dX0_kind_8 (by decide) (by decide) (fun _ => ?_) (fun hc => absurd rfl hc)
      refine g_lconst C (v := 0) dX0_kind_15 rfl ?_
      refine g_last C 0 (ws' := (qo, oC D (vp_updL o 0 0)) :: w) rfl (by omega) (by decide) rfl dX0_kind_16 ?_
      refine g_goto C (tgt := 24) dX0_kind_17 (by decide) ?_
      refine g_iconst C dX0_kind_24 ?_
      exact g_iret C dX0_kind_25 rfl (Nat.le_of_ble_eq_true rfl) (Nat.le_of_ble_eq_true rfl) ⟨0, rfl, 0, _, w, Or.inl ⟨rfl, hp, l64_0.symm⟩, rfl⟩
    · refine g_if_eq C (tgt := 15) dX0_kind_8 (by decide) (by decide) (fun hc => absurd hc (by decide)) (fun _ => ?_)
      refine g_lconst C (v := 1) dX0_kind_11 rfl ?_
      refine g_goto C (tgt := 16) dX0_kind_12 (by decide) ?_
      refine g_last C 0 (ws' := (qo, oC D (vp_updL o 0 1)) :: w) rfl (by omega) (by decide) rfl dX0_kind_16 ?_
      refine g_goto C (tgt := 24) dX0_kind_17 (by decide) ?_
      refine g_iconst C dX0_kind_24 ?_
      exact g_iret C dX0_kind_25 rfl (Nat.le_of_ble_eq_true rfl) (Nat.le_of_ble_eq_true rfl) ⟨0, rfl, 1, _, w, Or.inl ⟨rfl, hp, l64_1.symm⟩, rfl⟩
  · obtain ⟨rfl, hp⟩ := hp
    refine x_catch C (name := EN) [] ⟨0, 17, 20, 13⟩ [] htab (fun z hz => nomatch hz) rfl (by decide) q664 (by decide) ?_
    refine g_astore C dX0_kind_20 (lv' := [(0, .ref (h 0)), (1, .int (iI a)), (2, .int (iI v)), (3, .ref qo), (4, .ref q)]) [1, 2, 3, 4, 0] rfl (Nat.le_of_ble_eq_true rfl) ?_
    refine g_iconst C dX0_kind_22 ?_
    exact g_iret C dX0_kind_23 rfl (Nat.le_of_ble_eq_true rfl) (Nat.le_of_ble_eq_true rfl) ⟨1, rfl, 0, o, w, Or.inr ⟨rfl, rfl, hp⟩, rfl⟩
set_option maxHeartbeats 4000000 in
set_option maxRecDepth 100000 in
theorem c_X0_part (l : Launch) (D : va_G) (hst : l.stackTraces = false) (h : Nat → Nat) (f : Nat → Int) (g : Nat → Int → Int) (N : Nat → Nat) (M : Nat → Nat → Nat) (U : va_W) (k v : Int) (hnp : 0 ≤ f 6 ∧ f 6 ≤ 55) (hN6 : N 6 = 55) (hpt : ∀ j, 0 ≤ j → j < f 6 → (0 ≤ g 24 j ∧ g 24 j ≤ 4) ∧ (0 ≤ g 25 j ∧ g 25 j ≤ 5) ∧ (0 ≤ g 26 j ∧ g 26 j ≤ 2) ∧ (0 ≤ g 27 j ∧ g 27 j ≤ 1)) (hkr : -2147483648 ≤ k ∧ k < 2147483648) (hvr : -2147483648 ≤ v ∧ v < 2147483648) (qo : Nat) (o : Nat → Int64) : CT l D yX0_part (wsW_ yX0_part cX0_part 5 (some .int) [((0 : Nat), (10 : Nat), (13 : Nat), (13 : Nat))]) (rmD 9 2 12) (2) (12) va_A [.ref (h 0), .int (iI k), .int (iI v), .ref qo] ((qo, oC D o) :: (sW D h f g N M (ptW (M 6) (g 24) (g 25) (g 26) (g 27) (f 6) ++ U))) exT (pI fun k_ w => ∃ (z : Int) (o' : Nat → Int64), ((k_ = 0 ∧ (fun (z : Int) (_ : va_W) => ((0 ≤ k ∧ k < f 6) ∧ 0 ≤ v ∧ v ≤ 3) ∧ z = if v = 0 then g 24 k else if v = 1 then g 25 k else if v = 2 then g 26 k else g 27 k) z [] ∧ o' 0 = (iI z).toInt64) ∨ (k_ = 1 ∧ (fun (E : String) (_ : Nat) (w : va_W) => E = EN ∧ ¬ ((0 ≤ k ∧ k < f 6) ∧ 0 ≤ v ∧ v ≤ 3) ∧ w = []) EN 0 [])) ∧ w = (qo, oC D o') :: (sW D h f g N M (ptW (M 6) (g 24) (g 25) (g 26) (g 27) (f 6) ++ U))) xN := by
  refine ct_HU (lv := [(0, .ref (h 0)), (1, .int (iI k)), (2, .int (iI v)), (3, .ref qo)]) RX0 (by decide) rfl rfl hst (Nat.le_of_ble_eq_true rfl) rfl ?_
  intro p e s mm args below meth c A C htab hex
  refine g_aload_n C dX0_part_0 rfl 3 rfl ?_
  refine g_iconst C dX0_part_1 ?_
  refine g_aload_n C dX0_part_2 rfl 0 rfl ?_
  refine g_iload_n C dX0_part_3 rfl 1 rfl ?_
  refine g_iload_n C dX0_part_4 rfl 2 rfl ?_
  refine g_callVR C (c_X1_part l D C.hl h f g N M U k v hnp hN6 hpt hkr hvr) (As := [.int (iI k), .int (iI v)]) (n := 2) (lw_V q711 q712 q713 q48 q714) (by decide +kernel) rfl rfl ⟨Nat.le_of_ble_eq_true rfl, Nat.le_of_ble_eq_true rfl⟩ (rcv C 1 (ci := 1) rfl rfl rfl) rfl rfl (Nat.le_of_ble_eq_true rfl) ⟨Nat.le_of_ble_eq_true rfl, Nat.le_of_ble_eq_true rfl⟩ dX0_part_5 (Sb.rt (a := [(qo, oC D o)])) exT_b hex_t (fun v w hp => ?_) (fun E q w hp => ?_)
  · obtain ⟨z, rfl, hp⟩ := hp
    refine g_i2l C dX0_part_8 rfl ?_
    refine g_last C 0 (ws' := (qo, oC D (vp_updL o 0 (iI z).toInt64)) :: (sW D h f g N M (ptW (M 6) (g 24) (g 25) (g 26) (g 27) (f 6) ++ U))) rfl (by omega) (by decide) rfl dX0_part_9 ?_
    refine g_goto C (tgt := 17) dX0_part_10 (by decide) ?_
    refine g_iconst C dX0_part_17 ?_
    exact g_iret C dX0_part_18 rfl (Nat.le_of_ble_eq_true rfl) (Nat.le_of_ble_eq_true rfl) ⟨0, rfl, z, _, Or.inl ⟨rfl, hp, rfl⟩, rfl⟩
  · obtain ⟨rfl, hp, -⟩ := hp
    refine x_catch C (name := EN) [] ⟨0, 10, 13, 13⟩ [] htab (fun z hz => nomatch hz) rfl (by decide) q664 (by decide) ?_
    refine g_astore C dX0_part_13 (lv' := [(0, .ref (h 0)), (1, .int (iI k)), (2, .int (iI v)), (3, .ref qo), (4, .ref q)]) [1, 2, 3, 4, 0] rfl (Nat.le_of_ble_eq_true rfl) ?_
    refine g_iconst C dX0_part_15 ?_
    exact g_iret C dX0_part_16 rfl (Nat.le_of_ble_eq_true rfl) (Nat.le_of_ble_eq_true rfl) ⟨1, rfl, 0, o, Or.inr ⟨rfl, rfl, hp, rfl⟩, rfl⟩
set_option maxHeartbeats 4000000 in
set_option maxRecDepth 100000 in
theorem c_X0_need (l : Launch) (D : va_G) (hst : l.stackTraces = false) (h : Nat → Nat) (f : Nat → Int) (g : Nat → Int → Int) (N : Nat → Nat) (M : Nat → Nat → Nat) (U : va_W) (a v : Int) (hnp : 0 ≤ f 6 ∧ f 6 ≤ 55) (hN6 : N 6 = 55) (hpt : ∀ j, 0 ≤ j → j < f 6 → (0 ≤ g 24 j ∧ g 24 j ≤ 4) ∧ (0 ≤ g 25 j ∧ g 25 j ≤ 5) ∧ (0 ≤ g 26 j ∧ g 26 j ≤ 2) ∧ (0 ≤ g 27 j ∧ g 27 j ≤ 1)) (har : -2147483648 ≤ a ∧ a < 2147483648) (hv : 0 ≤ v ∧ v ≤ 1) (qo : Nat) (o : Nat → Int64) : CT l D yX0_need (wsW_ yX0_need cX0_need 5 (some .int) [((0 : Nat), (17 : Nat), (20 : Nat), (13 : Nat))]) (rmD 9 1 6) (1) (6) va_A [.ref (h 0), .int (iI a), .int (iI v), .ref qo] ((qo, oC D o) :: (sW D h f g N M (ptW (M 6) (g 24) (g 25) (g 26) (g 27) (f 6) ++ U))) exT (pI fun k_ w => ∃ (z : Int) (o' : Nat → Int64) (w1 : va_W), ((k_ = 0 ∧ (fun (z : Int) (w : va_W) => ∃ f' g', ss_need f g a v z f' g' ∧ w = sW D h f' g' N M (ptW (M 6) (g' 24) (g' 25) (g' 26) (g' 27) (f' 6) ++ U)) z w1 ∧ o' 0 = (iI z).toInt64) ∨ (k_ = 1 ∧ (fun (E : String) (_ : Nat) (w : va_W) => E = EN ∧ (¬ (0 ≤ a ∧ a < f 6)) ∧ w = sW D h f g N M (ptW (M 6) (g 24) (g 25) (g 26) (g 27) (f 6) ++ U)) EN 0 w1)) ∧ w = (qo, oC D o') :: w1) xN := by
  refine ct_HU (lv := [(0, .ref (h 0)), (1, .int (iI a)), (2, .int (iI v)), (3, .ref qo)]) RX0 (by decide) rfl rfl hst (Nat.le_of_ble_eq_true rfl) rfl ?_
  intro p e s mm args below meth c A C htab hex
  refine g_aload_n C dX0_need_0 rfl 3 rfl ?_
  refine g_iconst C dX0_need_1 ?_
  refine g_aload_n C dX0_need_2 rfl 0 rfl ?_
  refine g_iload_n C dX0_need_3 rfl 1 rfl ?_
  refine g_iload_n C dX0_need_4 rfl 2 rfl ?_
  refine g_callVU C (c_X1_need l D C.hl h f g N M U a v hnp hN6 hpt har hv) (As := [.int (iI a), .int (iI v)]) (n := 2) (lw_V q722 q723 q724 q48 q725) (by decide +kernel) rfl rfl ⟨Nat.le_of_ble_eq_true rfl, Nat.le_of_ble_eq_true rfl⟩ (rcv C 1 (ci := 1) rfl rfl rfl) rfl rfl (Nat.le_of_ble_eq_true rfl) ⟨Nat.le_of_ble_eq_true rfl, Nat.le_of_ble_eq_true rfl⟩ dX0_need_5 (wr := [(qo, oC D o)]) Sb.rf exT_b hex_t (fun v w hp => ?_) (fun E q w hp => ?_)
  · obtain ⟨z, rfl, hp⟩ := hp
    have hz : z = 0 ∨ z = 1 := by obtain ⟨f', g', ⟨h0, rfl, -⟩, -⟩ := hp; have := (hpt a h0.1 h0.2).2.2.2; omega
    rcases hz with rfl | rfl
    · refine g_if_eq C (tgt := 15) dX0_need_8 (by decide) (by decide) (fun _ => ?_) (fun hc => absurd rfl hc)
      refine g_lconst C (v := 0) dX0_need_15 rfl ?_
      refine g_last C 0 (ws' := (qo, oC D (vp_updL o 0 0)) :: w) rfl (by omega) (by decide) rfl dX0_need_16 ?_
      refine g_goto C (tgt := 24) dX0_need_17 (by decide) ?_
      refine g_iconst C dX0_need_24 ?_
      exact g_iret C dX0_need_25 rfl (Nat.le_of_ble_eq_true rfl) (Nat.le_of_ble_eq_true rfl) ⟨0, rfl, 0, _, w, Or.inl ⟨rfl, hp, l64_0.symm⟩, rfl⟩
    · refine g_if_eq C (tgt := 15) dX0_need_8 (by decide) (by decide) (fun hc => absurd hc (by decide)) (fun _ => ?_)
      refine g_lconst C (v := 1) dX0_need_11 rfl ?_
      refine g_goto C (tgt := 16) dX0_need_12 (by decide) ?_
      refine g_last C 0 (ws' := (qo, oC D (vp_updL o 0 1)) :: w) rfl (by omega) (by decide) rfl dX0_need_16 ?_
      refine g_goto C (tgt := 24) dX0_need_17 (by decide) ?_
      refine g_iconst C dX0_need_24 ?_
      exact g_iret C dX0_need_25 rfl (Nat.le_of_ble_eq_true rfl) (Nat.le_of_ble_eq_true rfl) ⟨0, rfl, 1, _, w, Or.inl ⟨rfl, hp, l64_1.symm⟩, rfl⟩
  · obtain ⟨rfl, hp⟩ := hp
    refine x_catch C (name := EN) [] ⟨0, 17, 20, 13⟩ [] htab (fun z hz => nomatch hz) rfl (by decide) q664 (by decide) ?_
    refine g_astore C dX0_need_20 (lv' := [(0, .ref (h 0)), (1, .int (iI a)), (2, .int (iI v)), (3, .ref qo), (4, .ref q)]) [1, 2, 3, 4, 0] rfl (Nat.le_of_ble_eq_true rfl) ?_
    refine g_iconst C dX0_need_22 ?_
    exact g_iret C dX0_need_23 rfl (Nat.le_of_ble_eq_true rfl) (Nat.le_of_ble_eq_true rfl) ⟨1, rfl, 0, o, w, Or.inr ⟨rfl, rfl, hp⟩, rfl⟩
set_option maxHeartbeats 4000000 in
set_option maxRecDepth 100000 in
theorem c_X0_plan (l : Launch) (D : va_G) (hst : l.stackTraces = false) (h : Nat → Nat) (f : Nat → Int) (g : Nat → Int → Int) (N : Nat → Nat) (M : Nat → Nat → Nat) (P : List PR) (n1 a c1 : Int) (hF : 1 ≤ f 0 ∧ f 0 ≤ 5) (hS : 2 ≤ f 1 ∧ f 1 ≤ 6) (hkd : ∀ j, 0 ≤ j → j < 6 → 0 ≤ g 5 j ∧ g 5 j ≤ 3) (hth : ∀ j, 0 ≤ j → j < 5 → 1 ≤ g 3 j ∧ g 3 j ≤ 50) (hht : ∀ j, 0 ≤ j → j < 6 → 0 ≤ g 4 j ∧ g 4 j ≤ 400) (htp : 0 ≤ f 9 ∧ f 9 ≤ 400) (hpn : 0 ≤ f 7 ∧ f 7 ≤ N 7 ∧ N 7 ≤ 3000) (hN7 : f 7 ≤ N 7 ∧ 1 ≤ N 7 ∧ N 7 ≤ 12) (h78 : f 7 ≤ 8) (hPS : PS f g M P) (hn1r : -2147483648 ≤ n1 ∧ n1 < 2147483648) (har : -2147483648 ≤ a ∧ a < 2147483648) (hc1r : -2147483648 ≤ c1 ∧ c1 < 2147483648) (qo : Nat) (o : Nat → Int64) : CT l D yX0_plan (wsW_ yX0_plan cX0_plan 6 (some .int) [((0 : Nat), (12 : Nat), (15 : Nat), (13 : Nat)), ((0 : Nat), (12 : Nat), (19 : Nat), (30 : Nat))]) (rmD 10 900 5100) (900) (5100) va_A [.ref (h 0), .int (iI n1), .int (iI a), .int (iI c1), .ref qo] ((qo, oC D o) :: (sW D h f g N M (ptW (M 6) (g 24) (g 25) (g 26) (g 27) (f 6) ++ plW D P))) exT (pI fun k_ w => ∃ (z : Int) (o' : Nat → Int64) (w1 : va_W), ((k_ = 0 ∧ (fun (z : Int) (w : va_W) => (((0 ≤ a ∧ a < f 0) ∧ (0 ≤ c1 ∧ c1 < f 1)) ∧ (0 ≤ n1 ∧ n1 ≤ f 9)) ∧ ((f 7 = 8 ∧ z = -9 ∧ w = sW D h (up (up f 9 0) 10 (-1)) g N M (ptW (M 6) (g 24) (g 25) (g 26) (g 27) (f 6) ++ plW D P)) ∨ (f 7 < 8 ∧ ∃ x : Int, RDf (f 0) (f 1) (g 5) (tpS (g 8)) (2 * (6 * a + c1) + 0) n1 x z ∧ w = sW D h (up (up f 9 0) 10 x) g N M (ptW (M 6) (g 24) (g 25) (g 26) (g 27) (f 6) ++ plW D P)) ∨ (f 7 < 8 ∧ RDo (f 0) (f 1) (g 5) (tpS (g 8)) (2 * (6 * a + c1) + 0) n1 ∧ z = f 7 ∧ ∃ (pq : Nat → Nat) (pz : Nat → Int) (pv : Nat → Int → Int) (b1 : Nat), PV f g pq pz pv ∧ pz 0 = 2 * (6 * a + c1) + 0 ∧ pz 5 = rdc (tpS (g 8)) n1 ∧ (∀ j, 0 ≤ j → j < pz 5 → pv 0 j = rdv (tpS (g 8)) n1 j) ∧ w = sW D (uN h 22 b1) (up (up (up (up f 7 (f 7 + 1)) 9 0) 10 (-1)) 22 (f 22 + 1)) g (uN N 7 (grC (N 7) (f 7))) (uM M 7 (paU (M 7) (f 7) (pq 0))) (ptW (M 6) (g 24) (g 25) (g 26) (g 27) (f 6) ++ plW D (P ++ [(pq, pz, pv)]))))) z w1 ∧ o' 0 = (iI z).toInt64) ∨ (k_ = 1 ∧ (fun (E : String) (_ : Nat) (w : va_W) => w = sW D h f g N M (ptW (M 6) (g 24) (g 25) (g 26) (g 27) (f 6) ++ plW D P) ∧ ((E = EN ∧ ¬ ((0 ≤ a ∧ a < f 0) ∧ (0 ≤ c1 ∧ c1 < f 1))) ∨ (E = EI ∧ ((0 ≤ a ∧ a < f 0) ∧ (0 ≤ c1 ∧ c1 < f 1)) ∧ ¬ (0 ≤ n1 ∧ n1 ≤ f 9)))) EN 0 w1) ∨ (k_ = 2 ∧ (fun (E : String) (_ : Nat) (w : va_W) => w = sW D h f g N M (ptW (M 6) (g 24) (g 25) (g 26) (g 27) (f 6) ++ plW D P) ∧ ((E = EN ∧ ¬ ((0 ≤ a ∧ a < f 0) ∧ (0 ≤ c1 ∧ c1 < f 1))) ∨ (E = EI ∧ ((0 ≤ a ∧ a < f 0) ∧ (0 ≤ c1 ∧ c1 < f 1)) ∧ ¬ (0 ≤ n1 ∧ n1 ≤ f 9)))) EI 0 w1)) ∧ w = (qo, oC D o') :: w1) xN := by
  refine ct_HU (lv := [(0, .ref (h 0)), (1, .int (iI n1)), (2, .int (iI a)), (3, .int (iI c1)), (4, .ref qo)]) RX0 (by decide) rfl rfl hst (Nat.le_of_ble_eq_true rfl) rfl ?_
  intro p e s mm args below meth c A C htab hex
  refine g_aload C dX0_plan_0 4 rfl ?_
  refine g_iconst C dX0_plan_2 ?_
  refine g_aload_n C dX0_plan_3 rfl 0 rfl ?_
  refine g_iload_n C dX0_plan_4 rfl 1 rfl ?_
  refine g_iload_n C dX0_plan_5 rfl 2 rfl ?_
  refine g_iload_n C dX0_plan_6 rfl 3 rfl ?_
  refine g_callVUH C (c_X1_plan l D C.hl h f g N M P n1 a c1 hF hS hkd hth hht htp hpn hN7 h78 hPS hn1r har hc1r) (As := [.int (iI n1), .int (iI a), .int (iI c1)]) (n := 3) (lw_VW q730 q731 q732 q48 q733) (by decide +kernel) rfl rfl ⟨Nat.le_of_ble_eq_true rfl, Nat.le_of_ble_eq_true rfl⟩ (rcv C 1 (ci := 1) rfl rfl rfl) rfl rfl (Nat.le_of_ble_eq_true rfl) ⟨Nat.le_of_ble_eq_true rfl, Nat.le_of_ble_eq_true rfl⟩ dX0_plan_7 (wr := [(qo, oC D o)]) Sb.rf exT_b hex_t (fun v w hp => ?_) (fun E q w hp => ?_)
  · obtain ⟨z, rfl, hp⟩ := hp
    refine g_i2l C dX0_plan_10 rfl ?_
    refine g_last C 0 (ws' := (qo, oC D (vp_updL o 0 (iI z).toInt64)) :: w) rfl (by omega) (by decide) rfl dX0_plan_11 ?_
    refine g_goto C (tgt := 23) dX0_plan_12 (by decide) ?_
    refine g_iconst C dX0_plan_23 ?_
    exact g_iret C dX0_plan_24 rfl (Nat.le_of_ble_eq_true rfl) (Nat.le_of_ble_eq_true rfl) ⟨0, rfl, z, _, w, Or.inl ⟨rfl, hp, rfl⟩, rfl⟩
  · obtain ⟨hw, ⟨rfl, hp⟩ | ⟨rfl, hp⟩⟩ := hp
    ·
      refine x_catch C (name := EN) [] ⟨0, 12, 15, 13⟩ [⟨0, 12, 19, 30⟩] htab (fun z hz => nomatch hz) rfl (by decide) q664 (by decide) ?_
      refine g_astore C dX0_plan_15 (lv' := [(0, .ref (h 0)), (1, .int (iI n1)), (2, .int (iI a)), (3, .int (iI c1)), (4, .ref qo), (5, .ref q)]) [1, 2, 3, 4, 5, 0] rfl (Nat.le_of_ble_eq_true rfl) ?_
      refine g_iconst C dX0_plan_17 ?_
      exact g_iret C dX0_plan_18 rfl (Nat.le_of_ble_eq_true rfl) (Nat.le_of_ble_eq_true rfl) ⟨1, rfl, 0, o, w, Or.inr (Or.inl ⟨rfl, hw, Or.inl ⟨rfl, hp⟩⟩), rfl⟩
    ·
      refine x_catch C (name := EI) [⟨0, 12, 15, 13⟩] ⟨0, 12, 19, 30⟩ [] htab (fun z hz => by cases List.mem_singleton.mp hz; exact Or.inr ⟨by decide, _, q664, by decide⟩) rfl (by decide) q729 (by decide) ?_
      refine g_astore C dX0_plan_19 (lv' := [(0, .ref (h 0)), (1, .int (iI n1)), (2, .int (iI a)), (3, .int (iI c1)), (4, .ref qo), (5, .ref q)]) [1, 2, 3, 4, 5, 0] rfl (Nat.le_of_ble_eq_true rfl) ?_
      refine g_iconst C dX0_plan_21 ?_
      exact g_iret C dX0_plan_22 rfl (Nat.le_of_ble_eq_true rfl) (Nat.le_of_ble_eq_true rfl) ⟨2, rfl, 0, o, w, Or.inr (Or.inr ⟨rfl, hw, Or.inr ⟨rfl, hp⟩⟩), rfl⟩
set_option maxHeartbeats 4000000 in
set_option maxRecDepth 100000 in
theorem c_X0_about (l : Launch) (D : va_G) (hst : l.stackTraces = false) (h : Nat → Nat) (f : Nat → Int) (g : Nat → Int → Int) (N : Nat → Nat) (M : Nat → Nat → Nat) (P : List PR) (a v : Int) (hF : 1 ≤ f 0 ∧ f 0 ≤ 5) (hS : 2 ≤ f 1 ∧ f 1 ≤ 6) (hnp : 0 ≤ f 6 ∧ f 6 ≤ 55) (hN6 : N 6 = 55) (hpt : ∀ j, 0 ≤ j → j < f 6 → (0 ≤ g 24 j ∧ g 24 j ≤ 4) ∧ (0 ≤ g 25 j ∧ g 25 j ≤ 5) ∧ (0 ≤ g 26 j ∧ g 26 j ≤ 2) ∧ (0 ≤ g 27 j ∧ g 27 j ≤ 1)) (hpn : 0 ≤ f 7 ∧ f 7 ≤ N 7 ∧ N 7 ≤ 3000) (hPS : PS f g M P) (har : -2147483648 ≤ a ∧ a < 2147483648) (hvr : -2147483648 ≤ v ∧ v < 2147483648) (qo : Nat) (o : Nat → Int64) : CT l D yX0_about (wsW_ yX0_about cX0_about 5 (some .int) [((0 : Nat), (10 : Nat), (13 : Nat), (13 : Nat))]) (rmD 9 2 12) (2) (12) va_A [.ref (h 0), .int (iI a), .int (iI v), .ref qo] ((qo, oC D o) :: (sW D h f g N M (ptW (M 6) (g 24) (g 25) (g 26) (g 27) (f 6) ++ plW D P))) exT (pI fun k_ w => ∃ (z : Int) (o' : Nat → Int64), ((k_ = 0 ∧ (fun (z : Int) (_ : va_W) => ((0 ≤ a ∧ a < f 7) ∧ 0 ≤ v ∧ v ≤ 8) ∧ ∃ r : PR, P[a.toNat]? = some r ∧ ((v = 0 ∧ z = fle (g 4) (g 3) (f 0) (f 1) (g 5) (r.2.1 0) (r.2.2 0) (r.2.1 5)) ∨ (v = 1 ∧ z = r.2.1 5) ∨ (v = 2 ∧ z = plc (f 0) (f 1) (g 5) (r.2.1 0) (r.2.2 0) (r.2.1 5) / 2 / 6) ∨ (v = 3 ∧ z = plc (f 0) (f 1) (g 5) (r.2.1 0) (r.2.2 0) (r.2.1 5) / 2 % 6) ∨ (v = 4 ∧ z = plc (f 0) (f 1) (g 5) (r.2.1 0) (r.2.2 0) (r.2.1 5) % 2) ∨ (v = 5 ∧ z = bP (plc (f 0) (f 1) (g 5) (r.2.1 0) (r.2.2 0) (r.2.1 5) = r.2.1 0)) ∨ (v = 6 ∧ z = bP (plc (f 0) (f 1) (g 5) (r.2.1 0) (r.2.2 0) (r.2.1 5) = r.2.1 0 ∧ ∀ j, 0 ≤ j → j < f 6 → g 27 j = 0 ∨ 0 < fgo (f 6) (g 24) (g 25) (g 26) (f 0) (f 1) (g 5) (r.2.1 0) (r.2.2 0) (r.2.1 5) j)) ∨ (v = 7 ∧ z = bP (plc (f 0) (f 1) (g 5) (r.2.1 0) (r.2.2 0) (r.2.1 5) = r.2.1 0 ∧ ∀ j, 0 ≤ j → j < f 6 → fgo (f 6) (g 24) (g 25) (g 26) (f 0) (f 1) (g 5) (r.2.1 0) (r.2.2 0) (r.2.1 5) j = g 27 j)) ∨ (v = 8 ∧ z = bP (∀ j, 0 ≤ j → j < f 0 - 1 → 2 ≤ fti (f 0) (f 1) (g 5) (r.2.1 0) (r.2.2 0) (r.2.1 5) j)))) z [] ∧ o' 0 = (iI z).toInt64) ∨ (k_ = 1 ∧ (fun (E : String) (_ : Nat) (w : va_W) => E = EN ∧ ¬ ((0 ≤ a ∧ a < f 7) ∧ 0 ≤ v ∧ v ≤ 8) ∧ w = []) EN 0 [])) ∧ w = (qo, oC D o') :: (sW D h f g N M (ptW (M 6) (g 24) (g 25) (g 26) (g 27) (f 6) ++ plW D P))) xN := by
  refine ct_HU (lv := [(0, .ref (h 0)), (1, .int (iI a)), (2, .int (iI v)), (3, .ref qo)]) RX0 (by decide) rfl rfl hst (Nat.le_of_ble_eq_true rfl) rfl ?_
  intro p e s mm args below meth c A C htab hex
  refine g_aload_n C dX0_about_0 rfl 3 rfl ?_
  refine g_iconst C dX0_about_1 ?_
  refine g_aload_n C dX0_about_2 rfl 0 rfl ?_
  refine g_iload_n C dX0_about_3 rfl 1 rfl ?_
  refine g_iload_n C dX0_about_4 rfl 2 rfl ?_
  refine g_callVR C (c_X1_about l D C.hl h f g N M P a v hF hS hnp hN6 hpt hpn hPS har hvr) (As := [.int (iI a), .int (iI v)]) (n := 2) (lw_V q870 q871 q872 q48 q873) (by decide +kernel) rfl rfl ⟨Nat.le_of_ble_eq_true rfl, Nat.le_of_ble_eq_true rfl⟩ (rcv C 1 (ci := 1) rfl rfl rfl) rfl rfl (Nat.le_of_ble_eq_true rfl) ⟨Nat.le_of_ble_eq_true rfl, Nat.le_of_ble_eq_true rfl⟩ dX0_about_5 (Sb.rt (a := [(qo, oC D o)])) exT_b hex_t (fun v w hp => ?_) (fun E q w hp => ?_)
  · obtain ⟨z, rfl, hp⟩ := hp
    refine g_i2l C dX0_about_8 rfl ?_
    refine g_last C 0 (ws' := (qo, oC D (vp_updL o 0 (iI z).toInt64)) :: (sW D h f g N M (ptW (M 6) (g 24) (g 25) (g 26) (g 27) (f 6) ++ plW D P))) rfl (by omega) (by decide) rfl dX0_about_9 ?_
    refine g_goto C (tgt := 17) dX0_about_10 (by decide) ?_
    refine g_iconst C dX0_about_17 ?_
    exact g_iret C dX0_about_18 rfl (Nat.le_of_ble_eq_true rfl) (Nat.le_of_ble_eq_true rfl) ⟨0, rfl, z, _, Or.inl ⟨rfl, hp, rfl⟩, rfl⟩
  · obtain ⟨rfl, hp, -⟩ := hp
    refine x_catch C (name := EN) [] ⟨0, 10, 13, 13⟩ [] htab (fun z hz => nomatch hz) rfl (by decide) q664 (by decide) ?_
    refine g_astore C dX0_about_13 (lv' := [(0, .ref (h 0)), (1, .int (iI a)), (2, .int (iI v)), (3, .ref qo), (4, .ref q)]) [1, 2, 3, 4, 0] rfl (Nat.le_of_ble_eq_true rfl) ?_
    refine g_iconst C dX0_about_15 ?_
    exact g_iret C dX0_about_16 rfl (Nat.le_of_ble_eq_true rfl) (Nat.le_of_ble_eq_true rfl) ⟨1, rfl, 0, o, Or.inr ⟨rfl, rfl, hp, rfl⟩, rfl⟩
set_option maxHeartbeats 4000000 in
set_option maxRecDepth 100000 in
theorem c_X0_along (l : Launch) (D : va_G) (hst : l.stackTraces = false) (h : Nat → Nat) (f : Nat → Int) (g : Nat → Int → Int) (N : Nat → Nat) (M : Nat → Nat → Nat) (P : List PR) (a b : Int) (hF : 1 ≤ f 0 ∧ f 0 ≤ 5) (hS : 2 ≤ f 1 ∧ f 1 ≤ 6) (hnp : 0 ≤ f 6 ∧ f 6 ≤ 55) (hN6 : N 6 = 55) (hpt : ∀ j, 0 ≤ j → j < f 6 → (0 ≤ g 24 j ∧ g 24 j ≤ 4) ∧ (0 ≤ g 25 j ∧ g 25 j ≤ 5) ∧ (0 ≤ g 26 j ∧ g 26 j ≤ 2) ∧ (0 ≤ g 27 j ∧ g 27 j ≤ 1)) (hpn : 0 ≤ f 7 ∧ f 7 ≤ N 7 ∧ N 7 ≤ 3000) (hPS : PS f g M P) (har : -2147483648 ≤ a ∧ a < 2147483648) (hbr : -2147483648 ≤ b ∧ b < 2147483648) (qo : Nat) (o : Nat → Int64) : CT l D yX0_along (wsW_ yX0_along cX0_along 5 (some .int) [((0 : Nat), (10 : Nat), (13 : Nat), (13 : Nat))]) (rmD 9 2 12) (2) (12) va_A [.ref (h 0), .int (iI a), .int (iI b), .ref qo] ((qo, oC D o) :: (sW D h f g N M (ptW (M 6) (g 24) (g 25) (g 26) (g 27) (f 6) ++ plW D P))) exT (pI fun k_ w => ∃ (z : Int) (o' : Nat → Int64), ((k_ = 0 ∧ (fun (z : Int) (_ : va_W) => ((0 ≤ a ∧ a < f 7) ∧ 0 ≤ b ∧ b < f 6) ∧ ∃ r : PR, P[a.toNat]? = some r ∧ (z = fgo (f 6) (g 24) (g 25) (g 26) (f 0) (f 1) (g 5) (r.2.1 0) (r.2.2 0) (r.2.1 5) b)) z [] ∧ o' 0 = (iI z).toInt64) ∨ (k_ = 1 ∧ (fun (E : String) (_ : Nat) (w : va_W) => E = EN ∧ ¬ ((0 ≤ a ∧ a < f 7) ∧ 0 ≤ b ∧ b < f 6) ∧ w = []) EN 0 [])) ∧ w = (qo, oC D o') :: (sW D h f g N M (ptW (M 6) (g 24) (g 25) (g 26) (g 27) (f 6) ++ plW D P))) xN := by
  refine ct_HU (lv := [(0, .ref (h 0)), (1, .int (iI a)), (2, .int (iI b)), (3, .ref qo)]) RX0 (by decide) rfl rfl hst (Nat.le_of_ble_eq_true rfl) rfl ?_
  intro p e s mm args below meth c A C htab hex
  refine g_aload_n C dX0_along_0 rfl 3 rfl ?_
  refine g_iconst C dX0_along_1 ?_
  refine g_aload_n C dX0_along_2 rfl 0 rfl ?_
  refine g_iload_n C dX0_along_3 rfl 1 rfl ?_
  refine g_iload_n C dX0_along_4 rfl 2 rfl ?_
  refine g_callVR C (c_X1_along l D C.hl h f g N M P a b hF hS hnp hN6 hpt hpn hPS har hbr) (As := [.int (iI a), .int (iI b)]) (n := 2) (lw_V q906 q907 q908 q48 q909) (by decide +kernel) rfl rfl ⟨Nat.le_of_ble_eq_true rfl, Nat.le_of_ble_eq_true rfl⟩ (rcv C 1 (ci := 1) rfl rfl rfl) rfl rfl (Nat.le_of_ble_eq_true rfl) ⟨Nat.le_of_ble_eq_true rfl, Nat.le_of_ble_eq_true rfl⟩ dX0_along_5 (Sb.rt (a := [(qo, oC D o)])) exT_b hex_t (fun v w hp => ?_) (fun E q w hp => ?_)
  · obtain ⟨z, rfl, hp⟩ := hp
    refine g_i2l C dX0_along_8 rfl ?_
    refine g_last C 0 (ws' := (qo, oC D (vp_updL o 0 (iI z).toInt64)) :: (sW D h f g N M (ptW (M 6) (g 24) (g 25) (g 26) (g 27) (f 6) ++ plW D P))) rfl (by omega) (by decide) rfl dX0_along_9 ?_
    refine g_goto C (tgt := 17) dX0_along_10 (by decide) ?_
    refine g_iconst C dX0_along_17 ?_
    exact g_iret C dX0_along_18 rfl (Nat.le_of_ble_eq_true rfl) (Nat.le_of_ble_eq_true rfl) ⟨0, rfl, z, _, Or.inl ⟨rfl, hp, rfl⟩, rfl⟩
  · obtain ⟨rfl, hp, -⟩ := hp
    refine x_catch C (name := EN) [] ⟨0, 10, 13, 13⟩ [] htab (fun z hz => nomatch hz) rfl (by decide) q664 (by decide) ?_
    refine g_astore C dX0_along_13 (lv' := [(0, .ref (h 0)), (1, .int (iI a)), (2, .int (iI b)), (3, .ref qo), (4, .ref q)]) [1, 2, 3, 4, 0] rfl (Nat.le_of_ble_eq_true rfl) ?_
    refine g_iconst C dX0_along_15 ?_
    exact g_iret C dX0_along_16 rfl (Nat.le_of_ble_eq_true rfl) (Nat.le_of_ble_eq_true rfl) ⟨1, rfl, 0, o, Or.inr ⟨rfl, rfl, hp, rfl⟩, rfl⟩
set_option maxHeartbeats 4000000 in
set_option maxRecDepth 100000 in
theorem c_X0_holes (l : Launch) (D : va_G) (hst : l.stackTraces = false) (h : Nat → Nat) (f : Nat → Int) (g : Nat → Int → Int) (N : Nat → Nat) (M : Nat → Nat → Nat) (P : List PR) (a b c_ : Int) (hF : 1 ≤ f 0 ∧ f 0 ≤ 5) (hS : 2 ≤ f 1 ∧ f 1 ≤ 6) (hpn : 0 ≤ f 7 ∧ f 7 ≤ N 7 ∧ N 7 ≤ 3000) (hPS : PS f g M P) (har : -2147483648 ≤ a ∧ a < 2147483648) (hbr : -2147483648 ≤ b ∧ b < 2147483648) (hc_r : -2147483648 ≤ c_ ∧ c_ < 2147483648) (qo : Nat) (o : Nat → Int64) : CT l D yX0_holes (wsW_ yX0_holes cX0_holes 6 (some .int) [((0 : Nat), (12 : Nat), (15 : Nat), (13 : Nat))]) (rmD 9 3 18) (3) (18) va_A [.ref (h 0), .int (iI a), .int (iI b), .int (iI c_), .ref qo] ((qo, oC D o) :: (sW D h f g N M (ptW (M 6) (g 24) (g 25) (g 26) (g 27) (f 6) ++ plW D P))) exT (pI fun k_ w => ∃ (z : Int) (o' : Nat → Int64), ((k_ = 0 ∧ (fun (z : Int) (_ : va_W) => ((0 ≤ a ∧ a < f 7) ∧ (0 ≤ b ∧ b < f 0) ∧ 0 ≤ c_ ∧ c_ < f 1) ∧ ∃ r : PR, P[a.toNat]? = some r ∧ (z = fho (f 0) (f 1) (g 5) (r.2.1 0) (r.2.2 0) (r.2.1 5) (6 * b + c_))) z [] ∧ o' 0 = (iI z).toInt64) ∨ (k_ = 1 ∧ (fun (E : String) (_ : Nat) (w : va_W) => E = EN ∧ ¬ ((0 ≤ a ∧ a < f 7) ∧ (0 ≤ b ∧ b < f 0) ∧ 0 ≤ c_ ∧ c_ < f 1) ∧ w = []) EN 0 [])) ∧ w = (qo, oC D o') :: (sW D h f g N M (ptW (M 6) (g 24) (g 25) (g 26) (g 27) (f 6) ++ plW D P))) xN := by
  refine ct_HU (lv := [(0, .ref (h 0)), (1, .int (iI a)), (2, .int (iI b)), (3, .int (iI c_)), (4, .ref qo)]) RX0 (by decide) rfl rfl hst (Nat.le_of_ble_eq_true rfl) rfl ?_
  intro p e s mm args below meth c A C htab hex
  refine g_aload C dX0_holes_0 4 rfl ?_
  refine g_iconst C dX0_holes_2 ?_
  refine g_aload_n C dX0_holes_3 rfl 0 rfl ?_
  refine g_iload_n C dX0_holes_4 rfl 1 rfl ?_
  refine g_iload_n C dX0_holes_5 rfl 2 rfl ?_
  refine g_iload_n C dX0_holes_6 rfl 3 rfl ?_
  refine g_callVR C (c_X1_holes l D C.hl h f g N M P a b c_ hF hS hpn hPS har hbr hc_r) (As := [.int (iI a), .int (iI b), .int (iI c_)]) (n := 3) (lw_V q913 q914 q915 q48 q916) (by decide +kernel) rfl rfl ⟨Nat.le_of_ble_eq_true rfl, Nat.le_of_ble_eq_true rfl⟩ (rcv C 1 (ci := 1) rfl rfl rfl) rfl rfl (Nat.le_of_ble_eq_true rfl) ⟨Nat.le_of_ble_eq_true rfl, Nat.le_of_ble_eq_true rfl⟩ dX0_holes_7 (Sb.rt (a := [(qo, oC D o)])) exT_b hex_t (fun v w hp => ?_) (fun E q w hp => ?_)
  · obtain ⟨z, rfl, hp⟩ := hp
    refine g_i2l C dX0_holes_10 rfl ?_
    refine g_last C 0 (ws' := (qo, oC D (vp_updL o 0 (iI z).toInt64)) :: (sW D h f g N M (ptW (M 6) (g 24) (g 25) (g 26) (g 27) (f 6) ++ plW D P))) rfl (by omega) (by decide) rfl dX0_holes_11 ?_
    refine g_goto C (tgt := 19) dX0_holes_12 (by decide) ?_
    refine g_iconst C dX0_holes_19 ?_
    exact g_iret C dX0_holes_20 rfl (Nat.le_of_ble_eq_true rfl) (Nat.le_of_ble_eq_true rfl) ⟨0, rfl, z, _, Or.inl ⟨rfl, hp, rfl⟩, rfl⟩
  · obtain ⟨rfl, hp, -⟩ := hp
    refine x_catch C (name := EN) [] ⟨0, 12, 15, 13⟩ [] htab (fun z hz => nomatch hz) rfl (by decide) q664 (by decide) ?_
    refine g_astore C dX0_holes_15 (lv' := [(0, .ref (h 0)), (1, .int (iI a)), (2, .int (iI b)), (3, .int (iI c_)), (4, .ref qo), (5, .ref q)]) [1, 2, 3, 4, 5, 0] rfl (Nat.le_of_ble_eq_true rfl) ?_
    refine g_iconst C dX0_holes_17 ?_
    exact g_iret C dX0_holes_18 rfl (Nat.le_of_ble_eq_true rfl) (Nat.le_of_ble_eq_true rfl) ⟨1, rfl, 0, o, Or.inr ⟨rfl, rfl, hp, rfl⟩, rfl⟩
set_option maxHeartbeats 4000000 in
set_option maxRecDepth 100000 in
theorem c_X0_tied (l : Launch) (D : va_G) (hst : l.stackTraces = false) (h : Nat → Nat) (f : Nat → Int) (g : Nat → Int → Int) (N : Nat → Nat) (M : Nat → Nat → Nat) (P : List PR) (a b : Int) (hF : 1 ≤ f 0 ∧ f 0 ≤ 5) (hS : 2 ≤ f 1 ∧ f 1 ≤ 6) (hpn : 0 ≤ f 7 ∧ f 7 ≤ N 7 ∧ N 7 ≤ 3000) (hPS : PS f g M P) (har : -2147483648 ≤ a ∧ a < 2147483648) (hbr : -2147483648 ≤ b ∧ b < 2147483648) (qo : Nat) (o : Nat → Int64) : CT l D yX0_tied (wsW_ yX0_tied cX0_tied 5 (some .int) [((0 : Nat), (10 : Nat), (13 : Nat), (13 : Nat))]) (rmD 9 2 12) (2) (12) va_A [.ref (h 0), .int (iI a), .int (iI b), .ref qo] ((qo, oC D o) :: (sW D h f g N M (ptW (M 6) (g 24) (g 25) (g 26) (g 27) (f 6) ++ plW D P))) exT (pI fun k_ w => ∃ (z : Int) (o' : Nat → Int64), ((k_ = 0 ∧ (fun (z : Int) (_ : va_W) => ((0 ≤ a ∧ a < f 7) ∧ 0 ≤ b ∧ b < f 0 - 1) ∧ ∃ r : PR, P[a.toNat]? = some r ∧ (z = fti (f 0) (f 1) (g 5) (r.2.1 0) (r.2.2 0) (r.2.1 5) b)) z [] ∧ o' 0 = (iI z).toInt64) ∨ (k_ = 1 ∧ (fun (E : String) (_ : Nat) (w : va_W) => E = EN ∧ ¬ ((0 ≤ a ∧ a < f 7) ∧ 0 ≤ b ∧ b < f 0 - 1) ∧ w = []) EN 0 [])) ∧ w = (qo, oC D o') :: (sW D h f g N M (ptW (M 6) (g 24) (g 25) (g 26) (g 27) (f 6) ++ plW D P))) xN := by
  refine ct_HU (lv := [(0, .ref (h 0)), (1, .int (iI a)), (2, .int (iI b)), (3, .ref qo)]) RX0 (by decide) rfl rfl hst (Nat.le_of_ble_eq_true rfl) rfl ?_
  intro p e s mm args below meth c A C htab hex
  refine g_aload_n C dX0_tied_0 rfl 3 rfl ?_
  refine g_iconst C dX0_tied_1 ?_
  refine g_aload_n C dX0_tied_2 rfl 0 rfl ?_
  refine g_iload_n C dX0_tied_3 rfl 1 rfl ?_
  refine g_iload_n C dX0_tied_4 rfl 2 rfl ?_
  refine g_callVR C (c_X1_tied l D C.hl h f g N M P a b hF hS hpn hPS har hbr) (As := [.int (iI a), .int (iI b)]) (n := 2) (lw_V q920 q921 q922 q48 q923) (by decide +kernel) rfl rfl ⟨Nat.le_of_ble_eq_true rfl, Nat.le_of_ble_eq_true rfl⟩ (rcv C 1 (ci := 1) rfl rfl rfl) rfl rfl (Nat.le_of_ble_eq_true rfl) ⟨Nat.le_of_ble_eq_true rfl, Nat.le_of_ble_eq_true rfl⟩ dX0_tied_5 (Sb.rt (a := [(qo, oC D o)])) exT_b hex_t (fun v w hp => ?_) (fun E q w hp => ?_)
  · obtain ⟨z, rfl, hp⟩ := hp
    refine g_i2l C dX0_tied_8 rfl ?_
    refine g_last C 0 (ws' := (qo, oC D (vp_updL o 0 (iI z).toInt64)) :: (sW D h f g N M (ptW (M 6) (g 24) (g 25) (g 26) (g 27) (f 6) ++ plW D P))) rfl (by omega) (by decide) rfl dX0_tied_9 ?_
    refine g_goto C (tgt := 17) dX0_tied_10 (by decide) ?_
    refine g_iconst C dX0_tied_17 ?_
    exact g_iret C dX0_tied_18 rfl (Nat.le_of_ble_eq_true rfl) (Nat.le_of_ble_eq_true rfl) ⟨0, rfl, z, _, Or.inl ⟨rfl, hp, rfl⟩, rfl⟩
  · obtain ⟨rfl, hp, -⟩ := hp
    refine x_catch C (name := EN) [] ⟨0, 10, 13, 13⟩ [] htab (fun z hz => nomatch hz) rfl (by decide) q664 (by decide) ?_
    refine g_astore C dX0_tied_13 (lv' := [(0, .ref (h 0)), (1, .int (iI a)), (2, .int (iI b)), (3, .ref qo), (4, .ref q)]) [1, 2, 3, 4, 0] rfl (Nat.le_of_ble_eq_true rfl) ?_
    refine g_iconst C dX0_tied_15 ?_
    exact g_iret C dX0_tied_16 rfl (Nat.le_of_ble_eq_true rfl) (Nat.le_of_ble_eq_true rfl) ⟨1, rfl, 0, o, Or.inr ⟨rfl, rfl, hp, rfl⟩, rfl⟩
set_option maxHeartbeats 4000000 in
set_option maxRecDepth 100000 in
theorem c_X0_swells (l : Launch) (D : va_G) (hst : l.stackTraces = false) (h : Nat → Nat) (f : Nat → Int) (g : Nat → Int → Int) (N : Nat → Nat) (M : Nat → Nat → Nat) (P : List PR) (a b : Int) (hF : 1 ≤ f 0 ∧ f 0 ≤ 5) (hS : 2 ≤ f 1 ∧ f 1 ≤ 6) (hnp : 0 ≤ f 6 ∧ f 6 ≤ 55) (hN6 : N 6 = 55) (hpt : ∀ j, 0 ≤ j → j < f 6 → (0 ≤ g 24 j ∧ g 24 j ≤ 4) ∧ (0 ≤ g 25 j ∧ g 25 j ≤ 5) ∧ (0 ≤ g 26 j ∧ g 26 j ≤ 2) ∧ (0 ≤ g 27 j ∧ g 27 j ≤ 1)) (hpn : 0 ≤ f 7 ∧ f 7 ≤ N 7 ∧ N 7 ≤ 3000) (hPS : PS f g M P) (hth : ∀ j, 0 ≤ j → j < 5 → 1 ≤ g 3 j ∧ g 3 j ≤ 50) (ht2 : 0 ≤ f 2 ∧ f 2 ≤ 9) (har : -2147483648 ≤ a ∧ a < 2147483648) (hbr : -2147483648 ≤ b ∧ b < 2147483648) (qo : Nat) (o : Nat → Int64) : CT l D yX0_swells (wsW_ yX0_swells cX0_swells 5 (some .int) [((0 : Nat), (10 : Nat), (13 : Nat), (13 : Nat))]) (rmD 9 2 12) (2) (12) va_A [.ref (h 0), .int (iI a), .int (iI b), .ref qo] ((qo, oC D o) :: (sW D h f g N M (ptW (M 6) (g 24) (g 25) (g 26) (g 27) (f 6) ++ plW D P))) exT (pI fun k_ w => ∃ (z : Int) (o' : Nat → Int64), ((k_ = 0 ∧ (fun (z : Int) (_ : va_W) => ((0 ≤ a ∧ a < f 7) ∧ 0 ≤ b ∧ b < f 1) ∧ ∃ r : PR, P[a.toNat]? = some r ∧ (z = fswS (g 3) (f 0) + fswP (f 2) b (g 25) (g 26) (fgo (f 6) (g 24) (g 25) (g 26) (f 0) (f 1) (g 5) (r.2.1 0) (r.2.2 0) (r.2.1 5)) (f 6))) z [] ∧ o' 0 = (iI z).toInt64) ∨ (k_ = 1 ∧ (fun (E : String) (_ : Nat) (w : va_W) => E = EN ∧ ¬ ((0 ≤ a ∧ a < f 7) ∧ 0 ≤ b ∧ b < f 1) ∧ w = []) EN 0 [])) ∧ w = (qo, oC D o') :: (sW D h f g N M (ptW (M 6) (g 24) (g 25) (g 26) (g 27) (f 6) ++ plW D P))) xN := by
  refine ct_HU (lv := [(0, .ref (h 0)), (1, .int (iI a)), (2, .int (iI b)), (3, .ref qo)]) RX0 (by decide) rfl rfl hst (Nat.le_of_ble_eq_true rfl) rfl ?_
  intro p e s mm args below meth c A C htab hex
  refine g_aload_n C dX0_swells_0 rfl 3 rfl ?_
  refine g_iconst C dX0_swells_1 ?_
  refine g_aload_n C dX0_swells_2 rfl 0 rfl ?_
  refine g_iload_n C dX0_swells_3 rfl 1 rfl ?_
  refine g_iload_n C dX0_swells_4 rfl 2 rfl ?_
  refine g_callVR C (c_X1_swells l D C.hl h f g N M P a b hF hS hnp hN6 hpt hpn hPS hth ht2 har hbr) (As := [.int (iI a), .int (iI b)]) (n := 2) (lw_V q927 q928 q929 q48 q930) (by decide +kernel) rfl rfl ⟨Nat.le_of_ble_eq_true rfl, Nat.le_of_ble_eq_true rfl⟩ (rcv C 1 (ci := 1) rfl rfl rfl) rfl rfl (Nat.le_of_ble_eq_true rfl) ⟨Nat.le_of_ble_eq_true rfl, Nat.le_of_ble_eq_true rfl⟩ dX0_swells_5 (Sb.rt (a := [(qo, oC D o)])) exT_b hex_t (fun v w hp => ?_) (fun E q w hp => ?_)
  · obtain ⟨z, rfl, hp⟩ := hp
    refine g_i2l C dX0_swells_8 rfl ?_
    refine g_last C 0 (ws' := (qo, oC D (vp_updL o 0 (iI z).toInt64)) :: (sW D h f g N M (ptW (M 6) (g 24) (g 25) (g 26) (g 27) (f 6) ++ plW D P))) rfl (by omega) (by decide) rfl dX0_swells_9 ?_
    refine g_goto C (tgt := 17) dX0_swells_10 (by decide) ?_
    refine g_iconst C dX0_swells_17 ?_
    exact g_iret C dX0_swells_18 rfl (Nat.le_of_ble_eq_true rfl) (Nat.le_of_ble_eq_true rfl) ⟨0, rfl, z, _, Or.inl ⟨rfl, hp, rfl⟩, rfl⟩
  · obtain ⟨rfl, hp, -⟩ := hp
    refine x_catch C (name := EN) [] ⟨0, 10, 13, 13⟩ [] htab (fun z hz => nomatch hz) rfl (by decide) q664 (by decide) ?_
    refine g_astore C dX0_swells_13 (lv' := [(0, .ref (h 0)), (1, .int (iI a)), (2, .int (iI b)), (3, .ref qo), (4, .ref q)]) [1, 2, 3, 4, 0] rfl (Nat.le_of_ble_eq_true rfl) ?_
    refine g_iconst C dX0_swells_15 ?_
    exact g_iret C dX0_swells_16 rfl (Nat.le_of_ble_eq_true rfl) (Nat.le_of_ble_eq_true rfl) ⟨1, rfl, 0, o, Or.inr ⟨rfl, rfl, hp, rfl⟩, rfl⟩
set_option maxHeartbeats 4000000 in
set_option maxRecDepth 100000 in
theorem c_X0_loose (l : Launch) (D : va_G) (hst : l.stackTraces = false) (h : Nat → Nat) (f : Nat → Int) (g : Nat → Int → Int) (N : Nat → Nat) (M : Nat → Nat → Nat) (P : List PR) (a b : Int) (hF : 1 ≤ f 0 ∧ f 0 ≤ 5) (hS : 2 ≤ f 1 ∧ f 1 ≤ 6) (hnp : 0 ≤ f 6 ∧ f 6 ≤ 55) (hN6 : N 6 = 55) (hpt : ∀ j, 0 ≤ j → j < f 6 → (0 ≤ g 24 j ∧ g 24 j ≤ 4) ∧ (0 ≤ g 25 j ∧ g 25 j ≤ 5) ∧ (0 ≤ g 26 j ∧ g 26 j ≤ 2) ∧ (0 ≤ g 27 j ∧ g 27 j ≤ 1)) (hpn : 0 ≤ f 7 ∧ f 7 ≤ N 7 ∧ N 7 ≤ 3000) (hPS : PS f g M P) (har : -2147483648 ≤ a ∧ a < 2147483648) (hbr : -2147483648 ≤ b ∧ b < 2147483648) (qo : Nat) (o : Nat → Int64) : CT l D yX0_loose (wsW_ yX0_loose cX0_loose 5 (some .int) [((0 : Nat), (10 : Nat), (13 : Nat), (13 : Nat))]) (rmD 9 3 412) (3) (412) va_A [.ref (h 0), .int (iI a), .int (iI b), .ref qo] ((qo, oC D o) :: (sW D h f g N M (ptW (M 6) (g 24) (g 25) (g 26) (g 27) (f 6) ++ plW D P))) exT (pI fun k_ w => ∃ (z : Int) (o' : Nat → Int64) (w1 : va_W), ((k_ = 0 ∧ (fun (z : Int) (w : va_W) => ((0 ≤ a ∧ a < f 7) ∧ ∃ r : PR, P[a.toNat]? = some r ∧ (0 ≤ b ∧ b < r.2.1 5)) ∧ (∃ r : PR, P[a.toNat]? = some r ∧ LSok z (GL (f 0) (fun j => offs (bP (plc (f 0) (f 1) (g 5) (r.2.1 0) (r.2.2 0) (r.2.1 5) = r.2.1 0)) (r.2.1 5) (r.2.2 0) b j = 0 ∧ alg (f 6) (g 24) (g 25) (g 26) (plc (f 0) (f 1) (g 5) (r.2.1 0) (r.2.2 0) j) (r.2.2 0 j) ≠ -1) (fun j => plc (f 0) (f 1) (g 5) (r.2.1 0) (r.2.2 0) j / 2 / 6) (r.2.1 5))) ∧ w = sW D h f g N M (ptW (M 6) (g 24) (g 25) (g 26) (g 27) (f 6) ++ plW D P)) z w1 ∧ o' 0 = (iI z).toInt64) ∨ (k_ = 1 ∧ (fun (E : String) (_ : Nat) (w : va_W) => E = EN ∧ (¬ (0 ≤ a ∧ a < f 7) ∨ ∃ r : PR, P[a.toNat]? = some r ∧ ¬ (0 ≤ b ∧ b < r.2.1 5)) ∧ w = sW D h f g N M (ptW (M 6) (g 24) (g 25) (g 26) (g 27) (f 6) ++ plW D P)) EN 0 w1)) ∧ w = (qo, oC D o') :: w1) xN := by
  refine ct_HU (lv := [(0, .ref (h 0)), (1, .int (iI a)), (2, .int (iI b)), (3, .ref qo)]) RX0 (by decide) rfl rfl hst (Nat.le_of_ble_eq_true rfl) rfl ?_
  intro p e s mm args below meth c A C htab hex
  refine g_aload_n C dX0_loose_0 rfl 3 rfl ?_
  refine g_iconst C dX0_loose_1 ?_
  refine g_aload_n C dX0_loose_2 rfl 0 rfl ?_
  refine g_iload_n C dX0_loose_3 rfl 1 rfl ?_
  refine g_iload_n C dX0_loose_4 rfl 2 rfl ?_
  refine g_callVU C (c_X1_loose l D C.hl h f g N M P a b hF hS hnp hN6 hpt hpn hPS har hbr) (As := [.int (iI a), .int (iI b)]) (n := 2) (lw_V q934 q935 q936 q48 q937) (by decide +kernel) rfl rfl ⟨Nat.le_of_ble_eq_true rfl, Nat.le_of_ble_eq_true rfl⟩ (rcv C 1 (ci := 1) rfl rfl rfl) rfl rfl (Nat.le_of_ble_eq_true rfl) ⟨Nat.le_of_ble_eq_true rfl, Nat.le_of_ble_eq_true rfl⟩ dX0_loose_5 (wr := [(qo, oC D o)]) Sb.rf exT_b hex_t (fun v w hp => ?_) (fun E q w hp => ?_)
  · obtain ⟨z, rfl, hp⟩ := hp
    refine g_i2l C dX0_loose_8 rfl ?_
    refine g_last C 0 (ws' := (qo, oC D (vp_updL o 0 (iI z).toInt64)) :: w) rfl (by omega) (by decide) rfl dX0_loose_9 ?_
    refine g_goto C (tgt := 17) dX0_loose_10 (by decide) ?_
    refine g_iconst C dX0_loose_17 ?_
    exact g_iret C dX0_loose_18 rfl (Nat.le_of_ble_eq_true rfl) (Nat.le_of_ble_eq_true rfl) ⟨0, rfl, z, _, w, Or.inl ⟨rfl, hp, rfl⟩, rfl⟩
  · obtain ⟨rfl, hp⟩ := hp
    refine x_catch C (name := EN) [] ⟨0, 10, 13, 13⟩ [] htab (fun z hz => nomatch hz) rfl (by decide) q664 (by decide) ?_
    refine g_astore C dX0_loose_13 (lv' := [(0, .ref (h 0)), (1, .int (iI a)), (2, .int (iI b)), (3, .ref qo), (4, .ref q)]) [1, 2, 3, 4, 0] rfl (Nat.le_of_ble_eq_true rfl) ?_
    refine g_iconst C dX0_loose_15 ?_
    exact g_iret C dX0_loose_16 rfl (Nat.le_of_ble_eq_true rfl) (Nat.le_of_ble_eq_true rfl) ⟨1, rfl, 0, o, w, Or.inr ⟨rfl, rfl, hp⟩, rfl⟩
set_option maxHeartbeats 4000000 in
set_option maxRecDepth 100000 in
theorem c_X0_best (l : Launch) (D : va_G) (hst : l.stackTraces = false) (h : Nat → Nat) (f : Nat → Int) (g : Nat → Int → Int) (N : Nat → Nat) (M : Nat → Nat → Nat) (U : va_W) (a cl : Int) (hF : 1 ≤ f 0 ∧ f 0 ≤ 5) (hS : 2 ≤ f 1 ∧ f 1 ≤ 6) (hkd : ∀ j, 0 ≤ j → j < 6 → 0 ≤ g 5 j ∧ g 5 j ≤ 3) (hth : ∀ j, 0 ≤ j → j < 5 → 1 ≤ g 3 j ∧ g 3 j ≤ 50) (hht : ∀ j, 0 ≤ j → j < 6 → 0 ≤ g 4 j ∧ g 4 j ≤ 400) (hri : ∀ j, 0 ≤ j → j + 1 < f 1 → g 4 j < g 4 (j + 1)) (hnp : 0 ≤ f 6 ∧ f 6 ≤ 55) (hN6 : N 6 = 55) (hpt : ∀ j, 0 ≤ j → j < f 6 → (0 ≤ g 24 j ∧ g 24 j ≤ 4) ∧ (0 ≤ g 25 j ∧ g 25 j ≤ 5) ∧ (0 ≤ g 26 j ∧ g 26 j ≤ 2) ∧ (0 ≤ g 27 j ∧ g 27 j ≤ 1)) (hkc : 8 ≤ N 11 ∧ N 11 ≤ 990 ∧ 0 ≤ f 11 ∧ f 11 ≤ N 11) (hv : ∀ j, 0 ≤ j → j < 61440 → 0 ≤ g 12 j ∧ g 12 j ≤ 1000000000) (har : -2147483648 ≤ a ∧ a < 2147483648) (hcl : 0 ≤ cl ∧ cl ≤ 1) (qo : Nat) (o : Nat → Int64) : CT l D yX0_best (wsW_ yX0_best cX0_best 5 (some .int) [((0 : Nat), (10 : Nat), (13 : Nat), (13 : Nat))]) (rmD 9 670 4100) (670) (4100) va_A [.ref (h 0), .int (iI a), .int (iI cl), .ref qo] ((qo, oC D o) :: (sW D h f g N M (ptW (M 6) (g 24) (g 25) (g 26) (g 27) (f 6) ++ U))) exT (pI fun k_ w => ∃ (z : Int) (o' : Nat → Int64) (w1 : va_W), ((k_ = 0 ∧ (fun (z : Int) (w : va_W) => (0 ≤ a ∧ a < f 1) ∧ ((10 < ndc (g 27) (f 6) ∧ z = -1 ∧ w = sW D h f g N M (ptW (M 6) (g 24) (g 25) (g 26) (g 27) (f 6) ++ U)) ∨ (ndc (g 27) (f 6) ≤ 10 ∧ ∃ y12 : Int → Int, ∃ y13 : Int → Int, ∃ y14 : Int → Int, ∃ y15 : Int → Int, ∃ y16 : Int → Int, ∃ y17 : Int → Int, ∃ y18 : Int → Int, ∃ y19 : Int → Int, z = -1 ∧ Bel 1000000000 1024 (LDc (f 0) (f 1) (g 5)) (LNc (g 4) (g 3)) (CVc (f 6) (g 24) (g 25) (g 26) (g 27)) cl (2 ^ (ndc (g 27) (f 6)).toNat) (2 * (6 * 0 + a) + 0) y12 ∧ 1000000000 ≤ y12 (2 * (6 * 0 + a) + 0) ∧ (∀ j, 0 ≤ j → j < 61440 → 0 ≤ y12 j ∧ y12 j ≤ 1000000000) ∧ w = sW D h f (ug (ug (ug (ug (ug (ug (ug (ug g 12 y12) 13 y13) 14 y14) 15 y15) 16 y16) 17 y17) 18 y18) 19 y19) N M (ptW (M 6) (g 24) (g 25) (g 26) (g 27) (f 6) ++ U)) ∨ (ndc (g 27) (f 6) ≤ 10 ∧ ∃ y12 : Int → Int, ∃ y13 : Int → Int, ∃ y14 : Int → Int, ∃ y15 : Int → Int, ∃ y16 : Int → Int, ∃ y17 : Int → Int, ∃ y18 : Int → Int, ∃ y19 : Int → Int, ∃ (km k23 : Int) (kb kc : Nat) (ky : Int → Int), z = y12 (2 * (6 * 0 + a) + 0) / 1024 ∧ Bel 1000000000 1024 (LDc (f 0) (f 1) (g 5)) (LNc (g 4) (g 3)) (CVc (f 6) (g 24) (g 25) (g 26) (g 27)) cl (2 ^ (ndc (g 27) (f 6)).toNat) (2 * (6 * 0 + a) + 0) y12 ∧ y12 (2 * (6 * 0 + a) + 0) < 1000000000 ∧ KP 1000000000 1024 y12 (LDc (f 0) (f 1) (g 5)) (LNc (g 4) (g 3)) (CVc (f 6) (g 24) (g 25) (g 26) (g 27)) cl (2 * (6 * 0 + a) + 0) km ky ∧ (∀ j, 0 ≤ j → j < km → 0 ≤ ky j ∧ ky j < 8) ∧ (8 ≤ kc ∧ kc ≤ 990 ∧ km ≤ kc) ∧ (∀ j, 0 ≤ j → j < 61440 → 0 ≤ y12 j ∧ y12 j ≤ 1000000000) ∧ w = sW D (uN h 23 kb) (up (up f 11 km) 23 k23) (ug (ug (ug (ug (ug (ug (ug (ug g 12 y12) 13 y13) 14 y14) 15 y15) 16 y16) 17 y17) 18 y18) 19 y19) (uN N 11 kc) (uM M 11 (bxA D ky)) (ptW (M 6) (g 24) (g 25) (g 26) (g 27) (f 6) ++ U)))) z w1 ∧ o' 0 = (iI z).toInt64) ∨ (k_ = 1 ∧ (fun (E : String) (_ : Nat) (w : va_W) => E = EN ∧ ¬ (0 ≤ a ∧ a < f 1) ∧ w = sW D h f g N M (ptW (M 6) (g 24) (g 25) (g 26) (g 27) (f 6) ++ U)) EN 0 w1)) ∧ w = (qo, oC D o') :: w1) xN := by
  refine ct_HU (lv := [(0, .ref (h 0)), (1, .int (iI a)), (2, .int (iI cl)), (3, .ref qo)]) RX0 (by decide) rfl rfl hst (Nat.le_of_ble_eq_true rfl) rfl ?_
  intro p e s mm args below meth c A C htab hex
  refine g_aload_n C dX0_best_0 rfl 3 rfl ?_
  refine g_iconst C dX0_best_1 ?_
  refine g_aload_n C dX0_best_2 rfl 0 rfl ?_
  refine g_iload_n C dX0_best_3 rfl 1 rfl ?_
  refine g_iload_n C dX0_best_4 rfl 2 rfl ?_
  refine g_callVU C (c_X1_best l D C.hl h f g N M U a cl hF hS hkd hth hht hri hnp hN6 hpt hkc hv har hcl) (As := [.int (iI a), .int (iI cl)]) (n := 2) (lw_V q945 q946 q947 q48 q948) (by decide +kernel) rfl rfl ⟨Nat.le_of_ble_eq_true rfl, Nat.le_of_ble_eq_true rfl⟩ (rcv C 1 (ci := 1) rfl rfl rfl) rfl rfl (Nat.le_of_ble_eq_true rfl) ⟨Nat.le_of_ble_eq_true rfl, Nat.le_of_ble_eq_true rfl⟩ dX0_best_5 (wr := [(qo, oC D o)]) Sb.rf exT_b hex_t (fun v w hp => ?_) (fun E q w hp => ?_)
  · obtain ⟨z, rfl, hp⟩ := hp
    refine g_i2l C dX0_best_8 rfl ?_
    refine g_last C 0 (ws' := (qo, oC D (vp_updL o 0 (iI z).toInt64)) :: w) rfl (by omega) (by decide) rfl dX0_best_9 ?_
    refine g_goto C (tgt := 17) dX0_best_10 (by decide) ?_
    refine g_iconst C dX0_best_17 ?_
    exact g_iret C dX0_best_18 rfl (Nat.le_of_ble_eq_true rfl) (Nat.le_of_ble_eq_true rfl) ⟨0, rfl, z, _, w, Or.inl ⟨rfl, hp, rfl⟩, rfl⟩
  · obtain ⟨rfl, hp⟩ := hp
    refine x_catch C (name := EN) [] ⟨0, 10, 13, 13⟩ [] htab (fun z hz => nomatch hz) rfl (by decide) q664 (by decide) ?_
    refine g_astore C dX0_best_13 (lv' := [(0, .ref (h 0)), (1, .int (iI a)), (2, .int (iI cl)), (3, .ref qo), (4, .ref q)]) [1, 2, 3, 4, 0] rfl (Nat.le_of_ble_eq_true rfl) ?_
    refine g_iconst C dX0_best_15 ?_
    exact g_iret C dX0_best_16 rfl (Nat.le_of_ble_eq_true rfl) (Nat.le_of_ble_eq_true rfl) ⟨1, rfl, 0, o, w, Or.inr ⟨rfl, rfl, hp⟩, rfl⟩
set_option maxHeartbeats 4000000 in
set_option maxRecDepth 100000 in
theorem c_X0_move (l : Launch) (D : va_G) (hst : l.stackTraces = false) (h : Nat → Nat) (f : Nat → Int) (g : Nat → Int → Int) (N : Nat → Nat) (M : Nat → Nat → Nat) (T : va_W) (a : Int) (hkn : 0 ≤ f 11 ∧ f 11 ≤ 1000 ∧ f 11 ≤ N 11 ∧ N 11 ≤ 3000) (hkb : ∀ j, 0 ≤ j → j < f 11 → M 11 j.toNat = D.2 1000 (g 28 j + 128).toNat ∧ 0 ≤ g 28 j ∧ g 28 j < 8) (har : -2147483648 ≤ a ∧ a < 2147483648) (qo : Nat) (o : Nat → Int64) : CT l D yX0_move (wsW_ yX0_move cX0_move 4 (some .int) [((0 : Nat), (9 : Nat), (12 : Nat), (13 : Nat))]) (rmD 8 1 6) (1) (6) va_A [.ref (h 0), .int (iI a), .ref qo] ((qo, oC D o) :: (sW D h f g N M T)) exT (pI fun k_ w => ∃ (z : Int) (o' : Nat → Int64), ((k_ = 0 ∧ (fun (z : Int) (_ : va_W) => (-1 ≤ a ∧ a < f 11) ∧ z = if a = -1 then f 11 else g 28 a) z [] ∧ o' 0 = (iI z).toInt64) ∨ (k_ = 1 ∧ (fun (E : String) (_ : Nat) (w : va_W) => E = EN ∧ ¬ (-1 ≤ a ∧ a < f 11) ∧ w = []) EN 0 [])) ∧ w = (qo, oC D o') :: (sW D h f g N M T)) xN := by
  refine ct_HU (lv := [(0, .ref (h 0)), (1, .int (iI a)), (2, .ref qo)]) RX0 (by decide) rfl rfl hst (Nat.le_of_ble_eq_true rfl) rfl ?_
  intro p e s mm args below meth c A C htab hex
  refine g_aload_n C dX0_move_0 rfl 2 rfl ?_
  refine g_iconst C dX0_move_1 ?_
  refine g_aload_n C dX0_move_2 rfl 0 rfl ?_
  refine g_iload_n C dX0_move_3 rfl 1 rfl ?_
  refine g_callVR C (c_X1_move l D C.hl h f g N M T a hkn hkb har) (As := [.int (iI a)]) (n := 1) (lw_V q966 q967 q968 q48 q969) (by decide +kernel) rfl rfl ⟨Nat.le_of_ble_eq_true rfl, Nat.le_of_ble_eq_true rfl⟩ (rcv C 1 (ci := 1) rfl rfl rfl) rfl rfl (Nat.le_of_ble_eq_true rfl) ⟨Nat.le_of_ble_eq_true rfl, Nat.le_of_ble_eq_true rfl⟩ dX0_move_4 (Sb.rt (a := [(qo, oC D o)])) exT_b hex_t (fun v w hp => ?_) (fun E q w hp => ?_)
  · obtain ⟨z, rfl, hp⟩ := hp
    refine g_i2l C dX0_move_7 rfl ?_
    refine g_last C 0 (ws' := (qo, oC D (vp_updL o 0 (iI z).toInt64)) :: (sW D h f g N M T)) rfl (by omega) (by decide) rfl dX0_move_8 ?_
    refine g_goto C (tgt := 15) dX0_move_9 (by decide) ?_
    refine g_iconst C dX0_move_15 ?_
    exact g_iret C dX0_move_16 rfl (Nat.le_of_ble_eq_true rfl) (Nat.le_of_ble_eq_true rfl) ⟨0, rfl, z, _, Or.inl ⟨rfl, hp, rfl⟩, rfl⟩
  · obtain ⟨rfl, hp, -⟩ := hp
    refine x_catch C (name := EN) [] ⟨0, 9, 12, 13⟩ [] htab (fun z hz => nomatch hz) rfl (by decide) q664 (by decide) ?_
    refine g_astore_n C dX0_move_12 rfl (lv' := [(0, .ref (h 0)), (1, .int (iI a)), (2, .ref qo), (3, .ref q)]) [1, 2, 3, 0] rfl (Nat.le_of_ble_eq_true rfl) ?_
    refine g_iconst C dX0_move_13 ?_
    exact g_iret C dX0_move_14 rfl (Nat.le_of_ble_eq_true rfl) (Nat.le_of_ble_eq_true rfl) ⟨1, rfl, 0, o, Or.inr ⟨rfl, rfl, hp, rfl⟩, rfl⟩
set_option maxHeartbeats 4000000 in
set_option maxRecDepth 100000 in
theorem c_X0_count (l : Launch) (D : va_G) (hst : l.stackTraces = false) (h : Nat → Nat) (f : Nat → Int) (g : Nat → Int → Int) (N : Nat → Nat) (M : Nat → Nat → Nat) (U : va_W) (v : Int) (hnp : 0 ≤ f 6 ∧ f 6 ≤ 55) (hN6 : N 6 = 55) (hpt : ∀ j, 0 ≤ j → j < f 6 → (0 ≤ g 24 j ∧ g 24 j ≤ 4) ∧ (0 ≤ g 25 j ∧ g 25 j ≤ 5) ∧ (0 ≤ g 26 j ∧ g 26 j ≤ 2) ∧ (0 ≤ g 27 j ∧ g 27 j ≤ 1)) (hvr : -2147483648 ≤ v ∧ v < 2147483648) (qo : Nat) (o : Nat → Int64) : CT l D yX0_count (wsW_ yX0_count cX0_count 4 (some .int) [((0 : Nat), (9 : Nat), (12 : Nat), (13 : Nat))]) (rmD 8 1 6) (1) (6) va_A [.ref (h 0), .int (iI v), .ref qo] ((qo, oC D o) :: (sW D h f g N M (ptW (M 6) (g 24) (g 25) (g 26) (g 27) (f 6) ++ U))) exT (pI fun k_ w => ∃ (z : Int) (o' : Nat → Int64), ((k_ = 0 ∧ (fun (z : Int) (_ : va_W) => (0 ≤ v ∧ v ≤ 4) ∧ z = if v = 0 then f 0 else if v = 1 then f 1 else if v = 2 then f 7 else if v = 3 then ndc (g 27) (f 6) else f 9) z [] ∧ o' 0 = (iI z).toInt64) ∨ (k_ = 1 ∧ (fun (E : String) (_ : Nat) (w : va_W) => E = EN ∧ ¬ (0 ≤ v ∧ v ≤ 4) ∧ w = []) EN 0 [])) ∧ w = (qo, oC D o') :: (sW D h f g N M (ptW (M 6) (g 24) (g 25) (g 26) (g 27) (f 6) ++ U))) xN := by
  refine ct_HU (lv := [(0, .ref (h 0)), (1, .int (iI v)), (2, .ref qo)]) RX0 (by decide) rfl rfl hst (Nat.le_of_ble_eq_true rfl) rfl ?_
  intro p e s mm args below meth c A C htab hex
  refine g_aload_n C dX0_count_0 rfl 2 rfl ?_
  refine g_iconst C dX0_count_1 ?_
  refine g_aload_n C dX0_count_2 rfl 0 rfl ?_
  refine g_iload_n C dX0_count_3 rfl 1 rfl ?_
  refine g_callVR C (c_X1_count l D C.hl h f g N M U v hnp hN6 hpt hvr) (As := [.int (iI v)]) (n := 1) (lw_V q973 q974 q975 q48 q976) (by decide +kernel) rfl rfl ⟨Nat.le_of_ble_eq_true rfl, Nat.le_of_ble_eq_true rfl⟩ (rcv C 1 (ci := 1) rfl rfl rfl) rfl rfl (Nat.le_of_ble_eq_true rfl) ⟨Nat.le_of_ble_eq_true rfl, Nat.le_of_ble_eq_true rfl⟩ dX0_count_4 (Sb.rt (a := [(qo, oC D o)])) exT_b hex_t (fun v w hp => ?_) (fun E q w hp => ?_)
  · obtain ⟨z, rfl, hp⟩ := hp
    refine g_i2l C dX0_count_7 rfl ?_
    refine g_last C 0 (ws' := (qo, oC D (vp_updL o 0 (iI z).toInt64)) :: (sW D h f g N M (ptW (M 6) (g 24) (g 25) (g 26) (g 27) (f 6) ++ U))) rfl (by omega) (by decide) rfl dX0_count_8 ?_
    refine g_goto C (tgt := 15) dX0_count_9 (by decide) ?_
    refine g_iconst C dX0_count_15 ?_
    exact g_iret C dX0_count_16 rfl (Nat.le_of_ble_eq_true rfl) (Nat.le_of_ble_eq_true rfl) ⟨0, rfl, z, _, Or.inl ⟨rfl, hp, rfl⟩, rfl⟩
  · obtain ⟨rfl, hp, -⟩ := hp
    refine x_catch C (name := EN) [] ⟨0, 9, 12, 13⟩ [] htab (fun z hz => nomatch hz) rfl (by decide) q664 (by decide) ?_
    refine g_astore_n C dX0_count_12 rfl (lv' := [(0, .ref (h 0)), (1, .int (iI v)), (2, .ref qo), (3, .ref q)]) [1, 2, 3, 0] rfl (Nat.le_of_ble_eq_true rfl) ?_
    refine g_iconst C dX0_count_13 ?_
    exact g_iret C dX0_count_14 rfl (Nat.le_of_ble_eq_true rfl) (Nat.le_of_ble_eq_true rfl) ⟨1, rfl, 0, o, Or.inr ⟨rfl, rfl, hp, rfl⟩, rfl⟩
