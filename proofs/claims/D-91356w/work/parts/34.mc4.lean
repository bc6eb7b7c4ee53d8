/-! ===== contracts of the model: the book's public methods ===== -/
def sm_book (f : Nat → Int) (g : Nat → Int → Int) (a b : Int) (z : Int) (f' : Nat → Int) (g' : Nat → Int → Int) : Prop :=
  ((¬ (1 ≤ a ∧ a ≤ 5 ∧ 2 ≤ b ∧ b ≤ 6)) ∧ z = 0 ∧ f' = (up f 1 0) ∧ g' = g) ∨
  ((1 ≤ a ∧ a ≤ 5 ∧ 2 ≤ b ∧ b ≤ 6) ∧ z = 1 ∧ ∃ np : Int, ∃ x14 : Int → Int, ∃ x15 : Int → Int, ∃ x16 : Int → Int, ∃ x17 : Int → Int, (PA (paL b.toNat (fun _ => 0) a.toNat) np x14 x15 x16 x17) ∧ f' = (up (up (up (up (up (up (up f 1 0) 2 a) 3 b) 4 1) 7 0) 8 np) 9 0) ∧ g' = (ug (ug (ug (ug (ug (ug (ug g 10 (fun _ => 10)) 11 (fun j => 20 * j)) 12 (fun _ => 0)) 14 x14) 15 x15) 16 x16) 17 x17))
def sm_thick (f : Nat → Int) (g : Nat → Int → Int) (a v : Int) (z : Int) (f' : Nat → Int) (g' : Nat → Int → Int) : Prop :=
  ((¬ (0 ≤ a ∧ a < f 2)) ∧ z = 0 ∧ f' = (up f 1 1) ∧ g' = g) ∨
  (((0 ≤ a ∧ a < f 2) ∧ (0 < f 7 ∨ v < 1 ∨ 50 < v)) ∧ z = 0 ∧ f' = (up f 1 0) ∧ g' = g) ∨
  (((0 ≤ a ∧ a < f 2) ∧ f 7 = 0 ∧ 1 ≤ v ∧ v ≤ 50) ∧ z = 1 ∧ f' = (up f 1 0) ∧ g' = (ug g 10 (uI (g 10) a v)))
def sm_thread (f : Nat → Int) (g : Nat → Int → Int) (v : Int) (z : Int) (f' : Nat → Int) (g' : Nat → Int → Int) : Prop :=
  ((0 < f 7 ∨ v < 0 ∨ 9 < v) ∧ z = 0 ∧ f' = (up f 1 0) ∧ g' = g) ∨
  ((f 7 = 0 ∧ 0 ≤ v ∧ v ≤ 9) ∧ z = 1 ∧ f' = (up (up f 1 0) 4 v) ∧ g' = g)
def sm_heights (f : Nat → Int) (g : Nat → Int → Int) (lo hi : Int) (z : Int) (f' : Nat → Int) (g' : Nat → Int → Int) : Prop :=
  ((¬ (f 7 = 0 ∧ hok (f 3) lo hi)) ∧ z = 0 ∧ f' = (up f 1 0) ∧ g' = g) ∨
  ((f 7 = 0 ∧ hok (f 3) lo hi) ∧ z = 1 ∧ f' = (up f 1 0) ∧ g' = (ug g 11 (hup (f 3) lo hi (g 11))))
def sm_kind (f : Nat → Int) (g : Nat → Int → Int) (a v : Int) (z : Int) (f' : Nat → Int) (g' : Nat → Int → Int) : Prop :=
  ((¬ (0 ≤ a ∧ a < f 3)) ∧ z = 0 ∧ f' = (up f 1 1) ∧ g' = g) ∨
  (((0 ≤ a ∧ a < f 3) ∧ (0 < f 7 ∨ v < 0 ∨ 3 < v)) ∧ z = 0 ∧ f' = (up f 1 0) ∧ g' = g) ∨
  (((0 ≤ a ∧ a < f 3) ∧ f 7 = 0 ∧ 0 ≤ v ∧ v ≤ 3) ∧ z = 1 ∧ ∃ np : Int, ∃ x14 : Int → Int, ∃ x15 : Int → Int, ∃ x16 : Int → Int, ∃ x17 : Int → Int, (PA (paL (f 3).toNat (uI (g 12) a v) (f 2).toNat) np x14 x15 x16 x17) ∧ f' = (up (up f 1 0) 8 np) ∧ g' = (ug (ug (ug (ug (ug g 12 (uI (g 12) a v)) 14 x14) 15 x15) 16 x16) 17 x17))
def sm_part (f : Nat → Int) (g : Nat → Int → Int) (a v : Int) (z : Int) (f' : Nat → Int) (g' : Nat → Int → Int) : Prop :=
  ((¬ ((0 ≤ a ∧ a < f 8) ∧ 0 ≤ v ∧ v ≤ 3)) ∧ z = 0 ∧ f' = (up f 1 1) ∧ g' = g) ∨
  (((0 ≤ a ∧ a < f 8) ∧ v = 0) ∧ z = g 14 a ∧ f' = (up f 1 0) ∧ g' = g) ∨
  (((0 ≤ a ∧ a < f 8) ∧ v = 1) ∧ z = g 15 a ∧ f' = (up f 1 0) ∧ g' = g) ∨
  (((0 ≤ a ∧ a < f 8) ∧ v = 2) ∧ z = g 16 a ∧ f' = (up f 1 0) ∧ g' = g) ∨
  (((0 ≤ a ∧ a < f 8) ∧ v = 3) ∧ z = g 17 a ∧ f' = (up f 1 0) ∧ g' = g)
def sm_need (f : Nat → Int) (g : Nat → Int → Int) (a v : Int) (z : Int) (f' : Nat → Int) (g' : Nat → Int → Int) : Prop :=
  ((¬ (0 ≤ a ∧ a < f 8)) ∧ z = 0 ∧ f' = (up f 1 1) ∧ g' = g) ∨
  ((0 ≤ a ∧ a < f 8) ∧ z = g 17 a ∧ f' = (up f 1 0) ∧ g' = (ug g 17 (uI (g 17) a v)))
def sm_feed (f : Nat → Int) (g : Nat → Int → Int) (a b c_ d_ e_ : Int) (z : Int) (f' : Nat → Int) (g' : Nat → Int → Int) : Prop :=
  ((380 < f 5) ∧ z = -1 ∧ f' = (up f 1 0) ∧ g' = g) ∨
  ((f 5 ≤ 380) ∧ z = f 5 + 20 ∧ f' = (up (up f 1 0) 5 (f 5 + 20)) ∧ g' = (ug g 13 (fdt (f 5) a b c_ d_ e_ 20 (g 13))))
section MC4
set_option maxHeartbeats 4000000 in
set_option maxRecDepth 100000 in
theorem c_X3_book (l : Launch) (D : va_G) (hst : l.stackTraces = false) (h : Nat → Nat) (f : Nat → Int) (g : Nat → Int → Int) (a b : Int) (har : -2147483648 ≤ a ∧ a < 2147483648) (hbr : -2147483648 ≤ b ∧ b < 2147483648) : CT l D yX3_book (ws_ yX3_book cX3_book 3 (some .boolean)) (rmD 3 0 0) (0) (0) va_A [.ref (h 36), .int (iI a), .int (iI b)] (mW D h f g) exT (pI fun z w => ∃ f' g', sm_book f g a b z f' g' ∧ w = mW D h f' g') xN := by
  refine ct_U (lv := [(0, .ref (h 36)), (1, .int (iI a)), (2, .int (iI b))]) RX3 (by decide) rfl rfl hst (Nat.le_of_ble_eq_true rfl) rfl ?_
  intro p e s mm args below meth c A C htab hex hnm
  refine g_aload_n C dX3_book_0 rfl 0 rfl ?_
  refine g_iconst C dX3_book_1 ?_
  refine gm_put1 C (f' := (up f 1 0)) rfl dX3_book_2 ?_
  refine g_iload_n C dX3_book_5 rfl 1 rfl ?_
  refine g_iconst C dX3_book_6 ?_
  refine g_icmp_lt C (tgt := 26) dX3_book_7 (by decide) (by omega) (by omega) (fun hc7_1 => ?_) (fun hc7_1 => ?_)
  ·
    refine g_iconst C dX3_book_26 ?_
    exact g_iret C dX3_book_27 rfl (Nat.le_of_ble_eq_true rfl) (Nat.le_of_ble_eq_true rfl) ⟨_, rfl, _, _, (Or.inl ⟨by omega, rfl, rfl, rfl⟩), rfl⟩
  ·
    refine g_iload_n C dX3_book_10 rfl 1 rfl ?_
    refine g_iconst C dX3_book_11 ?_
    refine g_icmp_gt C (tgt := 26) dX3_book_12 (by decide) (by omega) (by omega) (fun hc12_2 => ?_) (fun hc12_2 => ?_)
    ·
      refine g_iconst C dX3_book_26 ?_
      exact g_iret C dX3_book_27 rfl (Nat.le_of_ble_eq_true rfl) (Nat.le_of_ble_eq_true rfl) ⟨_, rfl, _, _, (Or.inl ⟨by omega, rfl, rfl, rfl⟩), rfl⟩
    ·
      refine g_iload_n C dX3_book_15 rfl 2 rfl ?_
      refine g_iconst C dX3_book_16 ?_
      refine g_icmp_lt C (tgt := 26) dX3_book_17 (by decide) (by omega) (by omega) (fun hc17_3 => ?_) (fun hc17_3 => ?_)
      ·
        refine g_iconst C dX3_book_26 ?_
        exact g_iret C dX3_book_27 rfl (Nat.le_of_ble_eq_true rfl) (Nat.le_of_ble_eq_true rfl) ⟨_, rfl, _, _, (Or.inl ⟨by omega, rfl, rfl, rfl⟩), rfl⟩
      ·
        refine g_iload_n C dX3_book_20 rfl 2 rfl ?_
        refine g_bipush C dX3_book_21 (z := 6) rfl ?_
        refine g_icmp_le C (tgt := 28) dX3_book_23 (by decide) (by omega) (by omega) (fun hc23_4 => ?_) (fun hc23_4 => ?_)
        ·
          refine g_aload_n C dX3_book_28 rfl 0 rfl ?_
          refine g_iload_n C dX3_book_29 rfl 1 rfl ?_
          refine g_iload_n C dX3_book_30 rfl 2 rfl ?_
          refine kX3_X3_begin a b C (by omega) (by omega) ⟨Nat.le_of_ble_eq_true rfl, Nat.le_of_ble_eq_true rfl⟩ (Nat.le_of_ble_eq_true rfl) ⟨Nat.le_of_ble_eq_true rfl, Nat.le_of_ble_eq_true rfl⟩ dX3_book_31 ?_
          intro np_5 x14_6 x15_7 x16_8 x17_9 hPA_10
          refine g_ws (ws' := mW D h (up (up (up (up (up (up (up f 1 0) 2 a) 3 b) 4 1) 7 0) 8 np_5) 9 0) (ug (ug (ug (ug (ug (ug (ug g 10 (fun _ => 10)) 11 (fun j => 20 * j)) 12 (fun _ => 0)) 14 x14_6) 15 x15_7) 16 x16_8) 17 x17_9)) rfl ?_
          have hPA_10 : PA (paL b.toNat (fun _ => 0) a.toNat) np_5 x14_6 x15_7 x16_8 x17_9 := hPA_10
          refine g_iconst C dX3_book_34 ?_
          exact g_iret C dX3_book_35 rfl (Nat.le_of_ble_eq_true rfl) (Nat.le_of_ble_eq_true rfl) ⟨_, rfl, _, _, (Or.inr (⟨by omega, rfl, np_5, x14_6, x15_7, x16_8, x17_9, hPA_10, rfl, rfl⟩)), rfl⟩
        ·
          refine g_iconst C dX3_book_26 ?_
          exact g_iret C dX3_book_27 rfl (Nat.le_of_ble_eq_true rfl) (Nat.le_of_ble_eq_true rfl) ⟨_, rfl, _, _, (Or.inl ⟨by omega, rfl, rfl, rfl⟩), rfl⟩

set_option maxHeartbeats 4000000 in
set_option maxRecDepth 100000 in
theorem c_X3_thick (l : Launch) (D : va_G) (hst : l.stackTraces = false) (h : Nat → Nat) (f : Nat → Int) (g : Nat → Int → Int) (a v : Int) (hF : 1 ≤ f 2 ∧ f 2 ≤ 5) (hpl : 0 ≤ f 7 ∧ f 7 ≤ 8) (har : -2147483648 ≤ a ∧ a < 2147483648) (hvr : -2147483648 ≤ v ∧ v < 2147483648) : CT l D yX3_thick (ws_ yX3_thick cX3_thick 3 (some .boolean)) (rmD 1 0 0) (0) (0) va_A [.ref (h 36), .int (iI a), .int (iI v)] (mW D h f g) exT (pI fun z w => ∃ f' g', sm_thick f g a v z f' g' ∧ w = mW D h f' g') xN := by
  refine ct_U (lv := [(0, .ref (h 36)), (1, .int (iI a)), (2, .int (iI v))]) RX3 (by decide) rfl rfl hst (Nat.le_of_ble_eq_true rfl) rfl ?_
  intro p e s mm args below meth c A C htab hex hnm
  refine g_aload_n C dX3_thick_0 rfl 0 rfl ?_
  refine g_iconst C dX3_thick_1 ?_
  refine gm_put1 C (f' := (up f 1 0)) rfl dX3_thick_2 ?_
  refine g_aload_n C dX3_thick_5 rfl 0 rfl ?_
  refine g_iload_n C dX3_thick_6 rfl 1 rfl ?_
  refine kX3_X3_isFold a C hF (by omega) ⟨Nat.le_of_ble_eq_true rfl, Nat.le_of_ble_eq_true rfl⟩ (Nat.le_of_ble_eq_true rfl) ⟨Nat.le_of_ble_eq_true rfl, Nat.le_of_ble_eq_true rfl⟩ (rv := bI (decide (0 ≤ a ∧ a < f 2))) rfl dX3_thick_7 ?_
  refine g_if_ne C (tgt := 19) dX3_thick_10 (by decide) (by have := bI_rg (decide (0 ≤ a ∧ a < f 2)); omega) (fun hc10_1 => ?_) (fun hc10_1 => ?_)
  ·
    have hc10_1b : 0 ≤ a ∧ a < f 2 := of_decide_eq_true (bI_1.mp (by have := bI_rg (decide (0 ≤ a ∧ a < f 2)); omega))
    refine g_aload_n C dX3_thick_19 rfl 0 rfl ?_
    refine gm_get7 C (v := f 7) rfl dX3_thick_20 ?_
    refine g_if_gt C (tgt := 37) dX3_thick_23 (by decide) (by omega) (fun hc23_2 => ?_) (fun hc23_2 => ?_)
    ·
      refine g_iconst C dX3_thick_37 ?_
      exact g_iret C dX3_thick_38 rfl (Nat.le_of_ble_eq_true rfl) (Nat.le_of_ble_eq_true rfl) ⟨_, rfl, _, _, (Or.inr (Or.inl ⟨by omega, rfl, rfl, rfl⟩)), rfl⟩
    ·
      refine g_iload_n C dX3_thick_26 rfl 2 rfl ?_
      refine g_iconst C dX3_thick_27 ?_
      refine g_icmp_lt C (tgt := 37) dX3_thick_28 (by decide) (by omega) (by omega) (fun hc28_3 => ?_) (fun hc28_3 => ?_)
      ·
        refine g_iconst C dX3_thick_37 ?_
        exact g_iret C dX3_thick_38 rfl (Nat.le_of_ble_eq_true rfl) (Nat.le_of_ble_eq_true rfl) ⟨_, rfl, _, _, (Or.inr (Or.inl ⟨by omega, rfl, rfl, rfl⟩)), rfl⟩
      ·
        refine g_iload_n C dX3_thick_31 rfl 2 rfl ?_
        refine g_bipush C dX3_thick_32 (z := 50) rfl ?_
        refine g_icmp_le C (tgt := 39) dX3_thick_34 (by decide) (by omega) (by omega) (fun hc34_4 => ?_) (fun hc34_4 => ?_)
        ·
          refine g_aload_n C dX3_thick_39 rfl 0 rfl ?_
          refine gm_get10 C dX3_thick_40 ?_
          refine g_iload_n C dX3_thick_43 rfl 1 rfl ?_
          refine g_iload_n C dX3_thick_44 rfl 2 rfl ?_
          refine gm_ast10 C (g' := (ug g 10 (uI (g 10) a v))) rfl dX3_thick_45 (by omega) ?_
          refine g_iconst C dX3_thick_46 ?_
          exact g_iret C dX3_thick_47 rfl (Nat.le_of_ble_eq_true rfl) (Nat.le_of_ble_eq_true rfl) ⟨_, rfl, _, _, (Or.inr (Or.inr (⟨by omega, rfl, rfl, rfl⟩))), rfl⟩
        ·
          refine g_iconst C dX3_thick_37 ?_
          exact g_iret C dX3_thick_38 rfl (Nat.le_of_ble_eq_true rfl) (Nat.le_of_ble_eq_true rfl) ⟨_, rfl, _, _, (Or.inr (Or.inl ⟨by omega, rfl, rfl, rfl⟩)), rfl⟩
  ·
    have hc10_1b : ¬ (0 ≤ a ∧ a < f 2) := of_decide_eq_false (bI_0.mp (by have := bI_rg (decide (0 ≤ a ∧ a < f 2)); omega))
    refine g_aload_n C dX3_thick_13 rfl 0 rfl ?_
    refine g_iconst C dX3_thick_14 ?_
    refine kX3_X3_refuse 1 C  ⟨Nat.le_of_ble_eq_true rfl, Nat.le_of_ble_eq_true rfl⟩ (Nat.le_of_ble_eq_true rfl) ⟨Nat.le_of_ble_eq_true rfl, Nat.le_of_ble_eq_true rfl⟩ dX3_thick_15 ?_
    refine g_ws (ws' := mW D h (up f 1 1) g) rfl ?_
    exact g_iret C dX3_thick_18 rfl (Nat.le_of_ble_eq_true rfl) (Nat.le_of_ble_eq_true rfl) ⟨_, rfl, _, _, (Or.inl ⟨by omega, rfl, rfl, rfl⟩), rfl⟩

set_option maxHeartbeats 4000000 in
set_option maxRecDepth 100000 in
theorem c_X3_thread (l : Launch) (D : va_G) (hst : l.stackTraces = false) (h : Nat → Nat) (f : Nat → Int) (g : Nat → Int → Int) (v : Int) (hpl : 0 ≤ f 7 ∧ f 7 ≤ 8) (hvr : -2147483648 ≤ v ∧ v < 2147483648) : CT l D yX3_thread (ws_ yX3_thread cX3_thread 2 (some .boolean)) (rmD 0 0 0) (0) (0) va_A [.ref (h 36), .int (iI v)] (mW D h f g) exT (pI fun z w => ∃ f' g', sm_thread f g v z f' g' ∧ w = mW D h f' g') xN := by
  refine ct_U (lv := [(0, .ref (h 36)), (1, .int (iI v))]) RX3 (by decide) rfl rfl hst (Nat.le_of_ble_eq_true rfl) rfl ?_
  intro p e s mm args below meth c A C htab hex hnm
  refine g_aload_n C dX3_thread_0 rfl 0 rfl ?_
  refine g_iconst C dX3_thread_1 ?_
  refine gm_put1 C (f' := (up f 1 0)) rfl dX3_thread_2 ?_
  refine g_aload_n C dX3_thread_5 rfl 0 rfl ?_
  refine gm_get7 C (v := f 7) rfl dX3_thread_6 ?_
  refine g_if_gt C (tgt := 22) dX3_thread_9 (by decide) (by omega) (fun hc9_1 => ?_) (fun hc9_1 => ?_)
  ·
    refine g_iconst C dX3_thread_22 ?_
    exact g_iret C dX3_thread_23 rfl (Nat.le_of_ble_eq_true rfl) (Nat.le_of_ble_eq_true rfl) ⟨_, rfl, _, _, (Or.inl ⟨by omega, rfl, rfl, rfl⟩), rfl⟩
  ·
    refine g_iload_n C dX3_thread_12 rfl 1 rfl ?_
    refine g_if_lt C (tgt := 22) dX3_thread_13 (by decide) (by omega) (fun hc13_2 => ?_) (fun hc13_2 => ?_)
    ·
      refine g_iconst C dX3_thread_22 ?_
      exact g_iret C dX3_thread_23 rfl (Nat.le_of_ble_eq_true rfl) (Nat.le_of_ble_eq_true rfl) ⟨_, rfl, _, _, (Or.inl ⟨by omega, rfl, rfl, rfl⟩), rfl⟩
    ·
      refine g_iload_n C dX3_thread_16 rfl 1 rfl ?_
      refine g_bipush C dX3_thread_17 (z := 9) rfl ?_
      refine g_icmp_le C (tgt := 24) dX3_thread_19 (by decide) (by omega) (by omega) (fun hc19_3 => ?_) (fun hc19_3 => ?_)
      ·
        refine g_aload_n C dX3_thread_24 rfl 0 rfl ?_
        refine g_iload_n C dX3_thread_25 rfl 1 rfl ?_
        refine gm_put4 C (f' := (up (up f 1 0) 4 v)) rfl dX3_thread_26 ?_
        refine g_iconst C dX3_thread_29 ?_
        exact g_iret C dX3_thread_30 rfl (Nat.le_of_ble_eq_true rfl) (Nat.le_of_ble_eq_true rfl) ⟨_, rfl, _, _, (Or.inr (⟨by omega, rfl, rfl, rfl⟩)), rfl⟩
      ·
        refine g_iconst C dX3_thread_22 ?_
        exact g_iret C dX3_thread_23 rfl (Nat.le_of_ble_eq_true rfl) (Nat.le_of_ble_eq_true rfl) ⟨_, rfl, _, _, (Or.inl ⟨by omega, rfl, rfl, rfl⟩), rfl⟩

set_option maxHeartbeats 4000000 in
set_option maxRecDepth 100000 in
theorem c_X3_heights (l : Launch) (D : va_G) (hst : l.stackTraces = false) (h : Nat → Nat) (f : Nat → Int) (g : Nat → Int → Int) (lo hi : Int) (hS : 2 ≤ f 3 ∧ f 3 ≤ 6) (hpl : 0 ≤ f 7 ∧ f 7 ≤ 8) (hlor : -2147483648 ≤ lo ∧ lo < 2147483648) (hhir : -2147483648 ≤ hi ∧ hi < 2147483648) : CT l D yX3_heights (ws_ yX3_heights cX3_heights 6 (some .boolean)) (rmD 0 0 0) (0) (0) va_A [.ref (h 36), .int (iI lo), .int (iI hi)] (mW D h f g) exT (pI fun z w => ∃ f' g', sm_heights f g lo hi z f' g' ∧ w = mW D h f' g') xN := by
  refine ct_U (lv := [(0, .ref (h 36)), (1, .int (iI lo)), (2, .int (iI hi))]) RX3 (by decide) rfl rfl hst (Nat.le_of_ble_eq_true rfl) rfl ?_
  intro p e s mm args below meth c A C htab hex hnm
  refine g_aload_n C dX3_heights_0 rfl 0 rfl ?_
  refine g_iconst C dX3_heights_1 ?_
  refine gm_put1 C (f' := (up f 1 0)) rfl dX3_heights_2 ?_
  refine g_iconst C dX3_heights_5 ?_
  refine g_istore_n C dX3_heights_6 rfl (lv' := [(0, .ref (h 36)), (1, .int (iI lo)), (2, .int (iI hi)), (3, .int (iI (-1)))]) [1, 2, 3, 0] rfl (Nat.le_of_ble_eq_true rfl) ?_
  refine g_iconst C dX3_heights_7 ?_
  refine g_istore C dX3_heights_8 (lv' := [(0, .ref (h 36)), (1, .int (iI lo)), (2, .int (iI hi)), (3, .int (iI (-1))), (4, .int (iI 0))]) [1, 2, 3, 4, 0] rfl (Nat.le_of_ble_eq_true rfl) ?_
  have L1 : ∀ (n : Nat) (k : Int) (ws_ : Int), (0 ≤ k ∧ k ≤ f 3) → (ws_ = if k = 0 then -1 else hgt lo hi (k - 1)) → (hok k lo hi) → (f 3 - k).toNat < n → GO p l e (rmD 0 0 0) s mm args below meth c 6 D A A 0 0 (MX below D A (pI fun z w => ∃ f' g', sm_heights f g lo hi z f' g' ∧ w = mW D h f' g') xN args s (0) (0)) (mW D h (up f 1 0) g) 10 [(0, .ref (h 36)), (1, .int (iI lo)), (2, .int (iI hi)), (3, .int (iI ws_)), (4, .int (iI k))] [] := by
    intro n
    induction n with
    | zero => intro k ws_ hk hw hok1 hm; exact absurd hm (Nat.not_lt_zero _)
    | succ n ih1 =>
      intro k ws_ hk hw hok1 hm1
      have hwr : -1 ≤ ws_ ∧ ws_ ≤ 511 := by rw [hw]; have := hgt_rg lo hi (k - 1); split <;> omega
      refine g_iload C dX3_heights_10 4 rfl ?_
      refine g_aload_n C dX3_heights_12 rfl 0 rfl ?_
      refine gm_get3 C (v := f 3) rfl dX3_heights_13 ?_
      refine g_icmp_ge C (tgt := 69) dX3_heights_16 (by decide) (by omega) (by omega) (fun hc16_2 => ?_) (fun hc16_2 => ?_)
      ·
        have hok1 : hok (f 3) lo hi := (show f 3 = k by omega) ▸ hok1
        refine g_aload_n C dX3_heights_69 rfl 0 rfl ?_
        refine gm_get7 C (v := f 7) rfl dX3_heights_70 ?_
        refine g_if_le C (tgt := 78) dX3_heights_73 (by decide) (by omega) (fun hc73_3 => ?_) (fun hc73_3 => ?_)
        ·
          refine g_iconst C dX3_heights_78 ?_
          refine g_istore C dX3_heights_79 (lv' := [(0, .ref (h 36)), (1, .int (iI lo)), (2, .int (iI hi)), (3, .int (iI ws_)), (4, .int (iI 0))]) [1, 2, 3, 4, 0] rfl (Nat.le_of_ble_eq_true rfl) ?_
          have L4 : ∀ (n : Nat) (k : Int) (y11 : Int → Int), (0 ≤ k ∧ k ≤ f 3) → (∀ j, y11 j = if 0 ≤ j ∧ j < k then hgt lo hi j else g 11 j) → (f 3 - k).toNat < n → GO p l e (rmD 0 0 0) s mm args below meth c 6 D A A 0 0 (MX below D A (pI fun z w => ∃ f' g', sm_heights f g lo hi z f' g' ∧ w = mW D h f' g') xN args s (0) (0)) (mW D h (up f 1 0) (ug g 11 y11)) 81 [(0, .ref (h 36)), (1, .int (iI lo)), (2, .int (iI hi)), (4, .int (iI k))] [] := by
            intro n
            induction n with
            | zero => intro k y11 hk h11 hm; exact absurd hm (Nat.not_lt_zero _)
            | succ n ih4 =>
              intro k y11 hk h11 hm4
              refine g_iload C dX3_heights_81 3 rfl ?_
              refine g_aload_n C dX3_heights_83 rfl 0 rfl ?_
              refine gm_get3 C (v := f 3) rfl dX3_heights_84 ?_
              refine g_icmp_ge C (tgt := 126) dX3_heights_87 (by decide) (by omega) (by omega) (fun hc87_5 => ?_) (fun hc87_5 => ?_)
              ·
                refine gm_con11 (x := hup (f 3) lo hi (g 11)) (g' := (ug g 11 (hup (f 3) lo hi (g 11)))) (fun j _ _ => (h11 j).trans (by rw [show k = f 3 by omega]; rfl)) rfl ?_
                refine g_iconst C dX3_heights_126 ?_
                exact g_iret C dX3_heights_127 rfl (Nat.le_of_ble_eq_true rfl) (Nat.le_of_ble_eq_true rfl) ⟨_, rfl, _, _, (Or.inr (⟨⟨by omega, hok1⟩, rfl, rfl, rfl⟩)), rfl⟩
              ·
                refine g_aload_n C dX3_heights_90 rfl 0 rfl ?_
                refine gm_get11 C dX3_heights_91 ?_
                refine g_iload C dX3_heights_94 3 rfl ?_
                have J6 : ∀ (xv : Int), (xv = if k < 3 then lo else hi) → GO p l e (rmD 0 0 0) s mm args below meth c 6 D A A 0 0 (MX below D A (pI fun z w => ∃ f' g', sm_heights f g lo hi z f' g' ∧ w = mW D h f' g') xN args s (0) (0)) (mW D h (up f 1 0) (ug g 11 y11)) 107 [(0, .ref (h 36)), (1, .int (iI lo)), (2, .int (iI hi)), (4, .int (iI k))] [.int (iI xv), .int (iI k), .ref (h 11)] := by
                  intro xv hxv
                  refine g_bipush C dX3_heights_107 (z := 9) rfl ?_
                  refine g_iload C dX3_heights_109 3 rfl ?_
                  refine g_iconst C dX3_heights_111 ?_
                  refine g_irem C dX3_heights_112 (by omega) (by omega) ?_
                  refine g_imul C dX3_heights_113 ?_
                  refine g_ishr C dX3_heights_114 (z := shrI xv (9 * (k % 3))) (iI_of _).symm ?_
                  refine g_sipush C dX3_heights_115 (z := 511) rfl ?_
                  refine g_iand C dX3_heights_118 (z := andI (shrI xv (9 * (k % 3))) 511) (iI_of _).symm ?_
                  refine gm_ast11 C (g' := (ug g 11 (uI y11 k (andI (shrI xv (9 * (k % 3))) 511)))) rfl dX3_heights_119 (by omega) ?_
                  refine g_iinc C dX3_heights_120 3 rfl (lv' := [(0, .ref (h 36)), (1, .int (iI lo)), (2, .int (iI hi)), (4, .int (iI (k + 1)))]) [1, 2, 3, 0] rfl (Nat.le_of_ble_eq_true rfl) ?_
                  refine g_goto C (tgt := 81) dX3_heights_123 (by decide) ?_
                  exact ih4 (k + 1) (uI y11 k (andI (shrI xv (9 * (k % 3))) 511)) (by omega) (hup_s h11 (by omega) (by unfold hgt; rw [hxv])) (by omega)
                refine g_iload C dX3_heights_96 3 rfl ?_
                refine g_iconst C dX3_heights_98 ?_
                refine g_icmp_ge C (tgt := 106) dX3_heights_99 (by decide) (by omega) (by omega) (fun hc99_7 => ?_) (fun hc99_7 => ?_)
                ·
                  refine g_iload_n C dX3_heights_106 rfl 2 rfl ?_
                  exact J6 hi (by split <;> omega)
                ·
                  refine g_iload_n C dX3_heights_102 rfl 1 rfl ?_
                  refine g_goto C (tgt := 107) dX3_heights_103 (by decide) ?_
                  exact J6 lo (by split <;> omega)
          refine g_lv [0, 1, 2, 4] rfl ?_
          exact L4 _ 0 (g 11) (by omega) (fun j => by rw [if_neg (by omega)]) (Nat.lt_succ_self _)
        ·
          refine g_iconst C dX3_heights_76 ?_
          exact g_iret C dX3_heights_77 rfl (Nat.le_of_ble_eq_true rfl) (Nat.le_of_ble_eq_true rfl) ⟨_, rfl, _, _, (Or.inl ⟨by omega, rfl, rfl, rfl⟩), rfl⟩
      ·
        have J8 : ∀ (xv : Int), (xv = if k < 3 then lo else hi) → GO p l e (rmD 0 0 0) s mm args below meth c 6 D A A 0 0 (MX below D A (pI fun z w => ∃ f' g', sm_heights f g lo hi z f' g' ∧ w = mW D h f' g') xN args s (0) (0)) (mW D h (up f 1 0) g) 30 [(0, .ref (h 36)), (1, .int (iI lo)), (2, .int (iI hi)), (3, .int (iI ws_)), (4, .int (iI k))] [.int (iI xv)] := by
          intro xv hxv
          refine g_bipush C dX3_heights_30 (z := 9) rfl ?_
          refine g_iload C dX3_heights_32 4 rfl ?_
          refine g_iconst C dX3_heights_34 ?_
          refine g_irem C dX3_heights_35 (by omega) (by omega) ?_
          refine g_imul C dX3_heights_36 ?_
          refine g_ishr C dX3_heights_37 (z := shrI xv (9 * (k % 3))) (iI_of _).symm ?_
          refine g_sipush C dX3_heights_38 (z := 511) rfl ?_
          refine g_iand C dX3_heights_41 (z := andI (shrI xv (9 * (k % 3))) 511) (iI_of _).symm ?_
          refine g_istore C dX3_heights_42 (lv' := [(0, .ref (h 36)), (1, .int (iI lo)), (2, .int (iI hi)), (3, .int (iI ws_)), (4, .int (iI k)), (5, .int (iI (andI (shrI xv (9 * (k % 3))) 511)))]) [1, 2, 3, 4, 5, 0] rfl (Nat.le_of_ble_eq_true rfl) ?_
          have hvk : andI (shrI xv (9 * (k % 3))) 511 = hgt lo hi k := by unfold hgt; rw [hxv]
          have hvr := hgt_rg lo hi k
          refine g_iload C dX3_heights_44 5 rfl ?_
          refine g_iload_n C dX3_heights_46 rfl 3 rfl ?_
          refine g_icmp_le C (tgt := 58) dX3_heights_47 (by decide) (by omega) (by omega) (fun hc47_9 => ?_) (fun hc47_9 => ?_)
          ·
            refine g_iconst C dX3_heights_58 ?_
            exact g_iret C dX3_heights_59 rfl (Nat.le_of_ble_eq_true rfl) (Nat.le_of_ble_eq_true rfl) ⟨_, rfl, _, _, (Or.inl ⟨(fun q => hok_b hw hvk (by omega) (q.2 k (by omega) (by omega))), rfl, rfl, rfl⟩), rfl⟩
          ·
            refine g_iload C dX3_heights_50 5 rfl ?_
            refine g_sipush C dX3_heights_52 (z := 400) rfl ?_
            refine g_icmp_le C (tgt := 60) dX3_heights_55 (by decide) (by omega) (by omega) (fun hc55_10 => ?_) (fun hc55_10 => ?_)
            ·
              refine g_iload C dX3_heights_60 5 rfl ?_
              refine g_istore_n C dX3_heights_62 rfl (lv' := [(0, .ref (h 36)), (1, .int (iI lo)), (2, .int (iI hi)), (3, .int (iI (andI (shrI xv (9 * (k % 3))) 511))), (4, .int (iI k)), (5, .int (iI (andI (shrI xv (9 * (k % 3))) 511)))]) [1, 2, 3, 0, 4, 5] rfl (Nat.le_of_ble_eq_true rfl) ?_
              refine g_iinc C dX3_heights_63 4 rfl (lv' := [(0, .ref (h 36)), (1, .int (iI lo)), (2, .int (iI hi)), (3, .int (iI (andI (shrI xv (9 * (k % 3))) 511))), (4, .int (iI (k + 1))), (5, .int (iI (andI (shrI xv (9 * (k % 3))) 511)))]) [1, 2, 3, 4, 0, 5] rfl (Nat.le_of_ble_eq_true rfl) ?_
              refine g_goto C (tgt := 10) dX3_heights_66 (by decide) ?_
              refine g_lv [0, 1, 2, 3, 4] rfl ?_
              exact ih1 (k + 1) (andI (shrI xv (9 * (k % 3))) 511) (by omega) (by rw [hvk, if_neg (by omega), show k + 1 - 1 = k by omega]) (hok_s hok1 (hok_p hw hvk (by omega) (by omega))) (by omega)
            ·
              refine g_iconst C dX3_heights_58 ?_
              exact g_iret C dX3_heights_59 rfl (Nat.le_of_ble_eq_true rfl) (Nat.le_of_ble_eq_true rfl) ⟨_, rfl, _, _, (Or.inl ⟨(fun q => hok_b hw hvk (by omega) (q.2 k (by omega) (by omega))), rfl, rfl, rfl⟩), rfl⟩
        refine g_iload C dX3_heights_19 4 rfl ?_
        refine g_iconst C dX3_heights_21 ?_
        refine g_icmp_ge C (tgt := 29) dX3_heights_22 (by decide) (by omega) (by omega) (fun hc22_11 => ?_) (fun hc22_11 => ?_)
        ·
          refine g_iload_n C dX3_heights_29 rfl 2 rfl ?_
          exact J8 hi (by split <;> omega)
        ·
          refine g_iload_n C dX3_heights_25 rfl 1 rfl ?_
          refine g_goto C (tgt := 30) dX3_heights_26 (by decide) ?_
          exact J8 lo (by split <;> omega)
  exact L1 _ 0 (-1) (by omega) rfl (hok_0 lo hi) (Nat.lt_succ_self _)

set_option maxHeartbeats 4000000 in
set_option maxRecDepth 100000 in
theorem c_X3_kind (l : Launch) (D : va_G) (hst : l.stackTraces = false) (h : Nat → Nat) (f : Nat → Int) (g : Nat → Int → Int) (a v : Int) (hF : 1 ≤ f 2 ∧ f 2 ≤ 5) (hS : 2 ≤ f 3 ∧ f 3 ≤ 6) (hkd : ∀ j, 0 ≤ j → j < 6 → 0 ≤ g 12 j ∧ g 12 j ≤ 3) (hpl : 0 ≤ f 7 ∧ f 7 ≤ 8) (har : -2147483648 ≤ a ∧ a < 2147483648) (hvr : -2147483648 ≤ v ∧ v < 2147483648) : CT l D yX3_kind (ws_ yX3_kind cX3_kind 3 (some .boolean)) (rmD 2 0 0) (0) (0) va_A [.ref (h 36), .int (iI a), .int (iI v)] (mW D h f g) exT (pI fun z w => ∃ f' g', sm_kind f g a v z f' g' ∧ w = mW D h f' g') xN := by
  refine ct_U (lv := [(0, .ref (h 36)), (1, .int (iI a)), (2, .int (iI v))]) RX3 (by decide) rfl rfl hst (Nat.le_of_ble_eq_true rfl) rfl ?_
  intro p e s mm args below meth c A C htab hex hnm
  refine g_aload_n C dX3_kind_0 rfl 0 rfl ?_
  refine g_iconst C dX3_kind_1 ?_
  refine gm_put1 C (f' := (up f 1 0)) rfl dX3_kind_2 ?_
  refine g_aload_n C dX3_kind_5 rfl 0 rfl ?_
  refine g_iload_n C dX3_kind_6 rfl 1 rfl ?_
  refine kX3_X3_isStation a C hS (by omega) ⟨Nat.le_of_ble_eq_true rfl, Nat.le_of_ble_eq_true rfl⟩ (Nat.le_of_ble_eq_true rfl) ⟨Nat.le_of_ble_eq_true rfl, Nat.le_of_ble_eq_true rfl⟩ (rv := bI (decide (0 ≤ a ∧ a < f 3))) rfl dX3_kind_7 ?_
  refine g_if_ne C (tgt := 19) dX3_kind_10 (by decide) (by have := bI_rg (decide (0 ≤ a ∧ a < f 3)); omega) (fun hc10_1 => ?_) (fun hc10_1 => ?_)
  ·
    have hc10_1b : 0 ≤ a ∧ a < f 3 := of_decide_eq_true (bI_1.mp (by have := bI_rg (decide (0 ≤ a ∧ a < f 3)); omega))
    refine g_aload_n C dX3_kind_19 rfl 0 rfl ?_
    refine gm_get7 C (v := f 7) rfl dX3_kind_20 ?_
    refine g_if_gt C (tgt := 35) dX3_kind_23 (by decide) (by omega) (fun hc23_2 => ?_) (fun hc23_2 => ?_)
    ·
      refine g_iconst C dX3_kind_35 ?_
      exact g_iret C dX3_kind_36 rfl (Nat.le_of_ble_eq_true rfl) (Nat.le_of_ble_eq_true rfl) ⟨_, rfl, _, _, (Or.inr (Or.inl ⟨by omega, rfl, rfl, rfl⟩)), rfl⟩
    ·
      refine g_iload_n C dX3_kind_26 rfl 2 rfl ?_
      refine g_if_lt C (tgt := 35) dX3_kind_27 (by decide) (by omega) (fun hc27_3 => ?_) (fun hc27_3 => ?_)
      ·
        refine g_iconst C dX3_kind_35 ?_
        exact g_iret C dX3_kind_36 rfl (Nat.le_of_ble_eq_true rfl) (Nat.le_of_ble_eq_true rfl) ⟨_, rfl, _, _, (Or.inr (Or.inl ⟨by omega, rfl, rfl, rfl⟩)), rfl⟩
      ·
        refine g_iload_n C dX3_kind_30 rfl 2 rfl ?_
        refine g_iconst C dX3_kind_31 ?_
        refine g_icmp_le C (tgt := 37) dX3_kind_32 (by decide) (by omega) (by omega) (fun hc32_4 => ?_) (fun hc32_4 => ?_)
        ·
          refine g_aload_n C dX3_kind_37 rfl 0 rfl ?_
          refine gm_get12 C dX3_kind_38 ?_
          refine g_iload_n C dX3_kind_41 rfl 1 rfl ?_
          refine g_iload_n C dX3_kind_42 rfl 2 rfl ?_
          refine gm_ast12 C (g' := (ug g 12 (uI (g 12) a v))) rfl dX3_kind_43 (by omega) ?_
          have hkd2 : ∀ j, 0 ≤ j → j < 6 → 0 ≤ uI (g 12) a v j ∧ uI (g 12) a v j ≤ 3 := by intro j h0 h1; unfold uI; split; exact ⟨by omega, by omega⟩; exact hkd j h0 h1
          refine g_aload_n C dX3_kind_44 rfl 0 rfl ?_
          refine kX3_X3_lay  C hF hS hkd2 ⟨Nat.le_of_ble_eq_true rfl, Nat.le_of_ble_eq_true rfl⟩ (Nat.le_of_ble_eq_true rfl) ⟨Nat.le_of_ble_eq_true rfl, Nat.le_of_ble_eq_true rfl⟩ dX3_kind_45 ?_
          intro np_5 x14_6 x15_7 x16_8 x17_9 hPA_10
          refine g_ws (ws' := mW D h (up (up f 1 0) 8 np_5) (ug (ug (ug (ug (ug g 12 (uI (g 12) a v)) 14 x14_6) 15 x15_7) 16 x16_8) 17 x17_9)) rfl ?_
          have hPA_10 : PA (paL (f 3).toNat ((uI (g 12) a v)) (f 2).toNat) np_5 x14_6 x15_7 x16_8 x17_9 := hPA_10
          refine g_iconst C dX3_kind_48 ?_
          exact g_iret C dX3_kind_49 rfl (Nat.le_of_ble_eq_true rfl) (Nat.le_of_ble_eq_true rfl) ⟨_, rfl, _, _, (Or.inr (Or.inr (⟨by omega, rfl, np_5, x14_6, x15_7, x16_8, x17_9, hPA_10, rfl, rfl⟩))), rfl⟩
        ·
          refine g_iconst C dX3_kind_35 ?_
          exact g_iret C dX3_kind_36 rfl (Nat.le_of_ble_eq_true rfl) (Nat.le_of_ble_eq_true rfl) ⟨_, rfl, _, _, (Or.inr (Or.inl ⟨by omega, rfl, rfl, rfl⟩)), rfl⟩
  ·
    have hc10_1b : ¬ (0 ≤ a ∧ a < f 3) := of_decide_eq_false (bI_0.mp (by have := bI_rg (decide (0 ≤ a ∧ a < f 3)); omega))
    refine g_aload_n C dX3_kind_13 rfl 0 rfl ?_
    refine g_iconst C dX3_kind_14 ?_
    refine kX3_X3_refuse 1 C  ⟨Nat.le_of_ble_eq_true rfl, Nat.le_of_ble_eq_true rfl⟩ (Nat.le_of_ble_eq_true rfl) ⟨Nat.le_of_ble_eq_true rfl, Nat.le_of_ble_eq_true rfl⟩ dX3_kind_15 ?_
    refine g_ws (ws' := mW D h (up f 1 1) g) rfl ?_
    exact g_iret C dX3_kind_18 rfl (Nat.le_of_ble_eq_true rfl) (Nat.le_of_ble_eq_true rfl) ⟨_, rfl, _, _, (Or.inl ⟨by omega, rfl, rfl, rfl⟩), rfl⟩

set_option maxHeartbeats 4000000 in
set_option maxRecDepth 100000 in
theorem c_X3_part_2 (l : Launch) (D : va_G) (hst : l.stackTraces = false) (h : Nat → Nat) (f : Nat → Int) (g : Nat → Int → Int) (a v : Int) (hnp : 0 ≤ f 8 ∧ f 8 ≤ 55) (hpt : ∀ j, 0 ≤ j → j < f 8 → (0 ≤ g 14 j ∧ g 14 j ≤ 4) ∧ (0 ≤ g 15 j ∧ g 15 j ≤ 5) ∧ (0 ≤ g 16 j ∧ g 16 j ≤ 2) ∧ (0 ≤ g 17 j ∧ g 17 j ≤ 1)) (har : -2147483648 ≤ a ∧ a < 2147483648) (hvr : -2147483648 ≤ v ∧ v < 2147483648) : CT l D yX3_part_2 (ws_ yX3_part_2 cX3_part_2 3 (some .int)) (rmD 1 0 0) (0) (0) va_A [.ref (h 36), .int (iI a), .int (iI v)] (mW D h f g) exT (pI fun z w => ∃ f' g', sm_part f g a v z f' g' ∧ w = mW D h f' g') xN := by
  refine ct_U (lv := [(0, .ref (h 36)), (1, .int (iI a)), (2, .int (iI v))]) RX3 (by decide) rfl rfl hst (Nat.le_of_ble_eq_true rfl) rfl ?_
  intro p e s mm args below meth c A C htab hex hnm
  refine g_aload_n C dX3_part_2_0 rfl 0 rfl ?_
  refine g_iconst C dX3_part_2_1 ?_
  refine gm_put1 C (f' := (up f 1 0)) rfl dX3_part_2_2 ?_
  refine g_aload_n C dX3_part_2_5 rfl 0 rfl ?_
  refine g_iload_n C dX3_part_2_6 rfl 1 rfl ?_
  refine kX3_X3_isPart a C hnp (by omega) ⟨Nat.le_of_ble_eq_true rfl, Nat.le_of_ble_eq_true rfl⟩ (Nat.le_of_ble_eq_true rfl) ⟨Nat.le_of_ble_eq_true rfl, Nat.le_of_ble_eq_true rfl⟩ (rv := bI (decide (0 ≤ a ∧ a < f 8))) rfl dX3_part_2_7 ?_
  refine g_if_ne C (tgt := 19) dX3_part_2_10 (by decide) (by have := bI_rg (decide (0 ≤ a ∧ a < f 8)); omega) (fun hc10_1 => ?_) (fun hc10_1 => ?_)
  ·
    have hc10_1b : 0 ≤ a ∧ a < f 8 := of_decide_eq_true (bI_1.mp (by have := bI_rg (decide (0 ≤ a ∧ a < f 8)); omega))
    refine g_iload_n C dX3_part_2_19 rfl 2 rfl ?_
    rcases (show v = 0 ∨ v = 1 ∨ v = 2 ∨ v = 3 ∨ (v < 0 ∨ 3 < v) by omega) with rfl | rfl | rfl | rfl | hwh
    ·
      refine g_table C (tgt := 52) dX3_part_2_20 (by omega) (by omega) rfl (by decide) ?_
      refine g_aload_n C dX3_part_2_52 rfl 0 rfl ?_
      refine gm_get14 C dX3_part_2_53 ?_
      refine g_iload_n C dX3_part_2_56 rfl 1 rfl ?_
      refine gm_ald14 C (v := (g 14) a) rfl dX3_part_2_57 (by omega) ?_
      have hf2 := hpt (a) (by omega) (by omega)
      exact g_iret C dX3_part_2_58 rfl (Nat.le_of_ble_eq_true rfl) (Nat.le_of_ble_eq_true rfl) ⟨_, rfl, _, _, (Or.inr (Or.inl ⟨by omega, rfl, rfl, rfl⟩)), rfl⟩
    ·
      refine g_table C (tgt := 59) dX3_part_2_20 (by omega) (by omega) rfl (by decide) ?_
      refine g_aload_n C dX3_part_2_59 rfl 0 rfl ?_
      refine gm_get15 C dX3_part_2_60 ?_
      refine g_iload_n C dX3_part_2_63 rfl 1 rfl ?_
      refine gm_ald15 C (v := (g 15) a) rfl dX3_part_2_64 (by omega) ?_
      have hf3 := hpt (a) (by omega) (by omega)
      exact g_iret C dX3_part_2_65 rfl (Nat.le_of_ble_eq_true rfl) (Nat.le_of_ble_eq_true rfl) ⟨_, rfl, _, _, (Or.inr (Or.inr (Or.inl ⟨by omega, rfl, rfl, rfl⟩))), rfl⟩
    ·
      refine g_table C (tgt := 66) dX3_part_2_20 (by omega) (by omega) rfl (by decide) ?_
      refine g_aload_n C dX3_part_2_66 rfl 0 rfl ?_
      refine gm_get16 C dX3_part_2_67 ?_
      refine g_iload_n C dX3_part_2_70 rfl 1 rfl ?_
      refine gm_ald16 C (v := (g 16) a) rfl dX3_part_2_71 (by omega) ?_
      have hf4 := hpt (a) (by omega) (by omega)
      exact g_iret C dX3_part_2_72 rfl (Nat.le_of_ble_eq_true rfl) (Nat.le_of_ble_eq_true rfl) ⟨_, rfl, _, _, (Or.inr (Or.inr (Or.inr (Or.inl ⟨by omega, rfl, rfl, rfl⟩)))), rfl⟩
    ·
      refine g_table C (tgt := 73) dX3_part_2_20 (by omega) (by omega) rfl (by decide) ?_
      refine g_aload_n C dX3_part_2_73 rfl 0 rfl ?_
      refine gm_get17 C dX3_part_2_74 ?_
      refine g_iload_n C dX3_part_2_77 rfl 1 rfl ?_
      refine gm_ald17 C (v := (g 17) a) rfl dX3_part_2_78 (by omega) ?_
      have hf5 := hpt (a) (by omega) (by omega)
      refine g_if_eq C (tgt := 86) dX3_part_2_79 (by decide) (by omega) (fun hc79_6 => ?_) (fun hc79_6 => ?_)
      ·
        refine g_iconst C dX3_part_2_86 ?_
        exact g_iret C dX3_part_2_87 rfl (Nat.le_of_ble_eq_true rfl) (Nat.le_of_ble_eq_true rfl) ⟨_, rfl, _, _, (Or.inr (Or.inr (Or.inr (Or.inr (⟨by omega, (by omega), rfl, rfl⟩))))), rfl⟩
      ·
        refine g_iconst C dX3_part_2_82 ?_
        refine g_goto C (tgt := 87) dX3_part_2_83 (by decide) ?_
        exact g_iret C dX3_part_2_87 rfl (Nat.le_of_ble_eq_true rfl) (Nat.le_of_ble_eq_true rfl) ⟨_, rfl, _, _, (Or.inr (Or.inr (Or.inr (Or.inr (⟨by omega, (by omega), rfl, rfl⟩))))), rfl⟩
    ·
      refine g_tableD C (tgt := 88) dX3_part_2_20 (by omega) (by omega) (by decide) ?_
      refine g_aload_n C dX3_part_2_88 rfl 0 rfl ?_
      refine g_iconst C dX3_part_2_89 ?_
      refine kX3_X3_fail 1 C  ⟨Nat.le_of_ble_eq_true rfl, Nat.le_of_ble_eq_true rfl⟩ (Nat.le_of_ble_eq_true rfl) ⟨Nat.le_of_ble_eq_true rfl, Nat.le_of_ble_eq_true rfl⟩ dX3_part_2_90 ?_
      refine g_ws (ws' := mW D h (up f 1 1) g) rfl ?_
      exact g_iret C dX3_part_2_93 rfl (Nat.le_of_ble_eq_true rfl) (Nat.le_of_ble_eq_true rfl) ⟨_, rfl, _, _, (Or.inl ⟨by omega, rfl, rfl, rfl⟩), rfl⟩
  ·
    have hc10_1b : ¬ (0 ≤ a ∧ a < f 8) := of_decide_eq_false (bI_0.mp (by have := bI_rg (decide (0 ≤ a ∧ a < f 8)); omega))
    refine g_aload_n C dX3_part_2_13 rfl 0 rfl ?_
    refine g_iconst C dX3_part_2_14 ?_
    refine kX3_X3_fail 1 C  ⟨Nat.le_of_ble_eq_true rfl, Nat.le_of_ble_eq_true rfl⟩ (Nat.le_of_ble_eq_true rfl) ⟨Nat.le_of_ble_eq_true rfl, Nat.le_of_ble_eq_true rfl⟩ dX3_part_2_15 ?_
    refine g_ws (ws' := mW D h (up f 1 1) g) rfl ?_
    exact g_iret C dX3_part_2_18 rfl (Nat.le_of_ble_eq_true rfl) (Nat.le_of_ble_eq_true rfl) ⟨_, rfl, _, _, (Or.inl ⟨by omega, rfl, rfl, rfl⟩), rfl⟩

set_option maxHeartbeats 4000000 in
set_option maxRecDepth 100000 in
theorem c_X3_need (l : Launch) (D : va_G) (hst : l.stackTraces = false) (h : Nat → Nat) (f : Nat → Int) (g : Nat → Int → Int) (a v : Int) (hnp : 0 ≤ f 8 ∧ f 8 ≤ 55) (hpt : ∀ j, 0 ≤ j → j < f 8 → (0 ≤ g 14 j ∧ g 14 j ≤ 4) ∧ (0 ≤ g 15 j ∧ g 15 j ≤ 5) ∧ (0 ≤ g 16 j ∧ g 16 j ≤ 2) ∧ (0 ≤ g 17 j ∧ g 17 j ≤ 1)) (har : -2147483648 ≤ a ∧ a < 2147483648) (hv : 0 ≤ v ∧ v ≤ 1) : CT l D yX3_need (ws_ yX3_need cX3_need 4 (some .boolean)) (rmD 1 0 0) (0) (0) va_A [.ref (h 36), .int (iI a), .int (iI v)] (mW D h f g) exT (pI fun z w => ∃ f' g', sm_need f g a v z f' g' ∧ w = mW D h f' g') xN := by
  refine ct_U (lv := [(0, .ref (h 36)), (1, .int (iI a)), (2, .int (iI v))]) RX3 (by decide) rfl rfl hst (Nat.le_of_ble_eq_true rfl) rfl ?_
  intro p e s mm args below meth c A C htab hex hnm
  refine g_aload_n C dX3_need_0 rfl 0 rfl ?_
  refine g_iconst C dX3_need_1 ?_
  refine gm_put1 C (f' := (up f 1 0)) rfl dX3_need_2 ?_
  refine g_aload_n C dX3_need_5 rfl 0 rfl ?_
  refine g_iload_n C dX3_need_6 rfl 1 rfl ?_
  refine kX3_X3_isPart a C hnp (by omega) ⟨Nat.le_of_ble_eq_true rfl, Nat.le_of_ble_eq_true rfl⟩ (Nat.le_of_ble_eq_true rfl) ⟨Nat.le_of_ble_eq_true rfl, Nat.le_of_ble_eq_true rfl⟩ (rv := bI (decide (0 ≤ a ∧ a < f 8))) rfl dX3_need_7 ?_
  refine g_if_ne C (tgt := 19) dX3_need_10 (by decide) (by have := bI_rg (decide (0 ≤ a ∧ a < f 8)); omega) (fun hc10_1 => ?_) (fun hc10_1 => ?_)
  ·
    have hc10_1b : 0 ≤ a ∧ a < f 8 := of_decide_eq_true (bI_1.mp (by have := bI_rg (decide (0 ≤ a ∧ a < f 8)); omega))
    refine g_aload_n C dX3_need_19 rfl 0 rfl ?_
    refine gm_get17 C dX3_need_20 ?_
    refine g_iload_n C dX3_need_23 rfl 1 rfl ?_
    refine gm_ald17 C (v := (g 17) a) rfl dX3_need_24 (by omega) ?_
    have hf2 := hpt (a) (by omega) (by omega)
    refine g_istore_n C dX3_need_25 rfl (lv' := [(0, .ref (h 36)), (1, .int (iI a)), (2, .int (iI v)), (3, .int (iI ((g 17) a)))]) [1, 2, 3, 0] rfl (Nat.le_of_ble_eq_true rfl) ?_
    refine g_aload_n C dX3_need_26 rfl 0 rfl ?_
    refine gm_get17 C dX3_need_27 ?_
    refine g_iload_n C dX3_need_30 rfl 1 rfl ?_
    refine g_iload_n C dX3_need_31 rfl 2 rfl ?_
    refine gm_ast17 C (g' := (ug g 17 (uI (g 17) a v))) rfl dX3_need_32 (by omega) (nz_b (by omega)) ?_
    refine g_iload_n C dX3_need_33 rfl 3 rfl ?_
    exact g_iret C dX3_need_34 (nr_b (by omega)) (Nat.le_of_ble_eq_true rfl) (Nat.le_of_ble_eq_true rfl) ⟨_, rfl, _, _, (Or.inr (⟨by omega, rfl, rfl, rfl⟩)), rfl⟩
  ·
    have hc10_1b : ¬ (0 ≤ a ∧ a < f 8) := of_decide_eq_false (bI_0.mp (by have := bI_rg (decide (0 ≤ a ∧ a < f 8)); omega))
    refine g_aload_n C dX3_need_13 rfl 0 rfl ?_
    refine g_iconst C dX3_need_14 ?_
    refine kX3_X3_refuse 1 C  ⟨Nat.le_of_ble_eq_true rfl, Nat.le_of_ble_eq_true rfl⟩ (Nat.le_of_ble_eq_true rfl) ⟨Nat.le_of_ble_eq_true rfl, Nat.le_of_ble_eq_true rfl⟩ dX3_need_15 ?_
    refine g_ws (ws' := mW D h (up f 1 1) g) rfl ?_
    exact g_iret C dX3_need_18 rfl (Nat.le_of_ble_eq_true rfl) (Nat.le_of_ble_eq_true rfl) ⟨_, rfl, _, _, (Or.inl ⟨by omega, rfl, rfl, rfl⟩), rfl⟩

set_option maxHeartbeats 4000000 in
set_option maxRecDepth 100000 in
theorem c_X3_feed (l : Launch) (D : va_G) (hst : l.stackTraces = false) (h : Nat → Nat) (f : Nat → Int) (g : Nat → Int → Int) (a b c_ d_ e_ : Int) (htp : 0 ≤ f 5 ∧ f 5 ≤ 400) (har : -2147483648 ≤ a ∧ a < 2147483648) (hbr : -2147483648 ≤ b ∧ b < 2147483648) (hc_r : -2147483648 ≤ c_ ∧ c_ < 2147483648) (hd_r : -2147483648 ≤ d_ ∧ d_ < 2147483648) (he_r : -2147483648 ≤ e_ ∧ e_ < 2147483648) : CT l D yX3_feed (ws_ yX3_feed cX3_feed 8 (some .int)) (rmD 0 0 0) (0) (0) va_A [.ref (h 36), .int (iI a), .int (iI b), .int (iI c_), .int (iI d_), .int (iI e_)] (mW D h f g) exT (pI fun z w => ∃ f' g', sm_feed f g a b c_ d_ e_ z f' g' ∧ w = mW D h f' g') xN := by
  refine ct_U (lv := [(0, .ref (h 36)), (1, .int (iI a)), (2, .int (iI b)), (3, .int (iI c_)), (4, .int (iI d_)), (5, .int (iI e_))]) RX3 (by decide) rfl rfl hst (Nat.le_of_ble_eq_true rfl) rfl ?_
  intro p e s mm args below meth c A C htab hex hnm
  refine g_aload_n C dX3_feed_0 rfl 0 rfl ?_
  refine g_iconst C dX3_feed_1 ?_
  refine gm_put1 C (f' := (up f 1 0)) rfl dX3_feed_2 ?_
  refine g_aload_n C dX3_feed_5 rfl 0 rfl ?_
  refine gm_get5 C (v := f 5) rfl dX3_feed_6 ?_
  refine g_bipush C dX3_feed_9 (z := 20) rfl ?_
  refine g_iadd C dX3_feed_11 ?_
  refine g_sipush C dX3_feed_12 (z := 400) rfl ?_
  refine g_icmp_le C (tgt := 20) dX3_feed_15 (by decide) (by omega) (by omega) (fun hc15_1 => ?_) (fun hc15_1 => ?_)
  ·
    refine g_iconst C dX3_feed_20 ?_
    refine g_istore C dX3_feed_21 (lv' := [(0, .ref (h 36)), (1, .int (iI a)), (2, .int (iI b)), (3, .int (iI c_)), (4, .int (iI d_)), (5, .int (iI e_)), (6, .int (iI 0))]) [1, 2, 3, 4, 5, 6, 0] rfl (Nat.le_of_ble_eq_true rfl) ?_
    have L2 : ∀ (n : Nat) (k : Int) (tp : Int) (y13 : Int → Int), (0 ≤ k ∧ k ≤ 20) → (tp = f 5 + k) → (∀ j, y13 j = fdt (f 5) a b c_ d_ e_ k (g 13) j) → (20 - k).toNat < n → GO p l e (rmD 0 0 0) s mm args below meth c 8 D A A 0 0 (MX below D A (pI fun z w => ∃ f' g', sm_feed f g a b c_ d_ e_ z f' g' ∧ w = mW D h f' g') xN args s (0) (0)) (mW D h (up (up f 1 0) 5 tp) (ug g 13 y13)) 23 [(0, .ref (h 36)), (1, .int (iI a)), (2, .int (iI b)), (3, .int (iI c_)), (4, .int (iI d_)), (5, .int (iI e_)), (6, .int (iI k))] [] := by
      intro n
      induction n with
      | zero => intro k tp y13 hk htp2 h13 hm; exact absurd hm (Nat.not_lt_zero _)
      | succ n ih2 =>
        intro k tp y13 hk htp2 h13 hm2
        refine g_iload C dX3_feed_23 6 rfl ?_
        refine g_bipush C dX3_feed_25 (z := 20) rfl ?_
        refine g_icmp_ge C (tgt := 120) dX3_feed_27 (by decide) (by omega) (by omega) (fun hc27_3 => ?_) (fun hc27_3 => ?_)
        ·
          refine gm_con13 (x := fdt (f 5) a b c_ d_ e_ 20 (g 13)) (g' := (ug g 13 (fdt (f 5) a b c_ d_ e_ 20 (g 13)))) (fun j _ _ => (h13 j).trans (by rw [show k = 20 by omega])) rfl ?_
          rw [show tp = f 5 + 20 by omega]
          refine g_aload_n C dX3_feed_120 rfl 0 rfl ?_
          refine gm_get5 C (v := f 5 + 20) rfl dX3_feed_121 ?_
          exact g_iret C dX3_feed_124 rfl (Nat.le_of_ble_eq_true rfl) (Nat.le_of_ble_eq_true rfl) ⟨_, rfl, _, _, (Or.inr (⟨by omega, rfl, rfl, rfl⟩)), rfl⟩
        ·
          have J4 : ∀ (xv : Int), (xv = fdw a b c_ d_ e_ k) → GO p l e (rmD 0 0 0) s mm args below meth c 8 D A A 0 0 (MX below D A (pI fun z w => ∃ f' g', sm_feed f g a b c_ d_ e_ z f' g' ∧ w = mW D h f' g') xN args s (0) (0)) (mW D h (up (up f 1 0) 5 tp) (ug g 13 y13)) 76 [(0, .ref (h 36)), (1, .int (iI a)), (2, .int (iI b)), (3, .int (iI c_)), (4, .int (iI d_)), (5, .int (iI e_)), (6, .int (iI k))] [.int (iI xv)] := by
            intro xv hxv
            refine g_istore C dX3_feed_76 (lv' := [(0, .ref (h 36)), (1, .int (iI a)), (2, .int (iI b)), (3, .int (iI c_)), (4, .int (iI d_)), (5, .int (iI e_)), (6, .int (iI k)), (7, .int (iI xv))]) [1, 2, 3, 4, 5, 6, 7, 0] rfl (Nat.le_of_ble_eq_true rfl) ?_
            refine g_aload_n C dX3_feed_78 rfl 0 rfl ?_
            refine gm_get13 C dX3_feed_79 ?_
            refine g_aload_n C dX3_feed_82 rfl 0 rfl ?_
            refine gm_get5 C (v := tp) rfl dX3_feed_83 ?_
            refine g_iload C dX3_feed_86 7 rfl ?_
            refine g_bipush C dX3_feed_88 (z := 24) rfl ?_
            refine g_bipush C dX3_feed_90 (z := 8) rfl ?_
            refine g_iload C dX3_feed_92 6 rfl ?_
            refine g_iconst C dX3_feed_94 ?_
            refine g_irem C dX3_feed_95 (by omega) (by omega) ?_
            refine g_imul C dX3_feed_96 ?_
            refine g_isub C dX3_feed_97 ?_
            refine g_ishr C dX3_feed_98 (z := shrI xv (24 - (8 * (k % 4)))) (iI_of _).symm ?_
            refine g_sipush C dX3_feed_99 (z := 255) rfl ?_
            refine g_iand C dX3_feed_102 (z := andI (shrI xv (24 - (8 * (k % 4)))) 255) (iI_of _).symm ?_
            refine gm_ast13 C (g' := (ug g 13 (uI y13 tp (andI (shrI xv (24 - (8 * (k % 4)))) 255)))) rfl dX3_feed_103 (by omega) ?_
            refine g_aload_n C dX3_feed_104 rfl 0 rfl ?_
            refine g_dup C dX3_feed_105 rfl ?_
            refine gm_get5 C (v := tp) rfl dX3_feed_106 ?_
            refine g_iconst C dX3_feed_109 ?_
            refine g_iadd C dX3_feed_110 ?_
            refine gm_put5 C (f' := (up (up f 1 0) 5 (tp + 1))) rfl dX3_feed_111 ?_
            refine g_iinc C dX3_feed_114 6 rfl (lv' := [(0, .ref (h 36)), (1, .int (iI a)), (2, .int (iI b)), (3, .int (iI c_)), (4, .int (iI d_)), (5, .int (iI e_)), (6, .int (iI (k + 1))), (7, .int (iI xv))]) [1, 2, 3, 4, 5, 6, 0, 7] rfl (Nat.le_of_ble_eq_true rfl) ?_
            refine g_goto C (tgt := 23) dX3_feed_117 (by decide) ?_
            refine g_lv [0, 1, 2, 3, 4, 5, 6] rfl ?_
            exact ih2 (k + 1) (tp + 1) (uI y13 tp (andI (shrI xv (24 - (8 * (k % 4)))) 255)) (by omega) (by omega) (by rw [htp2]; exact fdt_s h13 (by omega) (by unfold fdb; rw [hxv])) (by omega)
          refine g_iload C dX3_feed_30 6 rfl ?_
          refine g_iconst C dX3_feed_32 ?_
          refine g_icmp_ge C (tgt := 40) dX3_feed_33 (by decide) (by omega) (by omega) (fun hc33_5 => ?_) (fun hc33_5 => ?_)
          ·
            refine g_iload C dX3_feed_40 6 rfl ?_
            refine g_bipush C dX3_feed_42 (z := 8) rfl ?_
            refine g_icmp_ge C (tgt := 51) dX3_feed_44 (by decide) (by omega) (by omega) (fun hc44_6 => ?_) (fun hc44_6 => ?_)
            ·
              refine g_iload C dX3_feed_51 6 rfl ?_
              refine g_bipush C dX3_feed_53 (z := 12) rfl ?_
              refine g_icmp_ge C (tgt := 62) dX3_feed_55 (by decide) (by omega) (by omega) (fun hc55_7 => ?_) (fun hc55_7 => ?_)
              ·
                refine g_iload C dX3_feed_62 6 rfl ?_
                refine g_bipush C dX3_feed_64 (z := 16) rfl ?_
                refine g_icmp_ge C (tgt := 74) dX3_feed_66 (by decide) (by omega) (by omega) (fun hc66_8 => ?_) (fun hc66_8 => ?_)
                ·
                  refine g_iload C dX3_feed_74 5 rfl ?_
                  exact J4 e_ (by unfold fdw; (repeat' split) <;> omega)
                ·
                  refine g_iload C dX3_feed_69 4 rfl ?_
                  refine g_goto C (tgt := 76) dX3_feed_71 (by decide) ?_
                  exact J4 d_ (by unfold fdw; (repeat' split) <;> omega)
              ·
                refine g_iload_n C dX3_feed_58 rfl 3 rfl ?_
                refine g_goto C (tgt := 76) dX3_feed_59 (by decide) ?_
                exact J4 c_ (by unfold fdw; (repeat' split) <;> omega)
            ·
              refine g_iload_n C dX3_feed_47 rfl 2 rfl ?_
              refine g_goto C (tgt := 76) dX3_feed_48 (by decide) ?_
              exact J4 b (by unfold fdw; (repeat' split) <;> omega)
          ·
            refine g_iload_n C dX3_feed_36 rfl 1 rfl ?_
            refine g_goto C (tgt := 76) dX3_feed_37 (by decide) ?_
            exact J4 a (by unfold fdw; (repeat' split) <;> omega)
    exact L2 _ 0 (f 5) (g 13) (by omega) (by omega) (fun j => by unfold fdt; rw [if_neg (by omega)]) (Nat.lt_succ_self _)
  ·
    refine g_iconst C dX3_feed_18 ?_
    exact g_iret C dX3_feed_19 rfl (Nat.le_of_ble_eq_true rfl) (Nat.le_of_ble_eq_true rfl) ⟨_, rfl, _, _, (Or.inl ⟨by omega, rfl, rfl, rfl⟩), rfl⟩

end MC4
