/-! ===== contracts of the model: marks, move, count ===== -/
def sm_move (f : Nat → Int) (g : Nat → Int → Int) (a : Int) (z : Int) (f' : Nat → Int) (g' : Nat → Int → Int) : Prop :=
  ((a = -1) ∧ z = f 9 ∧ f' = (up f 1 0) ∧ g' = g) ∨
  ((0 ≤ a ∧ a < f 9) ∧ z = g 21 a ∧ f' = (up f 1 0) ∧ g' = g) ∨
  ((a < -1 ∨ (a ≠ -1 ∧ f 9 ≤ a)) ∧ z = 0 ∧ f' = (up f 1 1) ∧ g' = g)
def sm_count (f : Nat → Int) (g : Nat → Int → Int) (v : Int) (z : Int) (f' : Nat → Int) (g' : Nat → Int → Int) : Prop :=
  ((v = 0) ∧ z = f 2 ∧ f' = (up f 1 0) ∧ g' = g) ∨
  ((v = 1) ∧ z = f 3 ∧ f' = (up f 1 0) ∧ g' = g) ∨
  ((v = 2) ∧ z = f 7 ∧ f' = (up f 1 0) ∧ g' = g) ∨
  ((v = 3) ∧ z = ndc (g 17) (f 8) ∧ f' = (up f 1 0) ∧ g' = g) ∨
  ((v = 4) ∧ z = f 5 ∧ f' = (up f 1 0) ∧ g' = g) ∨
  ((v < 0 ∨ 4 < v) ∧ z = 0 ∧ f' = (up f 1 1) ∧ g' = g)
def sm_marks (f : Nat → Int) (g : Nat → Int → Int) (bits : Int) (z : Int) (f' : Nat → Int) (g' : Nat → Int → Int) : Prop :=
  (∃ y34 : Int → Int, ∃ y35 : Int → Int, (z = bP (MKS (f 2) (f 3) (g 12) (f 8) (g 14) (g 15) (g 16) bits)) ∧ f' = (up f 1 0) ∧ g' = (ug (ug g 34 y34) 35 y35))
section MC9
set_option maxHeartbeats 4000000 in
set_option maxRecDepth 100000 in
theorem c_X3_join (l : Launch) (D : va_G) (hst : l.stackTraces = false) (h : Nat → Nat) (f : Nat → Int) (g : Nat → Int → Int) (a b : Int) (hgr : ∀ x, In30 x → In30 (g 34 x)) (ha : In30 a) (hb : In30 b) : CT l D yX3_join (ws_ yX3_join cX3_join 6 none) (rmD 0 0 0) (0) (0) va_A [.ref (h 36), .int (iI a), .int (iI b)] (mW D h f g) exT (pV fun w => w = mW D h f (ug g 34 (jn (g 34) a b))) xN := by
  refine ct_U (lv := [(0, .ref (h 36)), (1, .int (iI a)), (2, .int (iI b))]) RX3 (by decide) rfl rfl hst (Nat.le_of_ble_eq_true rfl) rfl ?_
  intro p e s mm args below meth c A C htab hex hnm
  unfold In30 at ha hb
  have hga : 0 ≤ g 34 a ∧ g 34 a < 30 := hgr a ha
  have hgb : 0 ≤ g 34 b ∧ g 34 b < 30 := hgr b hb
  refine g_aload_n C dX3_join_0 rfl 0 rfl ?_
  refine gm_get34 C dX3_join_1 ?_
  refine g_iload_n C dX3_join_4 rfl 2 rfl ?_
  refine gm_ald34 C (v := (g 34) b) rfl dX3_join_5 (by omega) ?_
  refine g_istore_n C dX3_join_6 rfl (lv' := [(0, .ref (h 36)), (1, .int (iI a)), (2, .int (iI b)), (3, .int (iI ((g 34) b)))]) [1, 2, 3, 0] rfl (Nat.le_of_ble_eq_true rfl) ?_
  refine g_aload_n C dX3_join_7 rfl 0 rfl ?_
  refine gm_get34 C dX3_join_8 ?_
  refine g_iload_n C dX3_join_11 rfl 1 rfl ?_
  refine gm_ald34 C (v := (g 34) a) rfl dX3_join_12 (by omega) ?_
  refine g_istore C dX3_join_13 (lv' := [(0, .ref (h 36)), (1, .int (iI a)), (2, .int (iI b)), (3, .int (iI ((g 34) b))), (4, .int (iI ((g 34) a)))]) [1, 2, 3, 4, 0] rfl (Nat.le_of_ble_eq_true rfl) ?_
  refine g_iconst C dX3_join_15 ?_
  refine g_istore C dX3_join_16 (lv' := [(0, .ref (h 36)), (1, .int (iI a)), (2, .int (iI b)), (3, .int (iI ((g 34) b))), (4, .int (iI ((g 34) a))), (5, .int (iI 0))]) [1, 2, 3, 4, 5, 0] rfl (Nat.le_of_ble_eq_true rfl) ?_
  have L1 : ∀ (n : Nat) (k : Int) (y : Int → Int), (0 ≤ k ∧ k ≤ 30) → (∀ j, y j = if 0 ≤ j ∧ j < k then jn (g 34) a b j else g 34 j) → (30 - k).toNat < n → GO p l e (rmD 0 0 0) s mm args below meth c 6 D A A 0 0 (MX below D A (pV fun w => w = mW D h f (ug g 34 (jn (g 34) a b))) xN args s (0) (0)) (mW D h f (ug g 34 y)) 18 [(0, .ref (h 36)), (1, .int (iI a)), (2, .int (iI b)), (3, .int (iI ((g 34) b))), (4, .int (iI ((g 34) a))), (5, .int (iI k))] [] := by
    intro n
    induction n with
    | zero => intro k y hk hy hm; exact absurd hm (Nat.not_lt_zero _)
    | succ n ih1 =>
      intro k y hk hy hm1
      refine g_iload C dX3_join_18 5 rfl ?_
      refine g_bipush C dX3_join_20 (z := 30) rfl ?_
      refine g_icmp_ge C (tgt := 51) dX3_join_22 (by decide) (by omega) (by omega) (fun hc22_2 => ?_) (fun hc22_2 => ?_)
      ·
        refine gm_con34 (x := jn (g 34) a b) (g' := (ug g 34 (jn (g 34) a b))) (fun j h0 h1 => (hy j).trans (by rw [if_pos (by omega)])) rfl ?_
        exact g_vret C dX3_join_51 (Nat.le_of_ble_eq_true rfl) (Nat.le_of_ble_eq_true rfl) ⟨rfl, rfl⟩
      ·
        have hyk : y k = g 34 k := by rw [hy, if_neg (by omega)]
        have hgk : 0 ≤ g 34 k ∧ g 34 k < 30 := hgr k ⟨by omega, by omega⟩
        refine g_aload_n C dX3_join_25 rfl 0 rfl ?_
        refine gm_get34 C dX3_join_26 ?_
        refine g_iload C dX3_join_29 5 rfl ?_
        refine gm_ald34 C (v := y k) rfl dX3_join_31 (by omega) ?_
        refine g_iload_n C dX3_join_32 rfl 3 rfl ?_
        refine g_icmp_ne C (tgt := 45) dX3_join_33 (by decide) (by omega) (by omega) (fun hc33_3 => ?_) (fun hc33_3 => ?_)
        ·
          refine g_iinc C dX3_join_45 5 rfl (lv' := [(0, .ref (h 36)), (1, .int (iI a)), (2, .int (iI b)), (3, .int (iI ((g 34) b))), (4, .int (iI ((g 34) a))), (5, .int (iI (k + 1)))]) [1, 2, 3, 4, 5, 0] rfl (Nat.le_of_ble_eq_true rfl) ?_
          refine g_goto C (tgt := 18) dX3_join_48 (by decide) ?_
          exact ih1 (k + 1) y (by omega) (fun j => by rw [hy]; by_cases e : j = k; (subst e; rw [if_neg (by omega), if_pos (by omega)]; unfold jn; rw [if_neg (by omega)]); (by_cases q : 0 ≤ j ∧ j < k; (rw [if_pos q, if_pos (by omega)]); (rw [if_neg q, if_neg (by omega)]))) (by omega)
        ·
          refine g_aload_n C dX3_join_36 rfl 0 rfl ?_
          refine gm_get34 C dX3_join_37 ?_
          refine g_iload C dX3_join_40 5 rfl ?_
          refine g_iload C dX3_join_42 4 rfl ?_
          refine gm_ast34 C (g' := (ug g 34 (uI y k ((g 34) a)))) rfl dX3_join_44 (by omega) ?_
          refine g_iinc C dX3_join_45 5 rfl (lv' := [(0, .ref (h 36)), (1, .int (iI a)), (2, .int (iI b)), (3, .int (iI ((g 34) b))), (4, .int (iI ((g 34) a))), (5, .int (iI (k + 1)))]) [1, 2, 3, 4, 5, 0] rfl (Nat.le_of_ble_eq_true rfl) ?_
          refine g_goto C (tgt := 18) dX3_join_48 (by decide) ?_
          exact ih1 (k + 1) (uI y k ((g 34) a)) (by omega) (fun j => by by_cases e : j = k; (subst e; rw [uI_s, if_pos (by omega)]; unfold jn; rw [if_pos (by omega)]); (rw [uI_n e, hy]; by_cases q : 0 ≤ j ∧ j < k; (rw [if_pos q, if_pos (by omega)]); (rw [if_neg q, if_neg (by omega)]))) (by omega)
  exact L1 _ 0 (g 34) (by omega) (fun j => by rw [if_neg (by omega)]) (Nat.lt_succ_self _)

section MK
variable {p : Program} {l : Launch} {e : Env} {R : Room} {s : State} {mm : MethodId} {args : Array Value} {below : List Frame} {meth : Method} {c : Code} {cc : ByteArray} {nL : Nat} {ret : Option FieldType} {D : va_G} {A B : Nat → Prop} {cells slots : Nat} {Q : State → Prop} {pc : Nat} {lv : List (Nat × Value)} {st : List Value}
theorem kX3_X3_join {h : Nat → Nat} {f : Nat → Int} {g : Nat → Int → Int} (a b : Int) (C : CX p l s mm args meth c RX3 cc nL ret D A) (hgr : ∀ x, In30 x → In30 (g 34 x)) (ha : In30 a) (hb : In30 b) (hR : 0 + 1 ≤ R.frames ∧ 8 + (6 + 11) + 64 * 0 ≤ R.locals) (hcat : (st.map fun v => v.category).sum ≤ 8) (hroom : cells ≤ R.cells ∧ slots ≤ R.slots) (d : decode cc pc = .ok (.invokevirtual 213, 3)) (K : GO p l e R s mm args below meth c nL D A A cells slots Q (mW D h f (ug g 34 (jn (g 34) a b))) (pc + 3) lv (st)) : GO p l e R s mm args below meth c nL D A A cells slots Q (mW D h f g) (pc) lv (.int (iI b) :: .int (iI a) :: .ref (h 36) :: st) := by
  refine g_callVU C (c_X3_join l D C.hl h f g a b hgr ha hb) (As := [.int (iI a), .int (iI b)]) (n := 2) (lw_V q1288 q1290 qs46 q69 q1291) (by decide +kernel) rfl rfl hR (rcv C 0 rfl rfl rfl) rfl rfl hcat ⟨hroom.1, hroom.2⟩ d (wr := []) Sb.rf exT_b hex_t (fun v w hp => ?_) kx_nu
  obtain ⟨rfl, rfl⟩ := hp
  exact K 
end MK

set_option maxHeartbeats 4000000 in
set_option maxRecDepth 100000 in
theorem c_X3_move (l : Launch) (D : va_G) (hst : l.stackTraces = false) (h : Nat → Nat) (f : Nat → Int) (g : Nat → Int → Int) (a : Int) (hkm : 0 ≤ f 9 ∧ f 9 ≤ 2000) (har : -2147483648 ≤ a ∧ a < 2147483648) : CT l D yX3_move (ws_ yX3_move cX3_move 2 (some .int)) (rmD 1 0 0) (0) (0) va_A [.ref (h 36), .int (iI a)] (mW D h f g) exT (pI fun z w => ∃ f' g', sm_move f g a z f' g' ∧ w = mW D h f' g') xN := by
  refine ct_U (lv := [(0, .ref (h 36)), (1, .int (iI a))]) RX3 (by decide) rfl rfl hst (Nat.le_of_ble_eq_true rfl) rfl ?_
  intro p e s mm args below meth c A C htab hex hnm
  refine g_aload_n C dX3_move_0 rfl 0 rfl ?_
  refine g_iconst C dX3_move_1 ?_
  refine gm_put1 C (f' := (up f 1 0)) rfl dX3_move_2 ?_
  refine g_iload_n C dX3_move_5 rfl 1 rfl ?_
  refine g_iconst C dX3_move_6 ?_
  refine g_icmp_ne C (tgt := 17) dX3_move_7 (by decide) (by omega) (by omega) (fun hc7_1 => ?_) (fun hc7_1 => ?_)
  ·
    refine g_iload_n C dX3_move_17 rfl 1 rfl ?_
    refine g_if_lt C (tgt := 29) dX3_move_18 (by decide) (by omega) (fun hc18_2 => ?_) (fun hc18_2 => ?_)
    ·
      refine g_aload_n C dX3_move_29 rfl 0 rfl ?_
      refine g_iconst C dX3_move_30 ?_
      refine kX3_X3_fail 1 C  ⟨Nat.le_of_ble_eq_true rfl, Nat.le_of_ble_eq_true rfl⟩ (Nat.le_of_ble_eq_true rfl) ⟨Nat.le_of_ble_eq_true rfl, Nat.le_of_ble_eq_true rfl⟩ dX3_move_31 ?_
      refine g_ws (ws' := mW D h (up f 1 1) g) rfl ?_
      refine g_goto C (tgt := 43) dX3_move_34 (by decide) ?_
      exact g_iret C dX3_move_43 rfl (Nat.le_of_ble_eq_true rfl) (Nat.le_of_ble_eq_true rfl) ⟨_, rfl, _, _, (Or.inr (Or.inr (⟨by omega, rfl, rfl, rfl⟩))), rfl⟩
    ·
      refine g_iload_n C dX3_move_21 rfl 1 rfl ?_
      refine g_aload_n C dX3_move_22 rfl 0 rfl ?_
      refine gm_get9 C (v := f 9) rfl dX3_move_23 ?_
      refine g_icmp_lt C (tgt := 37) dX3_move_26 (by decide) (by omega) (by omega) (fun hc26_3 => ?_) (fun hc26_3 => ?_)
      ·
        refine g_aload_n C dX3_move_37 rfl 0 rfl ?_
        refine gm_get21 C dX3_move_38 ?_
        refine g_iload_n C dX3_move_41 rfl 1 rfl ?_
        refine gm_ald21 C (v := (g 21) a) rfl dX3_move_42 (by omega) ?_
        exact g_iret C dX3_move_43 rfl (Nat.le_of_ble_eq_true rfl) (Nat.le_of_ble_eq_true rfl) ⟨_, rfl, _, _, (Or.inr (Or.inl ⟨by omega, rfl, rfl, rfl⟩)), rfl⟩
      ·
        refine g_aload_n C dX3_move_29 rfl 0 rfl ?_
        refine g_iconst C dX3_move_30 ?_
        refine kX3_X3_fail 1 C  ⟨Nat.le_of_ble_eq_true rfl, Nat.le_of_ble_eq_true rfl⟩ (Nat.le_of_ble_eq_true rfl) ⟨Nat.le_of_ble_eq_true rfl, Nat.le_of_ble_eq_true rfl⟩ dX3_move_31 ?_
        refine g_ws (ws' := mW D h (up f 1 1) g) rfl ?_
        refine g_goto C (tgt := 43) dX3_move_34 (by decide) ?_
        exact g_iret C dX3_move_43 rfl (Nat.le_of_ble_eq_true rfl) (Nat.le_of_ble_eq_true rfl) ⟨_, rfl, _, _, (Or.inr (Or.inr (⟨by omega, rfl, rfl, rfl⟩))), rfl⟩
  ·
    refine g_aload_n C dX3_move_10 rfl 0 rfl ?_
    refine gm_get9 C (v := f 9) rfl dX3_move_11 ?_
    refine g_goto C (tgt := 43) dX3_move_14 (by decide) ?_
    exact g_iret C dX3_move_43 rfl (Nat.le_of_ble_eq_true rfl) (Nat.le_of_ble_eq_true rfl) ⟨_, rfl, _, _, (Or.inl ⟨by omega, rfl, rfl, rfl⟩), rfl⟩

set_option maxHeartbeats 4000000 in
set_option maxRecDepth 100000 in
theorem c_X3_count (l : Launch) (D : va_G) (hst : l.stackTraces = false) (h : Nat → Nat) (f : Nat → Int) (g : Nat → Int → Int) (v : Int) (hnp : 0 ≤ f 8 ∧ f 8 ≤ 55) (hpt : ∀ j, 0 ≤ j → j < f 8 → (0 ≤ g 14 j ∧ g 14 j ≤ 4) ∧ (0 ≤ g 15 j ∧ g 15 j ≤ 5) ∧ (0 ≤ g 16 j ∧ g 16 j ≤ 2) ∧ (0 ≤ g 17 j ∧ g 17 j ≤ 1)) (hvr : -2147483648 ≤ v ∧ v < 2147483648) : CT l D yX3_count (ws_ yX3_count cX3_count 4 (some .int)) (rmD 1 0 0) (0) (0) va_A [.ref (h 36), .int (iI v)] (mW D h f g) exT (pI fun z w => ∃ f' g', sm_count f g v z f' g' ∧ w = mW D h f' g') xN := by
  refine ct_U (lv := [(0, .ref (h 36)), (1, .int (iI v))]) RX3 (by decide) rfl rfl hst (Nat.le_of_ble_eq_true rfl) rfl ?_
  intro p e s mm args below meth c A C htab hex hnm
  refine g_aload_n C dX3_count_0 rfl 0 rfl ?_
  refine g_iconst C dX3_count_1 ?_
  refine gm_put1 C (f' := (up f 1 0)) rfl dX3_count_2 ?_
  refine g_iconst C dX3_count_5 ?_
  refine g_istore_n C dX3_count_6 rfl (lv' := [(0, .ref (h 36)), (1, .int (iI v)), (2, .int (iI 0))]) [1, 2, 0] rfl (Nat.le_of_ble_eq_true rfl) ?_
  refine g_iconst C dX3_count_7 ?_
  refine g_istore_n C dX3_count_8 rfl (lv' := [(0, .ref (h 36)), (1, .int (iI v)), (2, .int (iI 0)), (3, .int (iI 0))]) [1, 2, 3, 0] rfl (Nat.le_of_ble_eq_true rfl) ?_
  have L1 : ∀ (n : Nat) (k : Int) (nn : Int), (0 ≤ k ∧ k ≤ f 8) → (nn = ndc (g 17) k) → (f 8 - k).toNat < n → GO p l e (rmD 1 0 0) s mm args below meth c 4 D A A 0 0 (MX below D A (pI fun z w => ∃ f' g', sm_count f g v z f' g' ∧ w = mW D h f' g') xN args s (0) (0)) (mW D h (up f 1 0) g) 9 [(0, .ref (h 36)), (1, .int (iI v)), (2, .int (iI nn)), (3, .int (iI k))] [] := by
    intro n
    induction n with
    | zero => intro k nn hk hn hm; exact absurd hm (Nat.not_lt_zero _)
    | succ n ih1 =>
      intro k nn hk hn hm1
      refine g_iload_n C dX3_count_9 rfl 3 rfl ?_
      refine g_aload_n C dX3_count_10 rfl 0 rfl ?_
      refine gm_get8 C (v := f 8) rfl dX3_count_11 ?_
      refine g_icmp_ge C (tgt := 40) dX3_count_14 (by decide) (by omega) (by omega) (fun hc14_2 => ?_) (fun hc14_2 => ?_)
      ·
        refine g_iload_n C dX3_count_40 rfl 1 rfl ?_
        rcases (show v = 0 ∨ v = 1 ∨ v = 2 ∨ v = 3 ∨ v = 4 ∨ (v < 0 ∨ 4 < v) by omega) with rfl | rfl | rfl | rfl | rfl | hwh
        ·
          refine g_table C (tgt := 76) dX3_count_41 (by omega) (by omega) rfl (by decide) ?_
          refine g_aload_n C dX3_count_76 rfl 0 rfl ?_
          refine gm_get2 C (v := f 2) rfl dX3_count_77 ?_
          exact g_iret C dX3_count_80 rfl (Nat.le_of_ble_eq_true rfl) (Nat.le_of_ble_eq_true rfl) ⟨_, rfl, _, _, (Or.inl ⟨by omega, rfl, rfl, rfl⟩), rfl⟩
        ·
          refine g_table C (tgt := 81) dX3_count_41 (by omega) (by omega) rfl (by decide) ?_
          refine g_aload_n C dX3_count_81 rfl 0 rfl ?_
          refine gm_get3 C (v := f 3) rfl dX3_count_82 ?_
          exact g_iret C dX3_count_85 rfl (Nat.le_of_ble_eq_true rfl) (Nat.le_of_ble_eq_true rfl) ⟨_, rfl, _, _, (Or.inr (Or.inl ⟨by omega, rfl, rfl, rfl⟩)), rfl⟩
        ·
          refine g_table C (tgt := 86) dX3_count_41 (by omega) (by omega) rfl (by decide) ?_
          refine g_aload_n C dX3_count_86 rfl 0 rfl ?_
          refine gm_get7 C (v := f 7) rfl dX3_count_87 ?_
          exact g_iret C dX3_count_90 rfl (Nat.le_of_ble_eq_true rfl) (Nat.le_of_ble_eq_true rfl) ⟨_, rfl, _, _, (Or.inr (Or.inr (Or.inl ⟨by omega, rfl, rfl, rfl⟩))), rfl⟩
        ·
          refine g_table C (tgt := 91) dX3_count_41 (by omega) (by omega) rfl (by decide) ?_
          refine g_iload_n C dX3_count_91 rfl 2 rfl ?_
          exact g_iret C dX3_count_92 rfl (Nat.le_of_ble_eq_true rfl) (Nat.le_of_ble_eq_true rfl) ⟨_, rfl, _, _, (Or.inr (Or.inr (Or.inr (Or.inl ⟨by omega, (by rw [hn, show k = f 8 by omega]), rfl, rfl⟩)))), rfl⟩
        ·
          refine g_table C (tgt := 93) dX3_count_41 (by omega) (by omega) rfl (by decide) ?_
          refine g_aload_n C dX3_count_93 rfl 0 rfl ?_
          refine gm_get5 C (v := f 5) rfl dX3_count_94 ?_
          exact g_iret C dX3_count_97 rfl (Nat.le_of_ble_eq_true rfl) (Nat.le_of_ble_eq_true rfl) ⟨_, rfl, _, _, (Or.inr (Or.inr (Or.inr (Or.inr (Or.inl ⟨by omega, rfl, rfl, rfl⟩))))), rfl⟩
        ·
          refine g_tableD C (tgt := 98) dX3_count_41 (by omega) (by omega) (by decide) ?_
          refine g_aload_n C dX3_count_98 rfl 0 rfl ?_
          refine g_iconst C dX3_count_99 ?_
          refine kX3_X3_fail 1 C  ⟨Nat.le_of_ble_eq_true rfl, Nat.le_of_ble_eq_true rfl⟩ (Nat.le_of_ble_eq_true rfl) ⟨Nat.le_of_ble_eq_true rfl, Nat.le_of_ble_eq_true rfl⟩ dX3_count_100 ?_
          refine g_ws (ws' := mW D h (up f 1 1) g) rfl ?_
          exact g_iret C dX3_count_103 rfl (Nat.le_of_ble_eq_true rfl) (Nat.le_of_ble_eq_true rfl) ⟨_, rfl, _, _, (Or.inr (Or.inr (Or.inr (Or.inr (Or.inr (⟨by omega, rfl, rfl, rfl⟩)))))), rfl⟩
      ·
        refine g_iload_n C dX3_count_17 rfl 2 rfl ?_
        refine g_aload_n C dX3_count_18 rfl 0 rfl ?_
        refine gm_get17 C dX3_count_19 ?_
        refine g_iload_n C dX3_count_22 rfl 3 rfl ?_
        refine gm_ald17 C (v := (g 17) k) rfl dX3_count_23 (by omega) ?_
        have hf3 := hpt (k) (by omega) (by omega)
        refine g_if_eq C (tgt := 31) dX3_count_24 (by decide) (by omega) (fun hc24_4 => ?_) (fun hc24_4 => ?_)
        ·
          refine g_iconst C dX3_count_31 ?_
          refine g_iadd C dX3_count_32 ?_
          refine g_istore_n C dX3_count_33 rfl (lv' := [(0, .ref (h 36)), (1, .int (iI v)), (2, .int (iI (nn + 0))), (3, .int (iI k))]) [1, 2, 0, 3] rfl (Nat.le_of_ble_eq_true rfl) ?_
          refine g_iinc C dX3_count_34 3 rfl (lv' := [(0, .ref (h 36)), (1, .int (iI v)), (2, .int (iI (nn + 0))), (3, .int (iI (k + 1)))]) [1, 2, 3, 0] rfl (Nat.le_of_ble_eq_true rfl) ?_
          refine g_goto C (tgt := 9) dX3_count_37 (by decide) ?_
          exact ih1 (k + 1) (nn + 0) (by omega) (by rw [ndc_s hk.1, hn]; omega) (by omega)
        ·
          refine g_iconst C dX3_count_27 ?_
          refine g_goto C (tgt := 32) dX3_count_28 (by decide) ?_
          refine g_iadd C dX3_count_32 ?_
          refine g_istore_n C dX3_count_33 rfl (lv' := [(0, .ref (h 36)), (1, .int (iI v)), (2, .int (iI (nn + 1))), (3, .int (iI k))]) [1, 2, 0, 3] rfl (Nat.le_of_ble_eq_true rfl) ?_
          refine g_iinc C dX3_count_34 3 rfl (lv' := [(0, .ref (h 36)), (1, .int (iI v)), (2, .int (iI (nn + 1))), (3, .int (iI (k + 1)))]) [1, 2, 3, 0] rfl (Nat.le_of_ble_eq_true rfl) ?_
          refine g_goto C (tgt := 9) dX3_count_37 (by decide) ?_
          exact ih1 (k + 1) (nn + 1) (by omega) (by rw [ndc_s hk.1, hn]; omega) (by omega)
  exact L1 _ 0 0 (by omega) rfl (Nat.lt_succ_self _)

set_option maxHeartbeats 4000000 in
set_option maxRecDepth 100000 in
theorem c_X3_marks (l : Launch) (D : va_G) (hst : l.stackTraces = false) (h : Nat → Nat) (f : Nat → Int) (g : Nat → Int → Int) (bits : Int) (hF : 1 ≤ f 2 ∧ f 2 ≤ 5) (hS : 2 ≤ f 3 ∧ f 3 ≤ 6) (hkd : ∀ j, 0 ≤ j → j < 6 → 0 ≤ g 12 j ∧ g 12 j ≤ 3) (hnp : 0 ≤ f 8 ∧ f 8 ≤ 55) (hpt : ∀ j, 0 ≤ j → j < f 8 → (0 ≤ g 14 j ∧ g 14 j ≤ 4) ∧ (0 ≤ g 15 j ∧ g 15 j ≤ 5) ∧ (0 ≤ g 16 j ∧ g 16 j ≤ 2) ∧ (0 ≤ g 17 j ∧ g 17 j ≤ 1)) (hpx : ∀ j, 0 ≤ j → j < f 8 → g 14 j < f 2 ∧ g 15 j < f 3 ∧ (g 16 j ≠ 1 → g 15 j + 1 < f 3)) (hbitsr : -2147483648 ≤ bits ∧ bits < 2147483648) : CT l D yX3_marks (ws_ yX3_marks cX3_marks 6 (some .boolean)) (rmD 2 0 0) (0) (0) va_A [.ref (h 36), .int (iI bits)] (mW D h f g) exT (pI fun z w => ∃ f' g', sm_marks f g bits z f' g' ∧ w = mW D h f' g') xN := by
  refine ct_U (lv := [(0, .ref (h 36)), (1, .int (iI bits))]) RX3 (by decide) rfl rfl hst (Nat.le_of_ble_eq_true rfl) rfl ?_
  intro p e s mm args below meth c A C htab hex hnm
  have hm31 : 0 ≤ m31 (f 8) ∧ m31 (f 8) ≤ 31 ∧ m31 (f 8) ≤ f 8 := by unfold m31; split <;> omega
  have hnm : ∀ i, 0 ≤ i → i < m31 (f 8) → In30 (nA (g 14) (g 15) i) ∧ In30 (nB (g 14) (g 15) (g 16) i) := by
    intro i h0 h1
    have h2 : i < f 8 := by unfold m31 at h1; split at h1 <;> omega
    have h3 := hpt i h0 h2
    have h4 := hpx i h0 h2
    unfold nA nB In30
    split <;> omega
  refine g_aload_n C dX3_marks_0 rfl 0 rfl ?_
  refine g_iconst C dX3_marks_1 ?_
  refine gm_put1 C (f' := (up f 1 0)) rfl dX3_marks_2 ?_
  refine g_iconst C dX3_marks_5 ?_
  refine g_istore_n C dX3_marks_6 rfl (lv' := [(0, .ref (h 36)), (1, .int (iI bits)), (2, .int (iI 0))]) [1, 2, 0] rfl (Nat.le_of_ble_eq_true rfl) ?_
  have J1 : ∀ (nn : Int), (nn = mcn bits (m31 (f 8))) → GO p l e (rmD 2 0 0) s mm args below meth c 6 D A A 0 0 (MX below D A (pI fun z w => ∃ f' g', sm_marks f g bits z f' g' ∧ w = mW D h f' g') xN args s (0) (0)) (mW D h (up f 1 0) g) 37 [(0, .ref (h 36)), (1, .int (iI bits)), (2, .int (iI nn))] [] := by
    intro nn hn9
    have hnr := mcn_rg (bits := bits) hm31.1
    refine g_iload_n C dX3_marks_37 rfl 2 rfl ?_
    refine g_bipush C dX3_marks_38 (z := 10) rfl ?_
    refine g_icmp_le C (tgt := 45) dX3_marks_40 (by decide) (by omega) (by omega) (fun hc40_2 => ?_) (fun hc40_2 => ?_)
    ·
      refine g_iconst C dX3_marks_45 ?_
      refine g_istore_n C dX3_marks_46 rfl (lv' := [(0, .ref (h 36)), (1, .int (iI bits)), (2, .int (iI nn)), (3, .int (iI 0))]) [1, 2, 3, 0] rfl (Nat.le_of_ble_eq_true rfl) ?_
      have L3 : ∀ (n : Nat) (k : Int) (y34 : Int → Int) (y35 : Int → Int), (0 ≤ k ∧ k ≤ 30) → (∀ j, 0 ≤ j → j < k → y34 j = j) → (∀ j, 0 ≤ j → j < k → y35 j = 0) → (30 - k).toNat < n → GO p l e (rmD 2 0 0) s mm args below meth c 6 D A A 0 0 (MX below D A (pI fun z w => ∃ f' g', sm_marks f g bits z f' g' ∧ w = mW D h f' g') xN args s (0) (0)) (mW D h (up f 1 0) (ug (ug g 34 y34) 35 y35)) 47 [(0, .ref (h 36)), (1, .int (iI bits)), (2, .int (iI nn)), (3, .int (iI k))] [] := by
        intro n
        induction n with
        | zero => intro k y34 y35 hk h34 h35 hm; exact absurd hm (Nat.not_lt_zero _)
        | succ n ih3 =>
          intro k y34 y35 hk h34 h35 hm3
          refine g_iload_n C dX3_marks_47 rfl 3 rfl ?_
          refine g_bipush C dX3_marks_48 (z := 30) rfl ?_
          refine g_icmp_ge C (tgt := 73) dX3_marks_50 (by decide) (by omega) (by omega) (fun hc50_4 => ?_) (fun hc50_4 => ?_)
          ·
            refine g_iconst C dX3_marks_73 ?_
            refine g_istore_n C dX3_marks_74 rfl (lv' := [(0, .ref (h 36)), (1, .int (iI bits)), (2, .int (iI nn)), (3, .int (iI 0))]) [1, 2, 3, 0] rfl (Nat.le_of_ble_eq_true rfl) ?_
            have L5 : ∀ (n : Nat) (i : Int) (y34 : Int → Int), (0 ≤ i ∧ i ≤ f 2 - 1) → (GI (LkP (f 3) (g 12) i 0) y34) → (f 2 - i).toNat < n → GO p l e (rmD 2 0 0) s mm args below meth c 6 D A A 0 0 (MX below D A (pI fun z w => ∃ f' g', sm_marks f g bits z f' g' ∧ w = mW D h f' g') xN args s (0) (0)) (mW D h (up f 1 0) (ug (ug g 34 y34) 35 y35)) 75 [(0, .ref (h 36)), (1, .int (iI bits)), (2, .int (iI nn)), (3, .int (iI i))] [] := by
              intro n
              induction n with
              | zero => intro i y34 hi hG0 hm; exact absurd hm (Nat.not_lt_zero _)
              | succ n ih5 =>
                intro i y34 hi hG0 hm5
                refine g_iload_n C dX3_marks_75 rfl 3 rfl ?_
                refine g_iconst C dX3_marks_76 ?_
                refine g_iadd C dX3_marks_77 ?_
                refine g_aload_n C dX3_marks_78 rfl 0 rfl ?_
                refine gm_get2 C (v := f 2) rfl dX3_marks_79 ?_
                refine g_icmp_ge C (tgt := 140) dX3_marks_82 (by decide) (by omega) (by omega) (fun hc82_6 => ?_) (fun hc82_6 => ?_)
                ·
                  have hG1 : GI (LkE (f 2) (f 3) (g 12)) y34 := GI_cg hG0 (fun a b => by rw [show i = f 2 - 1 by omega]; exact LkP_E hF.1 a b)
                  obtain ⟨G1, hG1e⟩ : ∃ G1, G1 = y34 := ⟨_, rfl⟩
                  subst hG1e
                  have hgrr : ∀ x, (0 ≤ x ∧ x < 30) → 0 ≤ G1 x ∧ G1 x < 30 := fun x hx => hG1.2.1 x hx
                  refine g_iconst C dX3_marks_140 ?_
                  have J7 : ∀ (e35 : Int → Int), (∀ j, 0 ≤ j → j < 30 → e35 j = enS (g 14) (g 15) (g 16) bits G1 (m31 (f 8)) j) → GO p l e (rmD 2 0 0) s mm args below meth c 6 D A A 0 0 (MX below D A (pI fun z w => ∃ f' g', sm_marks f g bits z f' g' ∧ w = mW D h f' g') xN args s (0) (0)) (mW D h (up f 1 0) (ug (ug g 34 G1) 35 e35)) 240 [(0, .ref (h 36)), (1, .int (iI bits)), (2, .int (iI nn))] [] := by
                    intro e35 he9
                    refine g_iconst C dX3_marks_240 ?_
                    refine g_istore_n C dX3_marks_241 rfl (lv' := [(0, .ref (h 36)), (1, .int (iI bits)), (2, .int (iI nn)), (3, .int (iI 0))]) [1, 2, 3, 0] rfl (Nat.le_of_ble_eq_true rfl) ?_
                    have L8 : ∀ (n : Nat) (k : Int), (0 ≤ k ∧ k ≤ 30) → (∀ j, 0 ≤ j → j < k → e35 j % 2 ≠ 1) → (30 - k).toNat < n → GO p l e (rmD 2 0 0) s mm args below meth c 6 D A A 0 0 (MX below D A (pI fun z w => ∃ f' g', sm_marks f g bits z f' g' ∧ w = mW D h f' g') xN args s (0) (0)) (mW D h (up f 1 0) (ug (ug g 34 G1) 35 e35)) 242 [(0, .ref (h 36)), (1, .int (iI bits)), (2, .int (iI nn)), (3, .int (iI k))] [] := by
                      intro n
                      induction n with
                      | zero => intro k hk hev hm; exact absurd hm (Nat.not_lt_zero _)
                      | succ n ih8 =>
                        intro k hk hev hm8
                        refine g_iload_n C dX3_marks_242 rfl 3 rfl ?_
                        refine g_bipush C dX3_marks_243 (z := 30) rfl ?_
                        refine g_icmp_ge C (tgt := 268) dX3_marks_245 (by decide) (by omega) (by omega) (fun hc245_9 => ?_) (fun hc245_9 => ?_)
                        ·
                          have hEV := (EV_iff hG1 hnm).mp (fun j h0 h1 => by rw [← he9 j h0 h1]; exact hev j h0 (by omega))
                          refine g_iconst C dX3_marks_268 ?_
                          refine g_istore_n C dX3_marks_269 rfl (lv' := [(0, .ref (h 36)), (1, .int (iI bits)), (2, .int (iI nn)), (3, .int (iI (-1)))]) [1, 2, 3, 0] rfl (Nat.le_of_ble_eq_true rfl) ?_
                          have J10 : ∀ (at_ : Int) (G2 : Int → Int), (GI (fun x y => LkE (f 2) (f 3) (g 12) x y ∨ MkE (f 8) (g 14) (g 15) (g 16) bits 31 x y) G2) → ((at_ = -1 ∧ ∀ q, ¬ mks (f 8) bits q) ∨ ∃ q, mks (f 8) bits q ∧ at_ = nA (g 14) (g 15) q) → GO p l e (rmD 2 0 0) s mm args below meth c 6 D A A 0 0 (MX below D A (pI fun z w => ∃ f' g', sm_marks f g bits z f' g' ∧ w = mW D h f' g') xN args s (0) (0)) (mW D h (up f 1 0) (ug (ug g 34 G2) 35 e35)) 351 [(0, .ref (h 36)), (1, .int (iI bits)), (2, .int (iI nn)), (3, .int (iI at_))] [] := by
                            intro at_ G2 hG2 hat
                            refine g_iconst C dX3_marks_351 ?_
                            refine g_istore C dX3_marks_352 (lv' := [(0, .ref (h 36)), (1, .int (iI bits)), (2, .int (iI nn)), (3, .int (iI at_)), (4, .int (iI 0))]) [1, 2, 3, 4, 0] rfl (Nat.le_of_ble_eq_true rfl) ?_
                            have L11 : ∀ (n : Nat) (k : Int), (0 ≤ k ∧ k ≤ f 8 ∧ k ≤ 31) → (∀ q, mks (f 8) bits q → q < k → G2 (nA (g 14) (g 15) q) = G2 at_) → (f 8 - k).toNat < n → GO p l e (rmD 2 0 0) s mm args below meth c 6 D A A 0 0 (MX below D A (pI fun z w => ∃ f' g', sm_marks f g bits z f' g' ∧ w = mW D h f' g') xN args s (0) (0)) (mW D h (up f 1 0) (ug (ug g 34 G2) 35 e35)) 354 [(0, .ref (h 36)), (1, .int (iI bits)), (2, .int (iI nn)), (3, .int (iI at_)), (4, .int (iI k))] [] := by
                              intro n
                              induction n with
                              | zero => intro k hk hok hm; exact absurd hm (Nat.not_lt_zero _)
                              | succ n ih11 =>
                                intro k hk hok hm11
                                refine g_iload C dX3_marks_354 4 rfl ?_
                                refine g_aload_n C dX3_marks_356 rfl 0 rfl ?_
                                refine gm_get8 C (v := f 8) rfl dX3_marks_357 ?_
                                refine g_icmp_ge C (tgt := 420) dX3_marks_360 (by decide) (by omega) (by omega) (fun hc360_12 => ?_) (fun hc360_12 => ?_)
                                ·
                                  refine g_iconst C dX3_marks_420 ?_
                                  exact g_iret C dX3_marks_421 rfl (Nat.le_of_ble_eq_true rfl) (Nat.le_of_ble_eq_true rfl) ⟨_, rfl, _, _, ⟨G2, e35, (bP_t ⟨by omega, hEV, fun p q hp hq => (hG2.2.2 _ _ (hnm p hp.1.1 (by have := hp.1; unfold m31; split <;> omega)).1 (hnm q hq.1.1 (by have := hq.1; unfold m31; split <;> omega)).1).mp ((hok p hp (by have := hp.1; omega)).trans (hok q hq (by have := hq.1; omega)).symm)⟩).symm, rfl, rfl⟩, rfl⟩
                                ·
                                  refine g_iload C dX3_marks_363 4 rfl ?_
                                  refine g_bipush C dX3_marks_365 (z := 31) rfl ?_
                                  refine g_icmp_ge C (tgt := 420) dX3_marks_367 (by decide) (by omega) (by omega) (fun hc367_13 => ?_) (fun hc367_13 => ?_)
                                  ·
                                    refine g_iconst C dX3_marks_420 ?_
                                    exact g_iret C dX3_marks_421 rfl (Nat.le_of_ble_eq_true rfl) (Nat.le_of_ble_eq_true rfl) ⟨_, rfl, _, _, ⟨G2, e35, (bP_t ⟨by omega, hEV, fun p q hp hq => (hG2.2.2 _ _ (hnm p hp.1.1 (by have := hp.1; unfold m31; split <;> omega)).1 (hnm q hq.1.1 (by have := hq.1; unfold m31; split <;> omega)).1).mp ((hok p hp (by have := hp.1; omega)).trans (hok q hq (by have := hq.1; omega)).symm)⟩).symm, rfl, rfl⟩, rfl⟩
                                  ·
                                    have hmr := mkb_rg bits k
                                    unfold mkb at hmr
                                    have hpp := hpt k (by omega) (by omega)
                                    have hpxx := hpx k (by omega) (by omega)
                                    refine g_iload_n C dX3_marks_370 rfl 1 rfl ?_
                                    refine g_iload C dX3_marks_371 4 rfl ?_
                                    refine g_ishr C dX3_marks_373 (z := shrI bits k) (iI_of _).symm ?_
                                    refine g_iconst C dX3_marks_374 ?_
                                    refine g_iand C dX3_marks_375 (z := andI (shrI bits k) 1) (iI_of _).symm ?_
                                    refine g_iconst C dX3_marks_376 ?_
                                    refine g_icmp_ne C (tgt := 414) dX3_marks_377 (by decide) (by omega) (by omega) (fun hc377_14 => ?_) (fun hc377_14 => ?_)
                                    ·
                                      refine g_iinc C dX3_marks_414 4 rfl (lv' := [(0, .ref (h 36)), (1, .int (iI bits)), (2, .int (iI nn)), (3, .int (iI at_)), (4, .int (iI (k + 1)))]) [1, 2, 3, 4, 0] rfl (Nat.le_of_ble_eq_true rfl) ?_
                                      refine g_goto C (tgt := 354) dX3_marks_417 (by decide) ?_
                                      exact ih11 (k + 1) (by omega) (fun q hq hqk => by by_cases e9 : q = k; (subst e9; first | exact (by assumption) | (exfalso; have := hq.2; unfold mkb at this; omega)); exact hok q hq (by omega)) (by omega)
                                    ·
                                      have hmk : mks (f 8) bits k := ⟨by omega, by unfold mkb; omega⟩
                                      have hnk := (hnm k hk.1 (by unfold m31; split <;> omega)).1
                                      unfold In30 nA at hnk
                                      have hgk : 0 ≤ G2 (6 * g 14 k + g 15 k) ∧ G2 (6 * g 14 k + g 15 k) < 30 := hG2.2.1 _ hnk
                                      have hatr : 0 ≤ at_ ∧ at_ < 30 := by rcases hat with ⟨-, h⟩ | ⟨q, hq, h⟩; exact absurd hmk (h k); rw [h]; exact (hnm q hq.1.1 (by have := hq.1; unfold m31; split <;> omega)).1
                                      have hgat : 0 ≤ G2 at_ ∧ G2 at_ < 30 := hG2.2.1 _ hatr
                                      refine g_aload_n C dX3_marks_380 rfl 0 rfl ?_
                                      refine gm_get34 C dX3_marks_381 ?_
                                      refine g_bipush C dX3_marks_384 (z := 6) rfl ?_
                                      refine g_aload_n C dX3_marks_386 rfl 0 rfl ?_
                                      refine gm_get14 C dX3_marks_387 ?_
                                      refine g_iload C dX3_marks_390 4 rfl ?_
                                      refine gm_ald14 C (v := (g 14) k) rfl dX3_marks_392 (by omega) ?_
                                      have hf15 := hpt (k) (by omega) (by omega)
                                      refine g_imul C dX3_marks_393 ?_
                                      refine g_aload_n C dX3_marks_394 rfl 0 rfl ?_
                                      refine gm_get15 C dX3_marks_395 ?_
                                      refine g_iload C dX3_marks_398 4 rfl ?_
                                      refine gm_ald15 C (v := (g 15) k) rfl dX3_marks_400 (by omega) ?_
                                      have hf16 := hpt (k) (by omega) (by omega)
                                      refine g_iadd C dX3_marks_401 ?_
                                      refine gm_ald34 C (v := G2 ((6 * ((g 14) k)) + ((g 15) k))) rfl dX3_marks_402 (by omega) ?_
                                      refine g_aload_n C dX3_marks_403 rfl 0 rfl ?_
                                      refine gm_get34 C dX3_marks_404 ?_
                                      refine g_iload_n C dX3_marks_407 rfl 3 rfl ?_
                                      refine gm_ald34 C (v := G2 at_) rfl dX3_marks_408 (by omega) ?_
                                      refine g_icmp_eq C (tgt := 414) dX3_marks_409 (by decide) (by omega) (by omega) (fun hc409_17 => ?_) (fun hc409_17 => ?_)
                                      ·
                                        refine g_iinc C dX3_marks_414 4 rfl (lv' := [(0, .ref (h 36)), (1, .int (iI bits)), (2, .int (iI nn)), (3, .int (iI at_)), (4, .int (iI (k + 1)))]) [1, 2, 3, 4, 0] rfl (Nat.le_of_ble_eq_true rfl) ?_
                                        refine g_goto C (tgt := 354) dX3_marks_417 (by decide) ?_
                                        exact ih11 (k + 1) (by omega) (fun q hq hqk => by by_cases e9 : q = k; (subst e9; first | exact (by assumption) | (exfalso; have := hq.2; unfold mkb at this; omega)); exact hok q hq (by omega)) (by omega)
                                      ·
                                        refine g_iconst C dX3_marks_412 ?_
                                        exact g_iret C dX3_marks_413 rfl (Nat.le_of_ble_eq_true rfl) (Nat.le_of_ble_eq_true rfl) ⟨_, rfl, _, _, ⟨G2, e35, (bP_f (fun q => by rcases hat with ⟨-, h⟩ | ⟨p, hp, h⟩; exact h k hmk; have := (hG2.2.2 _ _ hnk hatr).mpr (by rw [h]; exact q.2.2 k p hmk hp); omega)).symm, rfl, rfl⟩, rfl⟩
                            exact L11 _ 0 (by omega) (fun q hq h => by have := hq.1.1; omega) (Nat.lt_succ_self _)
                          refine g_iconst C dX3_marks_270 ?_
                          refine g_istore C dX3_marks_271 (lv' := [(0, .ref (h 36)), (1, .int (iI bits)), (2, .int (iI nn)), (3, .int (iI (-1))), (4, .int (iI 0))]) [1, 2, 3, 4, 0] rfl (Nat.le_of_ble_eq_true rfl) ?_
                          have L18 : ∀ (n : Nat) (k : Int) (at_ : Int) (G2 : Int → Int), (0 ≤ k ∧ k ≤ f 8 ∧ k ≤ 31) → (GI (fun x y => LkE (f 2) (f 3) (g 12) x y ∨ MkE (f 8) (g 14) (g 15) (g 16) bits k x y) G2) → ((at_ = -1 ∧ ∀ q, mks (f 8) bits q → ¬ q < k) ∨ ∃ q, mks (f 8) bits q ∧ q < k ∧ at_ = nA (g 14) (g 15) q) → (f 8 - k).toNat < n → GO p l e (rmD 2 0 0) s mm args below meth c 6 D A A 0 0 (MX below D A (pI fun z w => ∃ f' g', sm_marks f g bits z f' g' ∧ w = mW D h f' g') xN args s (0) (0)) (mW D h (up f 1 0) (ug (ug g 34 G2) 35 e35)) 273 [(0, .ref (h 36)), (1, .int (iI bits)), (2, .int (iI nn)), (3, .int (iI at_)), (4, .int (iI k))] [] := by
                            intro n
                            induction n with
                            | zero => intro k at_ G2 hk hG hat hm; exact absurd hm (Nat.not_lt_zero _)
                            | succ n ih18 =>
                              intro k at_ G2 hk hG hat hm18
                              refine g_iload C dX3_marks_273 4 rfl ?_
                              refine g_aload_n C dX3_marks_275 rfl 0 rfl ?_
                              refine gm_get8 C (v := f 8) rfl dX3_marks_276 ?_
                              refine g_icmp_ge C (tgt := 351) dX3_marks_279 (by decide) (by omega) (by omega) (fun hc279_19 => ?_) (fun hc279_19 => ?_)
                              ·
                                refine g_lv [0, 1, 2, 3] rfl ?_
                                exact J10 at_ G2 (GI_cg hG (MkE_31 (by rw [(show m31 (f 8) = k by unfold m31; split <;> omega)]; exact Int.le_refl _))) (hat.imp (fun h => ⟨h.1, fun q hq => h.2 q hq (by have := hq.1; omega)⟩) (fun ⟨q, h1, _, h3⟩ => ⟨q, h1, h3⟩))
                              ·
                                refine g_iload C dX3_marks_282 4 rfl ?_
                                refine g_bipush C dX3_marks_284 (z := 31) rfl ?_
                                refine g_icmp_ge C (tgt := 351) dX3_marks_286 (by decide) (by omega) (by omega) (fun hc286_20 => ?_) (fun hc286_20 => ?_)
                                ·
                                  refine g_lv [0, 1, 2, 3] rfl ?_
                                  exact J10 at_ G2 (GI_cg hG (MkE_31 (by rw [(show m31 (f 8) = k by unfold m31; split <;> omega)]; exact Int.le_refl _))) (hat.imp (fun h => ⟨h.1, fun q hq => h.2 q hq (by have := hq.1; omega)⟩) (fun ⟨q, h1, _, h3⟩ => ⟨q, h1, h3⟩))
                                ·
                                  have hmr := mkb_rg bits k
                                  unfold mkb at hmr
                                  have hpp := hpt k (by omega) (by omega)
                                  have hpxx := hpx k (by omega) (by omega)
                                  refine g_iload_n C dX3_marks_289 rfl 1 rfl ?_
                                  refine g_iload C dX3_marks_290 4 rfl ?_
                                  refine g_ishr C dX3_marks_292 (z := shrI bits k) (iI_of _).symm ?_
                                  refine g_iconst C dX3_marks_293 ?_
                                  refine g_iand C dX3_marks_294 (z := andI (shrI bits k) 1) (iI_of _).symm ?_
                                  refine g_if_ne C (tgt := 301) dX3_marks_295 (by decide) (by omega) (fun hc295_21 => ?_) (fun hc295_21 => ?_)
                                  ·
                                    refine g_bipush C dX3_marks_301 (z := 6) rfl ?_
                                    refine g_aload_n C dX3_marks_303 rfl 0 rfl ?_
                                    refine gm_get14 C dX3_marks_304 ?_
                                    refine g_iload C dX3_marks_307 4 rfl ?_
                                    refine gm_ald14 C (v := (g 14) k) rfl dX3_marks_309 (by omega) ?_
                                    have hf22 := hpt (k) (by omega) (by omega)
                                    refine g_imul C dX3_marks_310 ?_
                                    refine g_aload_n C dX3_marks_311 rfl 0 rfl ?_
                                    refine gm_get15 C dX3_marks_312 ?_
                                    refine g_iload C dX3_marks_315 4 rfl ?_
                                    refine gm_ald15 C (v := (g 15) k) rfl dX3_marks_317 (by omega) ?_
                                    have hf23 := hpt (k) (by omega) (by omega)
                                    refine g_iadd C dX3_marks_318 ?_
                                    refine g_istore C dX3_marks_319 (lv' := [(0, .ref (h 36)), (1, .int (iI bits)), (2, .int (iI nn)), (3, .int (iI at_)), (4, .int (iI k)), (5, .int (iI ((6 * ((g 14) k)) + ((g 15) k))))]) [1, 2, 3, 4, 5, 0] rfl (Nat.le_of_ble_eq_true rfl) ?_
                                    have hnk := hnm k hk.1 (by unfold m31; split <;> omega)
                                    have hmk : mks (f 8) bits k := ⟨by omega, by unfold mkb; omega⟩
                                    refine g_aload_n C dX3_marks_321 rfl 0 rfl ?_
                                    refine gm_get16 C dX3_marks_322 ?_
                                    refine g_iload C dX3_marks_325 4 rfl ?_
                                    refine gm_ald16 C (v := (g 16) k) rfl dX3_marks_327 (by omega) ?_
                                    have hf24 := hpt (k) (by omega) (by omega)
                                    refine g_iconst C dX3_marks_328 ?_
                                    refine g_icmp_eq C (tgt := 342) dX3_marks_329 (by decide) (by omega) (by omega) (fun hc329_25 => ?_) (fun hc329_25 => ?_)
                                    ·
                                      refine g_iload C dX3_marks_342 5 rfl ?_
                                      refine g_istore_n C dX3_marks_344 rfl (lv' := [(0, .ref (h 36)), (1, .int (iI bits)), (2, .int (iI nn)), (3, .int (iI ((6 * ((g 14) k)) + ((g 15) k)))), (4, .int (iI k)), (5, .int (iI ((6 * ((g 14) k)) + ((g 15) k))))]) [1, 2, 3, 0, 4, 5] rfl (Nat.le_of_ble_eq_true rfl) ?_
                                      refine g_iinc C dX3_marks_345 4 rfl (lv' := [(0, .ref (h 36)), (1, .int (iI bits)), (2, .int (iI nn)), (3, .int (iI ((6 * ((g 14) k)) + ((g 15) k)))), (4, .int (iI (k + 1))), (5, .int (iI ((6 * ((g 14) k)) + ((g 15) k))))]) [1, 2, 3, 4, 0, 5] rfl (Nat.le_of_ble_eq_true rfl) ?_
                                      refine g_goto C (tgt := 273) dX3_marks_348 (by decide) ?_
                                      refine g_lv [0, 1, 2, 3, 4] rfl ?_
                                      exact ih18 (k + 1) ((6 * ((g 14) k)) + ((g 15) k)) G2 (by omega) (GI_l hG (hnk.1) (fun x y => (MkE_y hmk x y).trans (by rw [show nB (g 14) (g 15) (g 16) k = nA (g 14) (g 15) k by unfold nB nA; rw [if_pos (by omega)]]))) (Or.inr ⟨k, hmk, by omega, rfl⟩) (by omega)
                                    ·
                                      have hnb9 : nB (g 14) (g 15) (g 16) k = 6 * g 14 k + g 15 k + 1 := by unfold nB; rw [if_neg (by omega)]
                                      have hnk3 := hnk.1
                                      have hnk4 := hnk.2
                                      rw [hnb9] at hnk4
                                      unfold In30 nA at hnk3
                                      unfold In30 at hnk4
                                      refine g_aload_n C dX3_marks_332 rfl 0 rfl ?_
                                      refine g_iload C dX3_marks_333 5 rfl ?_
                                      refine g_iload C dX3_marks_335 5 rfl ?_
                                      refine g_iconst C dX3_marks_337 ?_
                                      refine g_iadd C dX3_marks_338 ?_
                                      refine kX3_X3_join ((6 * ((g 14) k)) + ((g 15) k)) (((6 * ((g 14) k)) + ((g 15) k)) + 1) C hG.2.1 ⟨by omega, by omega⟩ ⟨by omega, by omega⟩ ⟨Nat.le_of_ble_eq_true rfl, Nat.le_of_ble_eq_true rfl⟩ (Nat.le_of_ble_eq_true rfl) ⟨Nat.le_of_ble_eq_true rfl, Nat.le_of_ble_eq_true rfl⟩ dX3_marks_339 ?_
                                      refine g_ws (ws' := mW D h (up f 1 0) (ug (ug g 34 (jn (G2) ((6 * ((g 14) k)) + ((g 15) k)) (((6 * ((g 14) k)) + ((g 15) k)) + 1))) 35 e35)) rfl ?_
                                      refine g_iload C dX3_marks_342 5 rfl ?_
                                      refine g_istore_n C dX3_marks_344 rfl (lv' := [(0, .ref (h 36)), (1, .int (iI bits)), (2, .int (iI nn)), (3, .int (iI ((6 * ((g 14) k)) + ((g 15) k)))), (4, .int (iI k)), (5, .int (iI ((6 * ((g 14) k)) + ((g 15) k))))]) [1, 2, 3, 0, 4, 5] rfl (Nat.le_of_ble_eq_true rfl) ?_
                                      refine g_iinc C dX3_marks_345 4 rfl (lv' := [(0, .ref (h 36)), (1, .int (iI bits)), (2, .int (iI nn)), (3, .int (iI ((6 * ((g 14) k)) + ((g 15) k)))), (4, .int (iI (k + 1))), (5, .int (iI ((6 * ((g 14) k)) + ((g 15) k))))]) [1, 2, 3, 4, 0, 5] rfl (Nat.le_of_ble_eq_true rfl) ?_
                                      refine g_goto C (tgt := 273) dX3_marks_348 (by decide) ?_
                                      refine g_lv [0, 1, 2, 3, 4] rfl ?_
                                      exact ih18 (k + 1) ((6 * ((g 14) k)) + ((g 15) k)) (jn (G2) ((6 * ((g 14) k)) + ((g 15) k)) (((6 * ((g 14) k)) + ((g 15) k)) + 1)) (by omega) (GI_j hG hnk.1 (show In30 (6 * g 14 k + g 15 k + 1) from by have := hnk.2; rw [hnb9] at this; exact this) (fun x y => (MkE_y hmk x y).trans (by rw [hnb9]; exact Iff.rfl))) (Or.inr ⟨k, hmk, by omega, rfl⟩) (by omega)
                                  ·
                                    refine g_goto C (tgt := 345) dX3_marks_298 (by decide) ?_
                                    refine g_iinc C dX3_marks_345 4 rfl (lv' := [(0, .ref (h 36)), (1, .int (iI bits)), (2, .int (iI nn)), (3, .int (iI at_)), (4, .int (iI (k + 1)))]) [1, 2, 3, 4, 0] rfl (Nat.le_of_ble_eq_true rfl) ?_
                                    refine g_goto C (tgt := 273) dX3_marks_348 (by decide) ?_
                                    exact ih18 (k + 1) at_ G2 (by omega) (GI_cg hG (MkE_n (fun z => by have := z.2; unfold mkb at this; omega))) (hat.imp (fun h => ⟨h.1, fun q hq hqk => h.2 q hq (by by_cases e9 : q = k; (subst e9; have := hq.2; unfold mkb at this; omega); omega)⟩) (fun ⟨q, h1, h2, h3⟩ => ⟨q, h1, by omega, h3⟩)) (by omega)
                          exact L18 _ 0 (-1) G1 (by omega) (GI_cg hG1 MkE_0) (Or.inl ⟨rfl, fun q hq h => by have := hq.1.1; omega⟩) (Nat.lt_succ_self _)
                        ·
                          refine g_aload_n C dX3_marks_248 rfl 0 rfl ?_
                          refine gm_get35 C dX3_marks_249 ?_
                          refine g_iload_n C dX3_marks_252 rfl 3 rfl ?_
                          have her := enS_rg (pf := g 14) (ps := g 15) (pk := g 16) (bits := bits) (G := G1) (k := k) hm31.1
                          have hek := he9 k hk.1 (by omega)
                          refine gm_ald35 C (v := e35 k) rfl dX3_marks_253 (by omega) ?_
                          refine g_iconst C dX3_marks_254 ?_
                          refine g_irem C dX3_marks_255 (by omega) (by omega) ?_
                          refine g_iconst C dX3_marks_256 ?_
                          refine g_icmp_ne C (tgt := 262) dX3_marks_257 (by decide) (by omega) (by omega) (fun hc257_26 => ?_) (fun hc257_26 => ?_)
                          ·
                            refine g_iinc C dX3_marks_262 3 rfl (lv' := [(0, .ref (h 36)), (1, .int (iI bits)), (2, .int (iI nn)), (3, .int (iI (k + 1)))]) [1, 2, 3, 0] rfl (Nat.le_of_ble_eq_true rfl) ?_
                            refine g_goto C (tgt := 242) dX3_marks_265 (by decide) ?_
                            exact ih8 (k + 1) (by omega) (fun j h0 h1 => by by_cases e9 : j = k; (subst e9; omega); exact hev j h0 (by omega)) (by omega)
                          ·
                            refine g_iconst C dX3_marks_260 ?_
                            exact g_iret C dX3_marks_261 rfl (Nat.le_of_ble_eq_true rfl) (Nat.le_of_ble_eq_true rfl) ⟨_, rfl, _, _, ⟨G1, e35, (bP_f (fun q => (EV_iff hG1 hnm).mpr q.2.1 k hk.1 (by omega) (by rw [← hek]; omega))).symm, rfl, rfl⟩, rfl⟩
                    exact L8 _ 0 (by omega) (fun j h0 h1 => absurd h1 (by omega)) (Nat.lt_succ_self _)
                  refine g_istore_n C dX3_marks_141 rfl (lv' := [(0, .ref (h 36)), (1, .int (iI bits)), (2, .int (iI nn)), (3, .int (iI 0))]) [1, 2, 3, 0] rfl (Nat.le_of_ble_eq_true rfl) ?_
                  have L27 : ∀ (n : Nat) (k : Int) (y35 : Int → Int), (0 ≤ k ∧ k ≤ f 8 ∧ k ≤ 31) → (∀ j, 0 ≤ j → j < 30 → y35 j = enS (g 14) (g 15) (g 16) bits G1 k j) → (f 8 - k).toNat < n → GO p l e (rmD 2 0 0) s mm args below meth c 6 D A A 0 0 (MX below D A (pI fun z w => ∃ f' g', sm_marks f g bits z f' g' ∧ w = mW D h f' g') xN args s (0) (0)) (mW D h (up f 1 0) (ug (ug g 34 G1) 35 y35)) 142 [(0, .ref (h 36)), (1, .int (iI bits)), (2, .int (iI nn)), (3, .int (iI k))] [] := by
                    intro n
                    induction n with
                    | zero => intro k y35 hk he hm; exact absurd hm (Nat.not_lt_zero _)
                    | succ n ih27 =>
                      intro k y35 hk he hm27
                      refine g_iload_n C dX3_marks_142 rfl 3 rfl ?_
                      refine g_aload_n C dX3_marks_143 rfl 0 rfl ?_
                      refine gm_get8 C (v := f 8) rfl dX3_marks_144 ?_
                      refine g_icmp_ge C (tgt := 240) dX3_marks_147 (by decide) (by omega) (by omega) (fun hc147_28 => ?_) (fun hc147_28 => ?_)
                      ·
                        refine g_lv [0, 1, 2] rfl ?_
                        exact J7 y35 (by rw [(show m31 (f 8) = k by unfold m31; split <;> omega)]; exact he)
                      ·
                        refine g_iload_n C dX3_marks_150 rfl 3 rfl ?_
                        refine g_bipush C dX3_marks_151 (z := 31) rfl ?_
                        refine g_icmp_ge C (tgt := 240) dX3_marks_153 (by decide) (by omega) (by omega) (fun hc153_29 => ?_) (fun hc153_29 => ?_)
                        ·
                          refine g_lv [0, 1, 2] rfl ?_
                          exact J7 y35 (by rw [(show m31 (f 8) = k by unfold m31; split <;> omega)]; exact he)
                        ·
                          have hmr := mkb_rg bits k
                          unfold mkb at hmr
                          have hpp := hpt k (by omega) (by omega)
                          have hpxx := hpx k (by omega) (by omega)
                          refine g_iload_n C dX3_marks_156 rfl 1 rfl ?_
                          refine g_iload_n C dX3_marks_157 rfl 3 rfl ?_
                          refine g_ishr C dX3_marks_158 (z := shrI bits k) (iI_of _).symm ?_
                          refine g_iconst C dX3_marks_159 ?_
                          refine g_iand C dX3_marks_160 (z := andI (shrI bits k) 1) (iI_of _).symm ?_
                          refine g_if_ne C (tgt := 167) dX3_marks_161 (by decide) (by omega) (fun hc161_30 => ?_) (fun hc161_30 => ?_)
                          ·
                            refine g_bipush C dX3_marks_167 (z := 6) rfl ?_
                            refine g_aload_n C dX3_marks_169 rfl 0 rfl ?_
                            refine gm_get14 C dX3_marks_170 ?_
                            refine g_iload_n C dX3_marks_173 rfl 3 rfl ?_
                            refine gm_ald14 C (v := (g 14) k) rfl dX3_marks_174 (by omega) ?_
                            have hf31 := hpt (k) (by omega) (by omega)
                            refine g_imul C dX3_marks_175 ?_
                            refine g_aload_n C dX3_marks_176 rfl 0 rfl ?_
                            refine gm_get15 C dX3_marks_177 ?_
                            refine g_iload_n C dX3_marks_180 rfl 3 rfl ?_
                            refine gm_ald15 C (v := (g 15) k) rfl dX3_marks_181 (by omega) ?_
                            have hf32 := hpt (k) (by omega) (by omega)
                            refine g_iadd C dX3_marks_182 ?_
                            refine g_istore C dX3_marks_183 (lv' := [(0, .ref (h 36)), (1, .int (iI bits)), (2, .int (iI nn)), (3, .int (iI k)), (4, .int (iI ((6 * ((g 14) k)) + ((g 15) k))))]) [1, 2, 3, 4, 0] rfl (Nat.le_of_ble_eq_true rfl) ?_
                            have hna := (hnm k hk.1 (by unfold m31; split <;> omega)).1
                            unfold In30 nA at hna
                            have hga := hgrr _ hna
                            have hyr := enS_rg (pf := g 14) (ps := g 15) (pk := g 16) (bits := bits) (G := G1) (k := G1 (6 * g 14 k + g 15 k)) hk.1
                            refine g_aload_n C dX3_marks_185 rfl 0 rfl ?_
                            refine gm_get35 C dX3_marks_186 ?_
                            refine g_aload_n C dX3_marks_189 rfl 0 rfl ?_
                            refine gm_get34 C dX3_marks_190 ?_
                            refine g_iload C dX3_marks_193 4 rfl ?_
                            refine gm_ald34 C (v := G1 ((6 * ((g 14) k)) + ((g 15) k))) rfl dX3_marks_195 (by omega) ?_
                            refine g_dup2 C dX3_marks_196 rfl rfl ?_
                            refine gm_ald35 C (v := y35 (G1 ((6 * ((g 14) k)) + ((g 15) k)))) rfl dX3_marks_197 (by omega) ?_
                            refine g_iconst C dX3_marks_198 ?_
                            refine g_iadd C dX3_marks_199 ?_
                            refine gm_ast35 C (g' := (ug (ug g 34 G1) 35 (uI y35 (G1 ((6 * ((g 14) k)) + ((g 15) k))) ((y35 (G1 ((6 * ((g 14) k)) + ((g 15) k)))) + 1)))) rfl dX3_marks_200 (by omega) ?_
                            refine g_aload_n C dX3_marks_201 rfl 0 rfl ?_
                            refine gm_get35 C dX3_marks_202 ?_
                            refine g_aload_n C dX3_marks_205 rfl 0 rfl ?_
                            refine gm_get34 C dX3_marks_206 ?_
                            have J33 : ∀ (bx : Int), (bx = nB (g 14) (g 15) (g 16) k) → GO p l e (rmD 2 0 0) s mm args below meth c 6 D A A 0 0 (MX below D A (pI fun z w => ∃ f' g', sm_marks f g bits z f' g' ∧ w = mW D h f' g') xN args s (0) (0)) (mW D h (up f 1 0) (ug (ug g 34 G1) 35 (uI y35 (G1 ((6 * ((g 14) k)) + ((g 15) k))) ((y35 (G1 ((6 * ((g 14) k)) + ((g 15) k)))) + 1)))) 228 [(0, .ref (h 36)), (1, .int (iI bits)), (2, .int (iI nn)), (3, .int (iI k)), (4, .int (iI ((6 * ((g 14) k)) + ((g 15) k))))] [.int (iI bx), .ref (h 34), .ref (h 35)] := by
                              intro bx hbx
                              have hbi := (hnm k hk.1 (by unfold m31; split <;> omega)).2
                              rw [← hbx] at hbi
                              unfold In30 at hbi
                              have hgb := hgrr bx hbi
                              refine gm_ald34 C (v := G1 bx) rfl dX3_marks_228 (by omega) ?_
                              refine g_dup2 C dX3_marks_229 rfl rfl ?_
                              refine gm_ald35 C (v := (uI y35 (G1 ((6 * ((g 14) k)) + ((g 15) k))) ((y35 (G1 ((6 * ((g 14) k)) + ((g 15) k)))) + 1)) (G1 bx)) rfl dX3_marks_230 (by omega) ?_
                              refine g_iconst C dX3_marks_231 ?_
                              refine g_iadd C dX3_marks_232 ?_
                              refine gm_ast35 C (g' := (ug (ug g 34 G1) 35 (uI (uI y35 (G1 ((6 * ((g 14) k)) + ((g 15) k))) ((y35 (G1 ((6 * ((g 14) k)) + ((g 15) k)))) + 1)) (G1 bx) (((uI y35 (G1 ((6 * ((g 14) k)) + ((g 15) k))) ((y35 (G1 ((6 * ((g 14) k)) + ((g 15) k)))) + 1)) (G1 bx)) + 1)))) rfl dX3_marks_233 (by omega) ?_
                              refine g_iinc C dX3_marks_234 3 rfl (lv' := [(0, .ref (h 36)), (1, .int (iI bits)), (2, .int (iI nn)), (3, .int (iI (k + 1))), (4, .int (iI ((6 * ((g 14) k)) + ((g 15) k))))]) [1, 2, 3, 0, 4] rfl (Nat.le_of_ble_eq_true rfl) ?_
                              refine g_goto C (tgt := 142) dX3_marks_237 (by decide) ?_
                              refine g_lv [0, 1, 2, 3] rfl ?_
                              exact ih27 (k + 1) (uI (uI y35 (G1 ((6 * ((g 14) k)) + ((g 15) k))) ((y35 (G1 ((6 * ((g 14) k)) + ((g 15) k)))) + 1)) (G1 bx) (((uI y35 (G1 ((6 * ((g 14) k)) + ((g 15) k))) ((y35 (G1 ((6 * ((g 14) k)) + ((g 15) k)))) + 1)) (G1 bx)) + 1)) (by omega) (fun j h0 h1 => by rw [enS_y hk.1 (by unfold mkb; omega), ← hbx]; exact inc2 (e := fun j => enS (g 14) (g 15) (g 16) bits G1 k j) he hga hgb j h0 h1) (by omega)
                            refine g_aload_n C dX3_marks_209 rfl 0 rfl ?_
                            refine gm_get16 C dX3_marks_210 ?_
                            refine g_iload_n C dX3_marks_213 rfl 3 rfl ?_
                            refine gm_ald16 C (v := (g 16) k) rfl dX3_marks_214 (by omega) ?_
                            have hf34 := hpt (k) (by omega) (by omega)
                            refine g_iconst C dX3_marks_215 ?_
                            refine g_icmp_ne C (tgt := 224) dX3_marks_216 (by decide) (by omega) (by omega) (fun hc216_35 => ?_) (fun hc216_35 => ?_)
                            ·
                              refine g_iload C dX3_marks_224 4 rfl ?_
                              refine g_iconst C dX3_marks_226 ?_
                              refine g_iadd C dX3_marks_227 ?_
                              exact J33 (((6 * ((g 14) k)) + ((g 15) k)) + 1) (by unfold nB; first | rw [if_pos (by omega)] | rw [if_neg (by omega)])
                            ·
                              refine g_iload C dX3_marks_219 4 rfl ?_
                              refine g_goto C (tgt := 228) dX3_marks_221 (by decide) ?_
                              exact J33 ((6 * ((g 14) k)) + ((g 15) k)) (by unfold nB; first | rw [if_pos (by omega)] | rw [if_neg (by omega)])
                          ·
                            refine g_goto C (tgt := 234) dX3_marks_164 (by decide) ?_
                            refine g_iinc C dX3_marks_234 3 rfl (lv' := [(0, .ref (h 36)), (1, .int (iI bits)), (2, .int (iI nn)), (3, .int (iI (k + 1)))]) [1, 2, 3, 0] rfl (Nat.le_of_ble_eq_true rfl) ?_
                            refine g_goto C (tgt := 142) dX3_marks_237 (by decide) ?_
                            exact ih27 (k + 1) y35 (by omega) (fun j h0 h1 => by rw [enS_n hk.1 (by unfold mkb; omega)]; exact he j h0 h1) (by omega)
                  exact L27 _ 0 y35 (by omega) (fun j h0 h1 => (h35 j h0 (by omega)).trans rfl) (Nat.lt_succ_self _)
                ·
                  refine g_iconst C dX3_marks_85 ?_
                  refine g_istore C dX3_marks_86 (lv' := [(0, .ref (h 36)), (1, .int (iI bits)), (2, .int (iI nn)), (3, .int (iI i)), (4, .int (iI 0))]) [1, 2, 3, 4, 0] rfl (Nat.le_of_ble_eq_true rfl) ?_
                  have L36 : ∀ (n : Nat) (k : Int) (y34 : Int → Int), (0 ≤ k ∧ k ≤ f 3) → (GI (LkP (f 3) (g 12) i k) y34) → (f 3 - k).toNat < n → GO p l e (rmD 2 0 0) s mm args below meth c 6 D A A 0 0 (MX below D A (pI fun z w => ∃ f' g', sm_marks f g bits z f' g' ∧ w = mW D h f' g') xN args s (0) (0)) (mW D h (up f 1 0) (ug (ug g 34 y34) 35 y35)) 88 [(0, .ref (h 36)), (1, .int (iI bits)), (2, .int (iI nn)), (3, .int (iI i)), (4, .int (iI k))] [] := by
                    intro n
                    induction n with
                    | zero => intro k y34 hk hG hm; exact absurd hm (Nat.not_lt_zero _)
                    | succ n ih36 =>
                      intro k y34 hk hG hm36
                      refine g_iload C dX3_marks_88 4 rfl ?_
                      refine g_aload_n C dX3_marks_90 rfl 0 rfl ?_
                      refine gm_get3 C (v := f 3) rfl dX3_marks_91 ?_
                      refine g_icmp_ge C (tgt := 134) dX3_marks_94 (by decide) (by omega) (by omega) (fun hc94_37 => ?_) (fun hc94_37 => ?_)
                      ·
                        refine g_iinc C dX3_marks_134 3 rfl (lv' := [(0, .ref (h 36)), (1, .int (iI bits)), (2, .int (iI nn)), (3, .int (iI (i + 1))), (4, .int (iI k))]) [1, 2, 3, 0, 4] rfl (Nat.le_of_ble_eq_true rfl) ?_
                        refine g_goto C (tgt := 75) dX3_marks_137 (by decide) ?_
                        refine g_lv [0, 1, 2, 3] rfl ?_
                        exact ih5 (i + 1) y34 (by omega) (GI_cg hG (fun a b => by rw [show k = f 3 by omega]; exact LkP_n a b)) (by omega)
                      ·
                        refine g_aload_n C dX3_marks_97 rfl 0 rfl ?_
                        refine gm_get12 C dX3_marks_98 ?_
                        refine g_iload C dX3_marks_101 4 rfl ?_
                        refine gm_ald12 C (v := (g 12) k) rfl dX3_marks_103 (by omega) ?_
                        have hf38 := hkd (k) (by omega) (by omega)
                        refine g_iconst C dX3_marks_104 ?_
                        refine g_icmp_ne C (tgt := 128) dX3_marks_105 (by decide) (by omega) (by omega) (fun hc105_39 => ?_) (fun hc105_39 => ?_)
                        ·
                          refine g_iinc C dX3_marks_128 4 rfl (lv' := [(0, .ref (h 36)), (1, .int (iI bits)), (2, .int (iI nn)), (3, .int (iI i)), (4, .int (iI (k + 1)))]) [1, 2, 3, 4, 0] rfl (Nat.le_of_ble_eq_true rfl) ?_
                          refine g_goto C (tgt := 88) dX3_marks_131 (by decide) ?_
                          exact ih36 (k + 1) y34 (by omega) (GI_cg hG (LkP_x (by omega))) (by omega)
                        ·
                          refine g_aload_n C dX3_marks_108 rfl 0 rfl ?_
                          refine g_bipush C dX3_marks_109 (z := 6) rfl ?_
                          refine g_iload_n C dX3_marks_111 rfl 3 rfl ?_
                          refine g_imul C dX3_marks_112 ?_
                          refine g_iload C dX3_marks_113 4 rfl ?_
                          refine g_iadd C dX3_marks_115 ?_
                          refine g_bipush C dX3_marks_116 (z := 6) rfl ?_
                          refine g_iload_n C dX3_marks_118 rfl 3 rfl ?_
                          refine g_iconst C dX3_marks_119 ?_
                          refine g_iadd C dX3_marks_120 ?_
                          refine g_imul C dX3_marks_121 ?_
                          refine g_iload C dX3_marks_122 4 rfl ?_
                          refine g_iadd C dX3_marks_124 ?_
                          refine kX3_X3_join ((6 * i) + k) ((6 * (i + 1)) + k) C hG.2.1 ⟨by omega, by omega⟩ ⟨by omega, by omega⟩ ⟨Nat.le_of_ble_eq_true rfl, Nat.le_of_ble_eq_true rfl⟩ (Nat.le_of_ble_eq_true rfl) ⟨Nat.le_of_ble_eq_true rfl, Nat.le_of_ble_eq_true rfl⟩ dX3_marks_125 ?_
                          refine g_ws (ws' := mW D h (up f 1 0) (ug (ug g 34 (jn (y34) ((6 * i) + k) ((6 * (i + 1)) + k))) 35 y35)) rfl ?_
                          refine g_iinc C dX3_marks_128 4 rfl (lv' := [(0, .ref (h 36)), (1, .int (iI bits)), (2, .int (iI nn)), (3, .int (iI i)), (4, .int (iI (k + 1)))]) [1, 2, 3, 4, 0] rfl (Nat.le_of_ble_eq_true rfl) ?_
                          refine g_goto C (tgt := 88) dX3_marks_131 (by decide) ?_
                          exact ih36 (k + 1) (jn (y34) ((6 * i) + k) ((6 * (i + 1)) + k)) (by omega) (GI_j hG ⟨by omega, by omega⟩ ⟨by omega, by omega⟩ (LkP_y (by omega) hk.1 (by omega) (by omega))) (by omega)
                  exact L36 _ 0 y34 (by omega) hG0 (Nat.lt_succ_self _)
            exact L5 _ 0 y34 (by omega) (GI_0 LkP_0 (fun x hx => h34 x hx.1 (by have := hx.2; omega))) (Nat.lt_succ_self _)
          ·
            refine g_aload_n C dX3_marks_53 rfl 0 rfl ?_
            refine gm_get34 C dX3_marks_54 ?_
            refine g_iload_n C dX3_marks_57 rfl 3 rfl ?_
            refine g_iload_n C dX3_marks_58 rfl 3 rfl ?_
            refine gm_ast34 C (g' := (ug (ug g 34 (uI y34 k k)) 35 y35)) rfl dX3_marks_59 (by omega) ?_
            refine g_aload_n C dX3_marks_60 rfl 0 rfl ?_
            refine gm_get35 C dX3_marks_61 ?_
            refine g_iload_n C dX3_marks_64 rfl 3 rfl ?_
            refine g_iconst C dX3_marks_65 ?_
            refine gm_ast35 C (g' := (ug (ug g 34 (uI y34 k k)) 35 (uI y35 k 0))) rfl dX3_marks_66 (by omega) ?_
            refine g_iinc C dX3_marks_67 3 rfl (lv' := [(0, .ref (h 36)), (1, .int (iI bits)), (2, .int (iI nn)), (3, .int (iI (k + 1)))]) [1, 2, 3, 0] rfl (Nat.le_of_ble_eq_true rfl) ?_
            refine g_goto C (tgt := 47) dX3_marks_70 (by decide) ?_
            exact ih3 (k + 1) (uI y34 k k) (uI y35 k 0) (by omega) (uI_all (P := fun j y => y = j) h34 rfl) (uI_all (P := fun j y => y = 0) h35 rfl) (by omega)
      exact L3 _ 0 (g 34) (g 35) (by omega) (fun j h0 h1 => absurd h1 (by omega)) (fun j h0 h1 => absurd h1 (by omega)) (Nat.lt_succ_self _)
    ·
      refine g_iconst C dX3_marks_43 ?_
      exact g_iret C dX3_marks_44 rfl (Nat.le_of_ble_eq_true rfl) (Nat.le_of_ble_eq_true rfl) ⟨_, rfl, _, _, ⟨g 34, g 35, (bP_f (fun q => by have := q.1; omega)).symm, rfl, rfl⟩, rfl⟩
  refine g_iconst C dX3_marks_7 ?_
  refine g_istore_n C dX3_marks_8 rfl (lv' := [(0, .ref (h 36)), (1, .int (iI bits)), (2, .int (iI 0)), (3, .int (iI 0))]) [1, 2, 3, 0] rfl (Nat.le_of_ble_eq_true rfl) ?_
  have L40 : ∀ (n : Nat) (k : Int) (nn : Int), (0 ≤ k ∧ k ≤ f 8 ∧ k ≤ 31) → (nn = mcn bits k) → (f 8 - k).toNat < n → GO p l e (rmD 2 0 0) s mm args below meth c 6 D A A 0 0 (MX below D A (pI fun z w => ∃ f' g', sm_marks f g bits z f' g' ∧ w = mW D h f' g') xN args s (0) (0)) (mW D h (up f 1 0) g) 9 [(0, .ref (h 36)), (1, .int (iI bits)), (2, .int (iI nn)), (3, .int (iI k))] [] := by
    intro n
    induction n with
    | zero => intro k nn hk hn hm; exact absurd hm (Nat.not_lt_zero _)
    | succ n ih40 =>
      intro k nn hk hn hm40
      have hnr := mcn_rg (bits := bits) hk.1
      refine g_iload_n C dX3_marks_9 rfl 3 rfl ?_
      refine g_aload_n C dX3_marks_10 rfl 0 rfl ?_
      refine gm_get8 C (v := f 8) rfl dX3_marks_11 ?_
      refine g_icmp_ge C (tgt := 37) dX3_marks_14 (by decide) (by omega) (by omega) (fun hc14_41 => ?_) (fun hc14_41 => ?_)
      ·
        refine g_lv [0, 1, 2] rfl ?_
        exact J1 nn (by rw [(show m31 (f 8) = k by unfold m31; split <;> omega), hn])
      ·
        refine g_iload_n C dX3_marks_17 rfl 3 rfl ?_
        refine g_bipush C dX3_marks_18 (z := 31) rfl ?_
        refine g_icmp_ge C (tgt := 37) dX3_marks_20 (by decide) (by omega) (by omega) (fun hc20_42 => ?_) (fun hc20_42 => ?_)
        ·
          refine g_lv [0, 1, 2] rfl ?_
          exact J1 nn (by rw [(show m31 (f 8) = k by unfold m31; split <;> omega), hn])
        ·
          refine g_iload_n C dX3_marks_23 rfl 2 rfl ?_
          have hmr := mkb_rg bits k
          unfold mkb at hmr
          have hpp := hpt k (by omega) (by omega)
          have hpxx := hpx k (by omega) (by omega)
          refine g_iload_n C dX3_marks_24 rfl 1 rfl ?_
          refine g_iload_n C dX3_marks_25 rfl 3 rfl ?_
          refine g_ishr C dX3_marks_26 (z := shrI bits k) (iI_of _).symm ?_
          refine g_iconst C dX3_marks_27 ?_
          refine g_iand C dX3_marks_28 (z := andI (shrI bits k) 1) (iI_of _).symm ?_
          refine g_iadd C dX3_marks_29 ?_
          refine g_istore_n C dX3_marks_30 rfl (lv' := [(0, .ref (h 36)), (1, .int (iI bits)), (2, .int (iI (nn + (andI (shrI bits k) 1)))), (3, .int (iI k))]) [1, 2, 0, 3] rfl (Nat.le_of_ble_eq_true rfl) ?_
          refine g_iinc C dX3_marks_31 3 rfl (lv' := [(0, .ref (h 36)), (1, .int (iI bits)), (2, .int (iI (nn + (andI (shrI bits k) 1)))), (3, .int (iI (k + 1)))]) [1, 2, 3, 0] rfl (Nat.le_of_ble_eq_true rfl) ?_
          refine g_goto C (tgt := 9) dX3_marks_34 (by decide) ?_
          exact ih40 (k + 1) (nn + (andI (shrI bits k) 1)) (by omega) (by rw [mcn_s hk.1, hn]; rfl) (by omega)
  exact L40 _ 0 0 (by omega) rfl (Nat.lt_succ_self _)

end MC9
