/-! ===== contracts of the class: heights, the tape ===== -/
section SC3
theorem hok_d {k lo hi : Int} (h : hok (k + 1) lo hi) : hok k lo hi := fun j h0 h1 => h j h0 (by omega)
/-- a byte of an int -/
def i8 (x : Int) : Int := ((iI x).toInt8.toInt32).toInt
theorem i8_eq (x : Int) : (iI x).toInt8.toInt32 = iI (i8 x) := by unfold i8; rw [iI_of]
theorem i8_rg (x : Int) : -2147483648 ≤ i8 x ∧ i8 x < 2147483648 := iI_rg _
theorem i8_nar (x : Int) : vp_nar .byte (iI (i8 x)) = iI (i8 x) := by
  unfold i8
  rw [iI_of]
  show ((iI x).toInt8.toInt32).toInt8.toInt32 = _
  rw [Int8.toInt8_toInt32]
def lyT (T v n : Int) (g : Int → Int) : Int → Int := fun j => if T ≤ j ∧ j < T + n then i8 (shrI v (24 - 8 * (j - T))) else g j
theorem lyT_s {T v n x : Int} {y g : Int → Int} (h : ∀ j, y j = lyT T v n g j) (h0 : 0 ≤ n) (hx : x = i8 (shrI v (24 - 8 * n))) : ∀ j, uI y (T + n) x j = lyT T v (n + 1) g j := by
  intro j
  unfold lyT
  by_cases q : j = T + n
  · subst q; rw [uI_s, if_pos (by omega), hx, show T + n - T = n by omega]
  · rw [uI_n q, h]
    unfold lyT
    by_cases r : T ≤ j ∧ j < T + n
    · rw [if_pos r, if_pos (by omega)]
    · rw [if_neg r, if_neg (by omega)]
def ss_heights (f : Nat → Int) (g : Nat → Int → Int) (lo hi : Int) (z : Int) (f' : Nat → Int) (g' : Nat → Int → Int) : Prop :=
  ((¬ (f 7 = 0 ∧ hok (f 1) lo hi)) ∧ z = 0 ∧ f' = f ∧ g' = (ug g 4 (g 4))) ∨
  ((f 7 = 0 ∧ hok (f 1) lo hi) ∧ z = 1 ∧ f' = f ∧ g' = (ug g 4 (hup (f 1) lo hi (g 4))))
def ss_feed (f : Nat → Int) (g : Nat → Int → Int) (a b c_ d_ e_ : Int) (z : Int) (f' : Nat → Int) (g' : Nat → Int → Int) : Prop :=
  ((380 < f 9) ∧ z = -1 ∧ f' = f ∧ g' = g) ∨
  ((f 9 ≤ 380) ∧ z = f 9 + 20 ∧ f' = (up f 9 (f 9 + 4 + 4 + 4 + 4 + 4)) ∧ g' = (ug g 8 (lyT (f 9 + 4 + 4 + 4 + 4) e_ 4 (lyT (f 9 + 4 + 4 + 4) d_ 4 (lyT (f 9 + 4 + 4) c_ 4 (lyT (f 9 + 4) b 4 (lyT (f 9) a 4 (g 8))))))))
set_option maxHeartbeats 4000000 in
set_option maxRecDepth 100000 in
theorem c_X1_heights (l : Launch) (D : va_G) (hst : l.stackTraces = false) (h : Nat → Nat) (f : Nat → Int) (g : Nat → Int → Int) (N : Nat → Nat) (M : Nat → Nat → Nat) (T : va_W) (lo hi : Int) (hS : 2 ≤ f 1 ∧ f 1 ≤ 6) (hpl : 0 ≤ f 7 ∧ f 7 ≤ 8) (hlor : -2147483648 ≤ lo ∧ lo < 2147483648) (hhir : -2147483648 ≤ hi ∧ hi < 2147483648) : CT l D yX1_heights (ws_ yX1_heights cX1_heights 7 (some .boolean)) (rmD 1 0 0) (0) (0) va_A [.ref (h 0), .int (iI lo), .int (iI hi)] (sW D h f g N M T) exT (pI fun z w => ∃ f' g', ss_heights f g lo hi z f' g' ∧ w = sW D h f' g' N M T) (xN) := by
  refine ct_U (lv := [(0, .ref (h 0)), (1, .int (iI lo)), (2, .int (iI hi))]) RX1 (by decide) rfl rfl hst (Nat.le_of_ble_eq_true rfl) rfl ?_
  intro p e s mm args below meth c A C htab hex hnm
  refine g_iconst C dX1_heights_0 ?_
  refine g_istore_n C dX1_heights_1 rfl (lv' := [(0, .ref (h 0)), (1, .int (iI lo)), (2, .int (iI hi)), (3, .int (iI (-1)))]) [1, 2, 3, 0] rfl (Nat.le_of_ble_eq_true rfl) ?_
  refine g_aload_n C dX1_heights_2 rfl 0 rfl ?_
  refine gs_get7 C dX1_heights_3 ?_
  refine kX1_lsize (h 7) (h 22) (f 22) (N 7) (f 7) (M 7) C ⟨Nat.le_of_ble_eq_true rfl, Nat.le_of_ble_eq_true rfl⟩ (Nat.le_of_ble_eq_true rfl) ⟨Nat.le_of_ble_eq_true rfl, Nat.le_of_ble_eq_true rfl⟩ (rv := f 7) rfl sb_l7 dX1_heights_6 ?_
  have J1 : ∀ (iv : Int), ((iv = 1 ∧ f 7 = 0) ∨ (iv = 0 ∧ f 7 ≠ 0)) → GO p l e (rmD 1 0 0) s mm args below meth c 7 D A A 0 0 (MX below D A (pI fun z w => ∃ f' g', ss_heights f g lo hi z f' g' ∧ w = sW D h f' g' N M T) (xN) args s (0) (0)) (sW D h f g N M T) 17 [(0, .ref (h 0)), (1, .int (iI lo)), (2, .int (iI hi)), (3, .int (iI (-1)))] [.int (iI iv)] := by
    intro iv hiv0
    refine g_istore C dX1_heights_17 (lv' := [(0, .ref (h 0)), (1, .int (iI lo)), (2, .int (iI hi)), (3, .int (iI (-1))), (4, .int (iI iv))]) [1, 2, 3, 4, 0] rfl (Nat.le_of_ble_eq_true rfl) ?_
    refine g_iconst C dX1_heights_19 ?_
    refine g_istore C dX1_heights_20 (lv' := [(0, .ref (h 0)), (1, .int (iI lo)), (2, .int (iI hi)), (3, .int (iI (-1))), (4, .int (iI iv)), (5, .int (iI 0))]) [1, 2, 3, 4, 5, 0] rfl (Nat.le_of_ble_eq_true rfl) ?_
    have L2 : ∀ (n : Nat) (k : Int) (ws_ : Int) (iv : Int), (0 ≤ k ∧ k ≤ f 1) → (ws_ = if k = 0 then -1 else hgt lo hi (k - 1)) → ((iv = 1 ∧ f 7 = 0 ∧ hok k lo hi) ∨ (iv = 0 ∧ ¬ (f 7 = 0 ∧ hok k lo hi))) → (f 1 - k).toNat < n → GO p l e (rmD 1 0 0) s mm args below meth c 7 D A A 0 0 (MX below D A (pI fun z w => ∃ f' g', ss_heights f g lo hi z f' g' ∧ w = sW D h f' g' N M T) (xN) args s (0) (0)) (sW D h f g N M T) 22 [(0, .ref (h 0)), (1, .int (iI lo)), (2, .int (iI hi)), (3, .int (iI ws_)), (4, .int (iI iv)), (5, .int (iI k))] [] := by
      intro n
      induction n with
      | zero => intro k ws_ iv hk hw hiv hm; exact absurd hm (Nat.not_lt_zero _)
      | succ n ih2 =>
        intro k ws_ iv hk hw hiv hm2
        have hwr : -1 ≤ ws_ ∧ ws_ ≤ 511 := by rw [hw]; have := hgt_rg lo hi (k - 1); split <;> omega
        refine g_iload C dX1_heights_22 5 rfl ?_
        refine g_aload_n C dX1_heights_24 rfl 0 rfl ?_
        refine gs_get1 C (v := f 1) rfl dX1_heights_25 ?_
        refine g_icmp_ge C (tgt := 97) dX1_heights_28 (by decide) (by omega) (by omega) (fun hc28_3 => ?_) (fun hc28_3 => ?_)
        ·
          have hiv2 : (iv = 1 ∧ f 7 = 0 ∧ hok (f 1) lo hi) ∨ (iv = 0 ∧ ¬ (f 7 = 0 ∧ hok (f 1) lo hi)) := (show f 1 = k by omega) ▸ hiv
          refine g_iconst C dX1_heights_97 ?_
          refine g_istore C dX1_heights_98 (lv' := [(0, .ref (h 0)), (1, .int (iI lo)), (2, .int (iI hi)), (3, .int (iI ws_)), (4, .int (iI iv)), (5, .int (iI 0))]) [1, 2, 3, 4, 5, 0] rfl (Nat.le_of_ble_eq_true rfl) ?_
          have L4 : ∀ (n : Nat) (k : Int) (y4 : Int → Int), (0 ≤ k ∧ k ≤ f 1) → (iv = 0 → k = 0) → (∀ j, y4 j = if 0 ≤ j ∧ j < k then hgt lo hi j else g 4 j) → (f 1 - k).toNat < n → GO p l e (rmD 1 0 0) s mm args below meth c 7 D A A 0 0 (MX below D A (pI fun z w => ∃ f' g', ss_heights f g lo hi z f' g' ∧ w = sW D h f' g' N M T) (xN) args s (0) (0)) (sW D h f (ug g 4 y4) N M T) 100 [(0, .ref (h 0)), (1, .int (iI lo)), (2, .int (iI hi)), (4, .int (iI iv)), (5, .int (iI k))] [] := by
            intro n
            induction n with
            | zero => intro k y4 hk hz h4 hm; exact absurd hm (Nat.not_lt_zero _)
            | succ n ih4 =>
              intro k y4 hk hz h4 hm4
              refine g_iload C dX1_heights_100 4 rfl ?_
              refine g_aload_n C dX1_heights_102 rfl 0 rfl ?_
              refine gs_get1 C (v := f 1) rfl dX1_heights_103 ?_
              refine g_icmp_ge C (tgt := 156) dX1_heights_106 (by decide) (by omega) (by omega) (fun hc106_5 => ?_) (fun hc106_5 => ?_)
              ·
                refine gs_con4 (x := hup (f 1) lo hi (g 4)) (g' := (ug g 4 (hup (f 1) lo hi (g 4)))) (fun j _ _ => (h4 j).trans (by rw [show k = f 1 by omega]; rfl)) rfl ?_
                have hiv1 : iv = 1 ∧ f 7 = 0 ∧ hok (f 1) lo hi := hiv2.elim id (fun h9 => absurd (hz h9.1) (by omega))
                refine g_iload C dX1_heights_156 3 rfl ?_
                exact g_iret C dX1_heights_158 (nr_b (by omega)) (Nat.le_of_ble_eq_true rfl) (Nat.le_of_ble_eq_true rfl) ⟨_, rfl, _, _, (Or.inr (⟨hiv1.2, hiv1.1, rfl, rfl⟩)), rfl⟩
              ·
                refine g_iload C dX1_heights_109 3 rfl ?_
                refine g_if_eq C (tgt := 156) dX1_heights_111 (by decide) (by omega) (fun hc111_6 => ?_) (fun hc111_6 => ?_)
                ·
                  have hk0 := hz (by omega)
                  refine gs_con4 (x := g 4) (g' := (ug g 4 (g 4))) (fun j _ _ => (h4 j).trans (by rw [if_neg (by omega)])) rfl ?_
                  refine g_iload C dX1_heights_156 3 rfl ?_
                  exact g_iret C dX1_heights_158 (nr_b (by omega)) (Nat.le_of_ble_eq_true rfl) (Nat.le_of_ble_eq_true rfl) ⟨_, rfl, _, _, (Or.inl ⟨(hiv2.elim (fun h9 => absurd h9.1 (by omega)) (fun h9 => h9.2)), (by omega), rfl, rfl⟩), rfl⟩
                ·
                  refine g_aload_n C dX1_heights_114 rfl 0 rfl ?_
                  refine gs_get4 C dX1_heights_115 ?_
                  refine g_iload C dX1_heights_118 4 rfl ?_
                  have J7 : ∀ (xv : Int), (xv = shrI (if k < 3 then lo else hi) (9 * (k % 3))) → GO p l e (rmD 1 0 0) s mm args below meth c 7 D A A 0 0 (MX below D A (pI fun z w => ∃ f' g', ss_heights f g lo hi z f' g' ∧ w = sW D h f' g' N M T) (xN) args s (0) (0)) (sW D h f (ug g 4 y4) N M T) 145 [(0, .ref (h 0)), (1, .int (iI lo)), (2, .int (iI hi)), (4, .int (iI iv)), (5, .int (iI k))] [.int (iI xv), .int (iI k), .ref (h 4)] := by
                    intro xv hxv
                    refine g_sipush C dX1_heights_145 (z := 511) rfl ?_
                    refine g_iand C dX1_heights_148 (z := andI xv 511) (iI_of _).symm ?_
                    refine gs_ast4 C (g' := (ug g 4 (uI y4 k (andI xv 511)))) rfl dX1_heights_149 (by omega) ?_
                    refine g_iinc C dX1_heights_150 4 rfl (lv' := [(0, .ref (h 0)), (1, .int (iI lo)), (2, .int (iI hi)), (4, .int (iI iv)), (5, .int (iI (k + 1)))]) [1, 2, 3, 4, 0] rfl (Nat.le_of_ble_eq_true rfl) ?_
                    refine g_goto C (tgt := 100) dX1_heights_153 (by decide) ?_
                    exact ih4 (k + 1) (uI y4 k (andI xv 511)) (by omega) (fun q9 => by omega) (hup_s h4 (by omega) (by unfold hgt; rw [hxv])) (by omega)
                  refine g_iload C dX1_heights_120 4 rfl ?_
                  refine g_iconst C dX1_heights_122 ?_
                  refine g_icmp_ge C (tgt := 136) dX1_heights_123 (by decide) (by omega) (by omega) (fun hc123_8 => ?_) (fun hc123_8 => ?_)
                  ·
                    refine g_iload_n C dX1_heights_136 rfl 2 rfl ?_
                    refine g_bipush C dX1_heights_137 (z := 9) rfl ?_
                    refine g_iload C dX1_heights_139 4 rfl ?_
                    refine g_iconst C dX1_heights_141 ?_
                    refine g_isub C dX1_heights_142 ?_
                    refine g_imul C dX1_heights_143 ?_
                    refine g_ishr C dX1_heights_144 (z := shrI hi (9 * (k - 3))) (iI_of _).symm ?_
                    exact J7 (shrI hi (9 * (k - 3))) (by first | rw [if_pos (by omega), show k % 3 = k by omega] | rw [if_neg (by omega), show k % 3 = k - 3 by omega])
                  ·
                    refine g_iload_n C dX1_heights_126 rfl 1 rfl ?_
                    refine g_bipush C dX1_heights_127 (z := 9) rfl ?_
                    refine g_iload C dX1_heights_129 4 rfl ?_
                    refine g_imul C dX1_heights_131 ?_
                    refine g_ishr C dX1_heights_132 (z := shrI lo (9 * k)) (iI_of _).symm ?_
                    refine g_goto C (tgt := 145) dX1_heights_133 (by decide) ?_
                    exact J7 (shrI lo (9 * k)) (by first | rw [if_pos (by omega), show k % 3 = k by omega] | rw [if_neg (by omega), show k % 3 = k - 3 by omega])
          refine g_lv [0, 1, 2, 4, 5] rfl ?_
          exact L4 _ 0 (g 4) (by omega) (fun _ => rfl) (fun j => by rw [if_neg (by omega)]) (Nat.lt_succ_self _)
        ·
          have J9 : ∀ (xv : Int), (xv = shrI (if k < 3 then lo else hi) (9 * (k % 3))) → GO p l e (rmD 1 0 0) s mm args below meth c 7 D A A 0 0 (MX below D A (pI fun z w => ∃ f' g', ss_heights f g lo hi z f' g' ∧ w = sW D h f' g' N M T) (xN) args s (0) (0)) (sW D h f g N M T) 56 [(0, .ref (h 0)), (1, .int (iI lo)), (2, .int (iI hi)), (3, .int (iI ws_)), (4, .int (iI iv)), (5, .int (iI k))] [.int (iI xv)] := by
            intro xv hxv
            refine g_sipush C dX1_heights_56 (z := 511) rfl ?_
            refine g_iand C dX1_heights_59 (z := andI xv 511) (iI_of _).symm ?_
            have hvk : andI xv 511 = hgt lo hi k := by unfold hgt; rw [hxv]
            have hvr := hgt_rg lo hi k
            refine g_istore C dX1_heights_60 (lv' := [(0, .ref (h 0)), (1, .int (iI lo)), (2, .int (iI hi)), (3, .int (iI ws_)), (4, .int (iI iv)), (5, .int (iI k)), (6, .int (iI (andI xv 511)))]) [1, 2, 3, 4, 5, 6, 0] rfl (Nat.le_of_ble_eq_true rfl) ?_
            have J10 : ∀ (ni : Int), (((ni = 1 ∧ f 7 = 0 ∧ hok (k + 1) lo hi) ∨ (ni = 0 ∧ ¬ (f 7 = 0 ∧ hok (k + 1) lo hi)))) → GO p l e (rmD 1 0 0) s mm args below meth c 7 D A A 0 0 (MX below D A (pI fun z w => ∃ f' g', ss_heights f g lo hi z f' g' ∧ w = sW D h f' g' N M T) (xN) args s (0) (0)) (sW D h f g N M T) 86 [(0, .ref (h 0)), (1, .int (iI lo)), (2, .int (iI hi)), (3, .int (iI ws_)), (4, .int (iI iv)), (5, .int (iI k)), (6, .int (iI (andI xv 511)))] [.int (iI ni)] := by
              intro ni hni
              refine g_istore C dX1_heights_86 (lv' := [(0, .ref (h 0)), (1, .int (iI lo)), (2, .int (iI hi)), (3, .int (iI ws_)), (4, .int (iI ni)), (5, .int (iI k)), (6, .int (iI (andI xv 511)))]) [1, 2, 3, 4, 0, 5, 6] rfl (Nat.le_of_ble_eq_true rfl) ?_
              refine g_iload C dX1_heights_88 6 rfl ?_
              refine g_istore_n C dX1_heights_90 rfl (lv' := [(0, .ref (h 0)), (1, .int (iI lo)), (2, .int (iI hi)), (3, .int (iI (andI xv 511))), (4, .int (iI ni)), (5, .int (iI k)), (6, .int (iI (andI xv 511)))]) [1, 2, 3, 0, 4, 5, 6] rfl (Nat.le_of_ble_eq_true rfl) ?_
              refine g_iinc C dX1_heights_91 5 rfl (lv' := [(0, .ref (h 0)), (1, .int (iI lo)), (2, .int (iI hi)), (3, .int (iI (andI xv 511))), (4, .int (iI ni)), (5, .int (iI (k + 1))), (6, .int (iI (andI xv 511)))]) [1, 2, 3, 4, 5, 0, 6] rfl (Nat.le_of_ble_eq_true rfl) ?_
              refine g_goto C (tgt := 22) dX1_heights_94 (by decide) ?_
              refine g_lv [0, 1, 2, 3, 4, 5] rfl ?_
              exact ih2 (k + 1) (andI xv 511) ni (by omega) (by rw [hvk, if_neg (by omega), show k + 1 - 1 = k by omega]) hni (by omega)
            refine g_iload C dX1_heights_62 4 rfl ?_
            refine g_if_eq C (tgt := 85) dX1_heights_64 (by decide) (by omega) (fun hc64_11 => ?_) (fun hc64_11 => ?_)
            ·
              refine g_iconst C dX1_heights_85 ?_
              exact J10 0 (Or.inr ⟨rfl, fun q9 => by first | exact hok_b hw hvk (by omega) (q9.2 k (by omega) (by omega)) | exact hiv.elim (fun h9 => absurd h9.1 (by omega)) (fun h9 => h9.2 ⟨q9.1, hok_d q9.2⟩)⟩)
            ·
              refine g_iload C dX1_heights_67 6 rfl ?_
              refine g_iload_n C dX1_heights_69 rfl 3 rfl ?_
              refine g_icmp_le C (tgt := 85) dX1_heights_70 (by decide) (by omega) (by omega) (fun hc70_12 => ?_) (fun hc70_12 => ?_)
              ·
                refine g_iconst C dX1_heights_85 ?_
                exact J10 0 (Or.inr ⟨rfl, fun q9 => by first | exact hok_b hw hvk (by omega) (q9.2 k (by omega) (by omega)) | exact hiv.elim (fun h9 => absurd h9.1 (by omega)) (fun h9 => h9.2 ⟨q9.1, hok_d q9.2⟩)⟩)
              ·
                refine g_iload C dX1_heights_73 6 rfl ?_
                refine g_sipush C dX1_heights_75 (z := 400) rfl ?_
                refine g_icmp_gt C (tgt := 85) dX1_heights_78 (by decide) (by omega) (by omega) (fun hc78_13 => ?_) (fun hc78_13 => ?_)
                ·
                  refine g_iconst C dX1_heights_85 ?_
                  exact J10 0 (Or.inr ⟨rfl, fun q9 => by first | exact hok_b hw hvk (by omega) (q9.2 k (by omega) (by omega)) | exact hiv.elim (fun h9 => absurd h9.1 (by omega)) (fun h9 => h9.2 ⟨q9.1, hok_d q9.2⟩)⟩)
                ·
                  refine g_iconst C dX1_heights_81 ?_
                  refine g_goto C (tgt := 86) dX1_heights_82 (by decide) ?_
                  exact J10 1 (hiv.elim (fun h9 => Or.inl ⟨rfl, h9.2.1, hok_s h9.2.2 (hok_p hw hvk (by omega) (by omega))⟩) (fun h9 => absurd h9.1 (by omega)))
          refine g_iload C dX1_heights_31 5 rfl ?_
          refine g_iconst C dX1_heights_33 ?_
          refine g_icmp_ge C (tgt := 47) dX1_heights_34 (by decide) (by omega) (by omega) (fun hc34_14 => ?_) (fun hc34_14 => ?_)
          ·
            refine g_iload_n C dX1_heights_47 rfl 2 rfl ?_
            refine g_bipush C dX1_heights_48 (z := 9) rfl ?_
            refine g_iload C dX1_heights_50 5 rfl ?_
            refine g_iconst C dX1_heights_52 ?_
            refine g_isub C dX1_heights_53 ?_
            refine g_imul C dX1_heights_54 ?_
            refine g_ishr C dX1_heights_55 (z := shrI hi (9 * (k - 3))) (iI_of _).symm ?_
            exact J9 (shrI hi (9 * (k - 3))) (by first | rw [if_pos (by omega), show k % 3 = k by omega] | rw [if_neg (by omega), show k % 3 = k - 3 by omega])
          ·
            refine g_iload_n C dX1_heights_37 rfl 1 rfl ?_
            refine g_bipush C dX1_heights_38 (z := 9) rfl ?_
            refine g_iload C dX1_heights_40 5 rfl ?_
            refine g_imul C dX1_heights_42 ?_
            refine g_ishr C dX1_heights_43 (z := shrI lo (9 * k)) (iI_of _).symm ?_
            refine g_goto C (tgt := 56) dX1_heights_44 (by decide) ?_
            exact J9 (shrI lo (9 * k)) (by first | rw [if_pos (by omega), show k % 3 = k by omega] | rw [if_neg (by omega), show k % 3 = k - 3 by omega])
    exact L2 _ 0 (-1) iv (by omega) rfl (hiv0.imp (fun h9 => ⟨h9.1, h9.2, hok_0 lo hi⟩) (fun h9 => ⟨h9.1, fun q9 => h9.2 q9.1⟩)) (Nat.lt_succ_self _)
  refine g_if_ne C (tgt := 16) dX1_heights_9 (by decide) (by omega) (fun hc9_15 => ?_) (fun hc9_15 => ?_)
  ·
    refine g_iconst C dX1_heights_16 ?_
    exact J1 0 (by omega)
  ·
    refine g_iconst C dX1_heights_12 ?_
    refine g_goto C (tgt := 17) dX1_heights_13 (by decide) ?_
    exact J1 1 (by omega)

set_option maxHeartbeats 4000000 in
set_option maxRecDepth 100000 in
theorem c_X1_lay (l : Launch) (D : va_G) (hst : l.stackTraces = false) (h : Nat → Nat) (f : Nat → Int) (g : Nat → Int → Int) (N : Nat → Nat) (M : Nat → Nat → Nat) (T : va_W) (v : Int) (htp4 : 0 ≤ f 9 ∧ f 9 ≤ 396) (hvr : -2147483648 ≤ v ∧ v < 2147483648) : CT l D yX1_lay (ws_ yX1_lay cX1_lay 3 none) (rmD 0 0 0) (0) (0) va_A [.ref (h 0), .int (iI v)] (sW D h f g N M T) exT (pV fun w => w = sW D h (up f 9 (f 9 + 4)) (ug g 8 (lyT (f 9) v 4 (g 8))) N M T) (xN) := by
  refine ct_U (lv := [(0, .ref (h 0)), (1, .int (iI v))]) RX1 (by decide) rfl rfl hst (Nat.le_of_ble_eq_true rfl) rfl ?_
  intro p e s mm args below meth c A C htab hex hnm
  refine g_bipush C dX1_lay_0 (z := 24) rfl ?_
  refine g_istore_n C dX1_lay_2 rfl (lv' := [(0, .ref (h 0)), (1, .int (iI v)), (2, .int (iI 24))]) [1, 2, 0] rfl (Nat.le_of_ble_eq_true rfl) ?_
  have L1 : ∀ (n : Nat) (k : Int) (tp : Int) (y8 : Int → Int), (k = 24 ∨ k = 16 ∨ k = 8 ∨ k = 0 ∨ k = -8) → (tp = f 9 + (24 - k) / 8) → (∀ j, y8 j = lyT (f 9) v ((24 - k) / 8) (g 8) j) → (k + 8).toNat < n → GO p l e (rmD 0 0 0) s mm args below meth c 3 D A A 0 0 (MX below D A (pV fun w => w = sW D h (up f 9 (f 9 + 4)) (ug g 8 (lyT (f 9) v 4 (g 8))) N M T) (xN) args s (0) (0)) (sW D h (up f 9 tp) (ug g 8 y8) N M T) 3 [(0, .ref (h 0)), (1, .int (iI v)), (2, .int (iI k))] [] := by
    intro n
    induction n with
    | zero => intro k tp y8 hk htp2 h8 hm; exact absurd hm (Nat.not_lt_zero _)
    | succ n ih1 =>
      intro k tp y8 hk htp2 h8 hm1
      refine g_iload_n C dX1_lay_3 rfl 2 rfl ?_
      refine g_if_lt C (tgt := 36) dX1_lay_4 (by decide) (by omega) (fun hc4_2 => ?_) (fun hc4_2 => ?_)
      ·
        refine gs_con8 (x := lyT (f 9) v 4 (g 8)) (g' := (ug g 8 (lyT (f 9) v 4 (g 8)))) (fun j _ _ => (h8 j).trans (by rw [show (24 - k) / 8 = 4 by omega])) rfl ?_
        have etp : tp = f 9 + 4 := by omega
        subst etp
        exact g_vret C dX1_lay_36 (Nat.le_of_ble_eq_true rfl) (Nat.le_of_ble_eq_true rfl) ⟨rfl, rfl⟩
      ·
        refine g_aload_n C dX1_lay_7 rfl 0 rfl ?_
        refine gs_get8 C dX1_lay_8 ?_
        refine g_aload_n C dX1_lay_11 rfl 0 rfl ?_
        refine gs_get9 C (v := tp) rfl dX1_lay_12 ?_
        refine g_iload_n C dX1_lay_15 rfl 1 rfl ?_
        refine g_iload_n C dX1_lay_16 rfl 2 rfl ?_
        refine g_ishr C dX1_lay_17 (z := shrI v k) (iI_of _).symm ?_
        refine g_i2b C (z := i8 (shrI v k)) dX1_lay_18 (i8_eq (shrI v k)) ?_
        refine gs_ast8 C (g' := (ug g 8 (uI y8 tp (i8 (shrI v k))))) rfl dX1_lay_19 (by omega) (i8_nar _) ?_
        refine g_aload_n C dX1_lay_20 rfl 0 rfl ?_
        refine g_dup C dX1_lay_21 rfl ?_
        refine gs_get9 C (v := tp) rfl dX1_lay_22 ?_
        refine g_iconst C dX1_lay_25 ?_
        refine g_iadd C dX1_lay_26 ?_
        refine gs_put9 C (f' := (up f 9 (tp + 1))) rfl dX1_lay_27 ?_
        refine g_iinc C dX1_lay_30 2 rfl (lv' := [(0, .ref (h 0)), (1, .int (iI v)), (2, .int (iI (k + (-8))))]) [1, 2, 0] rfl (Nat.le_of_ble_eq_true rfl) ?_
        refine g_goto C (tgt := 3) dX1_lay_33 (by decide) ?_
        exact ih1 (k + (-8)) (tp + 1) (uI y8 tp (i8 (shrI v k))) (by omega) (by omega) (by rw [htp2, show (24 - (k + -8)) / 8 = (24 - k) / 8 + 1 by omega]; exact lyT_s h8 (by omega) (by rw [show 24 - 8 * ((24 - k) / 8) = k by omega])) (by omega)
  exact L1 _ 24 (f 9) (g 8) (by omega) (by omega) (fun j => by unfold lyT; rw [if_neg (by omega)]) (Nat.lt_succ_self _)

section MK
variable {p : Program} {l : Launch} {e : Env} {R : Room} {s : State} {mm : MethodId} {args : Array Value} {below : List Frame} {meth : Method} {c : Code} {cc : ByteArray} {nL : Nat} {ret : Option FieldType} {D : va_G} {A B : Nat → Prop} {cells slots : Nat} {Q : State → Prop} {pc : Nat} {lv : List (Nat × Value)} {st : List Value}
theorem kX1_X1_lay (h : Nat → Nat) (f : Nat → Int) (g : Nat → Int → Int) (N : Nat → Nat) (M : Nat → Nat → Nat) (T : va_W) (v : Int) (C : CX p l s mm args meth c RX1 cc nL ret D A) (htp4 : 0 ≤ f 9 ∧ f 9 ≤ 396) (hvr : -2147483648 ≤ v ∧ v < 2147483648) (hR : 0 + 1 ≤ R.frames ∧ 8 + (3 + 11) + 64 * 0 ≤ R.locals) (hcat : (st.map fun v => v.category).sum ≤ 8) (hroom : cells ≤ R.cells ∧ slots ≤ R.slots) (d : decode cc pc = .ok (.invokevirtual 162, 3)) (K : GO p l e R s mm args below meth c nL D A A (cells) (slots) Q (sW D h (up f 9 (f 9 + 4)) (ug g 8 (lyT (f 9) v 4 (g 8))) N M T) (pc + 3) lv (st)) : GO p l e R s mm args below meth c nL D A A cells slots Q (sW D h f g N M T) (pc) lv (.int (iI v) :: .ref (h 0) :: st) := by
  refine g_callVU C (c_X1_lay l D C.hl h f g N M T v htp4 hvr) (As := [.int (iI v)]) (n := 1) (lw_V q591 q593 qs5 q48 q594) (by decide +kernel) rfl rfl hR (rcvM C) rfl rfl hcat hroom d (wr := []) Sb.rf exT_b hex_t (fun v w hp => ?_) kx_nu
  obtain ⟨rfl, rfl⟩ := hp
  exact K 
end MK

set_option maxHeartbeats 4000000 in
set_option maxRecDepth 100000 in
theorem c_X1_feed (l : Launch) (D : va_G) (hst : l.stackTraces = false) (h : Nat → Nat) (f : Nat → Int) (g : Nat → Int → Int) (N : Nat → Nat) (M : Nat → Nat → Nat) (T : va_W) (a b c_ d_ e_ : Int) (htp : 0 ≤ f 9 ∧ f 9 ≤ 400) (har : -2147483648 ≤ a ∧ a < 2147483648) (hbr : -2147483648 ≤ b ∧ b < 2147483648) (hc_r : -2147483648 ≤ c_ ∧ c_ < 2147483648) (hd_r : -2147483648 ≤ d_ ∧ d_ < 2147483648) (he_r : -2147483648 ≤ e_ ∧ e_ < 2147483648) : CT l D yX1_feed (ws_ yX1_feed cX1_feed 6 (some .int)) (rmD 1 0 0) (0) (0) va_A [.ref (h 0), .int (iI a), .int (iI b), .int (iI c_), .int (iI d_), .int (iI e_)] (sW D h f g N M T) exT (pI fun z w => ∃ f' g', ss_feed f g a b c_ d_ e_ z f' g' ∧ w = sW D h f' g' N M T) (xN) := by
  refine ct_U (lv := [(0, .ref (h 0)), (1, .int (iI a)), (2, .int (iI b)), (3, .int (iI c_)), (4, .int (iI d_)), (5, .int (iI e_))]) RX1 (by decide) rfl rfl hst (Nat.le_of_ble_eq_true rfl) rfl ?_
  intro p e s mm args below meth c A C htab hex hnm
  refine g_aload_n C dX1_feed_0 rfl 0 rfl ?_
  refine gs_get9 C (v := f 9) rfl dX1_feed_1 ?_
  refine g_bipush C dX1_feed_4 (z := 20) rfl ?_
  refine g_iadd C dX1_feed_6 ?_
  refine g_sipush C dX1_feed_7 (z := 400) rfl ?_
  refine g_icmp_le C (tgt := 15) dX1_feed_10 (by decide) (by omega) (by omega) (fun hc10_1 => ?_) (fun hc10_1 => ?_)
  ·
    refine g_aload_n C dX1_feed_15 rfl 0 rfl ?_
    refine g_iload_n C dX1_feed_16 rfl 1 rfl ?_
    refine kX1_X1_lay h f g N M T a C (show 0 ≤ f 9 ∧ f 9 ≤ 396 by omega) (by omega) ⟨Nat.le_of_ble_eq_true rfl, Nat.le_of_ble_eq_true rfl⟩ (Nat.le_of_ble_eq_true rfl) ⟨Nat.le_of_ble_eq_true rfl, Nat.le_of_ble_eq_true rfl⟩ dX1_feed_17 ?_
    refine g_ws (ws' := sW D h (up f 9 (f 9 + 4)) (ug g 8 (lyT (f 9) a 4 (g 8))) N M T) rfl ?_
    refine g_aload_n C dX1_feed_20 rfl 0 rfl ?_
    refine g_iload_n C dX1_feed_21 rfl 2 rfl ?_
    refine kX1_X1_lay h (up f 9 (f 9 + 4)) (ug g 8 (lyT (f 9) a 4 (g 8))) N M T b C (show 0 ≤ (f 9 + 4) ∧ (f 9 + 4) ≤ 396 by omega) (by omega) ⟨Nat.le_of_ble_eq_true rfl, Nat.le_of_ble_eq_true rfl⟩ (Nat.le_of_ble_eq_true rfl) ⟨Nat.le_of_ble_eq_true rfl, Nat.le_of_ble_eq_true rfl⟩ dX1_feed_22 ?_
    refine g_ws (ws' := sW D h (up f 9 ((f 9 + 4) + 4)) (ug g 8 (lyT ((f 9 + 4)) b 4 ((lyT (f 9) a 4 (g 8))))) N M T) rfl ?_
    refine g_aload_n C dX1_feed_25 rfl 0 rfl ?_
    refine g_iload_n C dX1_feed_26 rfl 3 rfl ?_
    refine kX1_X1_lay h (up f 9 ((f 9 + 4) + 4)) (ug g 8 (lyT ((f 9 + 4)) b 4 ((lyT (f 9) a 4 (g 8))))) N M T c_ C (show 0 ≤ ((f 9 + 4) + 4) ∧ ((f 9 + 4) + 4) ≤ 396 by omega) (by omega) ⟨Nat.le_of_ble_eq_true rfl, Nat.le_of_ble_eq_true rfl⟩ (Nat.le_of_ble_eq_true rfl) ⟨Nat.le_of_ble_eq_true rfl, Nat.le_of_ble_eq_true rfl⟩ dX1_feed_27 ?_
    refine g_ws (ws' := sW D h (up f 9 (((f 9 + 4) + 4) + 4)) (ug g 8 (lyT (((f 9 + 4) + 4)) c_ 4 ((lyT ((f 9 + 4)) b 4 ((lyT (f 9) a 4 (g 8))))))) N M T) rfl ?_
    refine g_aload_n C dX1_feed_30 rfl 0 rfl ?_
    refine g_iload C dX1_feed_31 4 rfl ?_
    refine kX1_X1_lay h (up f 9 (((f 9 + 4) + 4) + 4)) (ug g 8 (lyT (((f 9 + 4) + 4)) c_ 4 ((lyT ((f 9 + 4)) b 4 ((lyT (f 9) a 4 (g 8))))))) N M T d_ C (show 0 ≤ (((f 9 + 4) + 4) + 4) ∧ (((f 9 + 4) + 4) + 4) ≤ 396 by omega) (by omega) ⟨Nat.le_of_ble_eq_true rfl, Nat.le_of_ble_eq_true rfl⟩ (Nat.le_of_ble_eq_true rfl) ⟨Nat.le_of_ble_eq_true rfl, Nat.le_of_ble_eq_true rfl⟩ dX1_feed_33 ?_
    refine g_ws (ws' := sW D h (up f 9 ((((f 9 + 4) + 4) + 4) + 4)) (ug g 8 (lyT ((((f 9 + 4) + 4) + 4)) d_ 4 ((lyT (((f 9 + 4) + 4)) c_ 4 ((lyT ((f 9 + 4)) b 4 ((lyT (f 9) a 4 (g 8))))))))) N M T) rfl ?_
    refine g_aload_n C dX1_feed_36 rfl 0 rfl ?_
    refine g_iload C dX1_feed_37 5 rfl ?_
    refine kX1_X1_lay h (up f 9 ((((f 9 + 4) + 4) + 4) + 4)) (ug g 8 (lyT ((((f 9 + 4) + 4) + 4)) d_ 4 ((lyT (((f 9 + 4) + 4)) c_ 4 ((lyT ((f 9 + 4)) b 4 ((lyT (f 9) a 4 (g 8))))))))) N M T e_ C (show 0 ≤ ((((f 9 + 4) + 4) + 4) + 4) ∧ ((((f 9 + 4) + 4) + 4) + 4) ≤ 396 by omega) (by omega) ⟨Nat.le_of_ble_eq_true rfl, Nat.le_of_ble_eq_true rfl⟩ (Nat.le_of_ble_eq_true rfl) ⟨Nat.le_of_ble_eq_true rfl, Nat.le_of_ble_eq_true rfl⟩ dX1_feed_39 ?_
    refine g_ws (ws' := sW D h (up f 9 (((((f 9 + 4) + 4) + 4) + 4) + 4)) (ug g 8 (lyT (((((f 9 + 4) + 4) + 4) + 4)) e_ 4 ((lyT ((((f 9 + 4) + 4) + 4)) d_ 4 ((lyT (((f 9 + 4) + 4)) c_ 4 ((lyT ((f 9 + 4)) b 4 ((lyT (f 9) a 4 (g 8))))))))))) N M T) rfl ?_
    refine g_aload_n C dX1_feed_42 rfl 0 rfl ?_
    refine gs_get9 C (v := ((((f 9 + 4) + 4) + 4) + 4) + 4) rfl dX1_feed_43 ?_
    exact g_iret C dX1_feed_46 rfl (Nat.le_of_ble_eq_true rfl) (Nat.le_of_ble_eq_true rfl) ⟨_, rfl, _, _, (Or.inr (⟨by omega, (by omega), rfl, rfl⟩)), rfl⟩
  ·
    refine g_iconst C dX1_feed_13 ?_
    exact g_iret C dX1_feed_14 rfl (Nat.le_of_ble_eq_true rfl) (Nat.le_of_ble_eq_true rfl) ⟨_, rfl, _, _, (Or.inl ⟨by omega, rfl, rfl, rfl⟩), rfl⟩

end SC3
