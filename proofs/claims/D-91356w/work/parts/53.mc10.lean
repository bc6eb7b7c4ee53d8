/-! ===== contracts of the model: signOf, plan, the constructor ===== -/
def sm_plan (f : Nat → Int) (g : Nat → Int → Int) (n1 a c1 : Int) (z : Int) (f' : Nat → Int) (g' : Nat → Int → Int) : Prop :=
  ((¬ ((0 ≤ a ∧ a < f 2) ∧ (0 ≤ c1 ∧ c1 < f 3))) ∧ z = 0 ∧ f' = (up f 1 1) ∧ g' = g) ∨
  ((((0 ≤ a ∧ a < f 2) ∧ (0 ≤ c1 ∧ c1 < f 3)) ∧ (n1 < 0 ∨ f 5 < n1)) ∧ z = 0 ∧ f' = (up f 1 2) ∧ g' = g) ∨
  ((((0 ≤ a ∧ a < f 2) ∧ (0 ≤ c1 ∧ c1 < f 3)) ∧ (0 ≤ n1 ∧ n1 ≤ f 5) ∧ f 7 = 8) ∧ z = -9 ∧ f' = (up (up (up f 1 0) 5 0) 6 (-1)) ∧ g' = g) ∨
  ((((0 ≤ a ∧ a < f 2) ∧ (0 ≤ c1 ∧ c1 < f 3)) ∧ (0 ≤ n1 ∧ n1 ≤ f 5) ∧ f 7 < 8) ∧ ∃ k : Int, ∃ y20 : Int → Int, (RDf (f 2) (f 3) (g 12) (g 13) (2 * (6 * a + c1) + 0) n1 k z) ∧ (∀ j, j < 400 * f 7 → y20 j = g 20 j) ∧ f' = (up (up (up f 1 0) 5 0) 6 k) ∧ g' = (ug g 20 y20)) ∨
  ((((0 ≤ a ∧ a < f 2) ∧ (0 ≤ c1 ∧ c1 < f 3)) ∧ (0 ≤ n1 ∧ n1 ≤ f 5) ∧ f 7 < 8) ∧ z = f 7 ∧ ∃ y20 : Int → Int, (RDo (f 2) (f 3) (g 12) (g 13) (2 * (6 * a + c1) + 0) n1) ∧ (∀ j, j < 400 * f 7 → y20 j = g 20 j) ∧ (∀ j, 0 ≤ j → j < rdc (g 13) n1 → y20 (400 * f 7 + j) = rdv (g 13) n1 j) ∧ f' = (up (up (up (up f 1 0) 5 0) 6 (-1)) 7 (f 7 + 1)) ∧ g' = (ug (ug (ug g 18 (uI (g 18) (f 7) (rdc (g 13) n1))) 19 (uI (g 19) (f 7) (2 * (6 * a + c1) + 0))) 20 y20))
section MC10
set_option maxHeartbeats 4000000 in
set_option maxRecDepth 100000 in
theorem c_X3_signOf (l : Launch) (D : va_G) (hst : l.stackTraces = false) (h : Nat → Nat) (f : Nat → Int) (g : Nat → Int → Int) (v : Int) (hvr : -2147483648 ≤ v ∧ v < 2147483648) : CT l D yX3_signOf (ws_ yX3_signOf cX3_signOf 3 (some .int)) (rmD 4 0 0) (0) (0) mdR [.ref (h 36), .int (iI v)] (mW D h f g) exT (pI fun z _ => z = sgf v) xN := by
  refine ct_R (lv := [(0, .ref (h 36)), (1, .int (iI v))]) RX3 (by decide) rfl rfl hst (Nat.le_of_ble_eq_true rfl) rfl ?_
  intro p e s mm args below meth c A C htab hex
  refine g_iconst C dX3_signOf_0 ?_
  refine g_istore_n C dX3_signOf_1 rfl (lv' := [(0, .ref (h 36)), (1, .int (iI v)), (2, .int (iI 0))]) [1, 2, 0] rfl (Nat.le_of_ble_eq_true rfl) ?_
  have L1 : ∀ (n : Nat) (k : Int), (0 ≤ k ∧ k ≤ 8) → (∀ j, 0 ≤ j → j < k → sgn j ≠ v) → (8 - k).toNat < n → GO p l e (rmD 4 0 0) s mm args below meth c 3 D A (fun _ => True) 0 0 (MX below D A (pI fun z _ => z = sgf v) xN args s (0) (0)) (mW D h f g) 2 [(0, .ref (h 36)), (1, .int (iI v)), (2, .int (iI k))] [] := by
    intro n
    induction n with
    | zero => intro k hk hno hm; exact absurd hm (Nat.not_lt_zero _)
    | succ n ih1 =>
      intro k hk hno hm1
      refine g_iload_n C dX3_signOf_2 rfl 2 rfl ?_
      refine g_bipush C dX3_signOf_3 (z := 8) rfl ?_
      refine g_icmp_ge C (tgt := 26) dX3_signOf_5 (by decide) (by omega) (by omega) (fun hc5_2 => ?_) (fun hc5_2 => ?_)
      ·
        refine g_iconst C dX3_signOf_26 ?_
        refine g_nilA ?_
        exact g_iret C dX3_signOf_27 rfl (Nat.le_of_ble_eq_true rfl) (Nat.le_of_ble_eq_true rfl) ⟨_, rfl, (sgf_no (fun j h0 h1 => hno j h0 (by omega))).symm⟩
      ·
        have hsr := sgn_rg k
        refine g_ldcS C C.hG.2.1.2 dX3_signOf_8 ?_
        refine g_iload_n C dX3_signOf_10 rfl 2 rfl ?_
        refine kX3_chA k C (by omega) ⟨Nat.le_of_ble_eq_true rfl, Nat.le_of_ble_eq_true rfl⟩ (Nat.le_of_ble_eq_true rfl) ⟨Nat.le_of_ble_eq_true rfl, Nat.le_of_ble_eq_true rfl⟩ (rv := sgn k) rfl dX3_signOf_11 ?_
        refine g_iload_n C dX3_signOf_14 rfl 1 rfl ?_
        refine g_icmp_ne C (tgt := 20) dX3_signOf_15 (by decide) (by omega) (by omega) (fun hc15_3 => ?_) (fun hc15_3 => ?_)
        ·
          refine g_iinc C dX3_signOf_20 2 rfl (lv' := [(0, .ref (h 36)), (1, .int (iI v)), (2, .int (iI (k + 1)))]) [1, 2, 0] rfl (Nat.le_of_ble_eq_true rfl) ?_
          refine g_goto C (tgt := 2) dX3_signOf_23 (by decide) ?_
          exact ih1 (k + 1) (by omega) (fun j h0 h1 => by by_cases e9 : j = k; (subst e9; omega); exact hno j h0 (by omega)) (by omega)
        ·
          refine g_iload_n C dX3_signOf_18 rfl 2 rfl ?_
          refine g_nilA ?_
          exact g_iret C dX3_signOf_19 rfl (Nat.le_of_ble_eq_true rfl) (Nat.le_of_ble_eq_true rfl) ⟨k, rfl, by rw [show v = sgn k by omega, sgf_s ⟨by omega, by omega⟩]⟩
  exact L1 _ 0 (by omega) (fun j h0 h1 => absurd h1 (by omega)) (Nat.lt_succ_self _)

section MK
variable {p : Program} {l : Launch} {e : Env} {R : Room} {s : State} {mm : MethodId} {args : Array Value} {below : List Frame} {meth : Method} {c : Code} {cc : ByteArray} {nL : Nat} {ret : Option FieldType} {D : va_G} {A B : Nat → Prop} {cells slots : Nat} {Q : State → Prop} {pc : Nat} {lv : List (Nat × Value)} {st : List Value}
theorem kX3_X3_signOf {h : Nat → Nat} {f : Nat → Int} {g : Nat → Int → Int} (v : Int) (C : CX p l s mm args meth c RX3 cc nL ret D A) (hvr : -2147483648 ≤ v ∧ v < 2147483648) (hR : 4 + 1 ≤ R.frames ∧ 8 + (3 + 11) + 64 * 4 ≤ R.locals) (hcat : (st.map fun v => v.category).sum ≤ 8) (hroom : cells ≤ R.cells ∧ slots ≤ R.slots) {rv : Int} (hr : sgf v = rv) (d : decode cc pc = .ok (.invokevirtual 162, 3)) (K : GO p l e R s mm args below meth c nL D A B cells slots Q (mW D h f g) (pc + 3) lv (.int (iI rv) :: st)) : GO p l e R s mm args below meth c nL D A B cells slots Q (mW D h f g) (pc) lv (.int (iI v) :: .ref (h 36) :: st) := by
  refine g_callVR C (c_X3_signOf l D C.hl h f g v hvr) (As := [.int (iI v)]) (n := 1) (lw_V q1173 q1175 qs35 q69 q1176) (by decide +kernel) rfl rfl hR (rcv C 0 rfl rfl rfl) rfl rfl hcat ⟨hroom.1, hroom.2⟩ d Sb.rf exT_b hex_t (fun v w hp => ?_) kx_n
  obtain ⟨z, rfl, rfl⟩ := hp
  rw [hr]
  exact K
end MK
set_option maxHeartbeats 4000000 in
set_option maxRecDepth 100000 in
theorem c_X3_plan (l : Launch) (D : va_G) (hst : l.stackTraces = false) (h : Nat → Nat) (f : Nat → Int) (g : Nat → Int → Int) (n1 a c1 : Int) (hF : 1 ≤ f 2 ∧ f 2 ≤ 5) (hS : 2 ≤ f 3 ∧ f 3 ≤ 6) (hkd : ∀ j, 0 ≤ j → j < 6 → 0 ≤ g 12 j ∧ g 12 j ≤ 3) (hpl : 0 ≤ f 7 ∧ f 7 ≤ 8) (htp : 0 ≤ f 5 ∧ f 5 ≤ 400) (htv : ∀ j, 0 ≤ j → j < 400 → 0 ≤ g 13 j ∧ g 13 j ≤ 255) (hn1r : -2147483648 ≤ n1 ∧ n1 < 2147483648) (har : -2147483648 ≤ a ∧ a < 2147483648) (hc1r : -2147483648 ≤ c1 ∧ c1 < 2147483648) : CT l D yX3_plan (ws_ yX3_plan cX3_plan 9 (some .int)) (rmD 5 0 0) (0) (0) va_A [.ref (h 36), .int (iI n1), .int (iI a), .int (iI c1)] (mW D h f g) exT (pI fun z w => ∃ f' g', sm_plan f g n1 a c1 z f' g' ∧ w = mW D h f' g') xN := by
  refine ct_U (lv := [(0, .ref (h 36)), (1, .int (iI n1)), (2, .int (iI a)), (3, .int (iI c1))]) RX3 (by decide) rfl rfl hst (Nat.le_of_ble_eq_true rfl) rfl ?_
  intro p e s mm args below meth c A C htab hex hnm
  refine g_aload_n C dX3_plan_0 rfl 0 rfl ?_
  refine g_iconst C dX3_plan_1 ?_
  refine gm_put1 C (f' := (up f 1 0)) rfl dX3_plan_2 ?_
  refine g_aload_n C dX3_plan_5 rfl 0 rfl ?_
  refine g_iload_n C dX3_plan_6 rfl 2 rfl ?_
  refine kX3_X3_isFold a C hF (by omega) ⟨Nat.le_of_ble_eq_true rfl, Nat.le_of_ble_eq_true rfl⟩ (Nat.le_of_ble_eq_true rfl) ⟨Nat.le_of_ble_eq_true rfl, Nat.le_of_ble_eq_true rfl⟩ (rv := bI (decide (0 ≤ a ∧ a < f 2))) rfl dX3_plan_7 ?_
  refine g_if_eq C (tgt := 21) dX3_plan_10 (by decide) (by have := bI_rg (decide (0 ≤ a ∧ a < f 2)); omega) (fun hc10_1 => ?_) (fun hc10_1 => ?_)
  ·
    have hc10_1b : ¬ (0 ≤ a ∧ a < f 2) := of_decide_eq_false (bI_0.mp (by have := bI_rg (decide (0 ≤ a ∧ a < f 2)); omega))
    refine g_aload_n C dX3_plan_21 rfl 0 rfl ?_
    refine g_iconst C dX3_plan_22 ?_
    refine kX3_X3_fail 1 C  ⟨Nat.le_of_ble_eq_true rfl, Nat.le_of_ble_eq_true rfl⟩ (Nat.le_of_ble_eq_true rfl) ⟨Nat.le_of_ble_eq_true rfl, Nat.le_of_ble_eq_true rfl⟩ dX3_plan_23 ?_
    refine g_ws (ws' := mW D h (up f 1 1) g) rfl ?_
    exact g_iret C dX3_plan_26 rfl (Nat.le_of_ble_eq_true rfl) (Nat.le_of_ble_eq_true rfl) ⟨_, rfl, _, _, (Or.inl ⟨by omega, rfl, rfl, rfl⟩), rfl⟩
  ·
    have hc10_1b : 0 ≤ a ∧ a < f 2 := of_decide_eq_true (bI_1.mp (by have := bI_rg (decide (0 ≤ a ∧ a < f 2)); omega))
    refine g_aload_n C dX3_plan_13 rfl 0 rfl ?_
    refine g_iload_n C dX3_plan_14 rfl 3 rfl ?_
    refine kX3_X3_isStation c1 C hS (by omega) ⟨Nat.le_of_ble_eq_true rfl, Nat.le_of_ble_eq_true rfl⟩ (Nat.le_of_ble_eq_true rfl) ⟨Nat.le_of_ble_eq_true rfl, Nat.le_of_ble_eq_true rfl⟩ (rv := bI (decide (0 ≤ c1 ∧ c1 < f 3))) rfl dX3_plan_15 ?_
    refine g_if_ne C (tgt := 27) dX3_plan_18 (by decide) (by have := bI_rg (decide (0 ≤ c1 ∧ c1 < f 3)); omega) (fun hc18_2 => ?_) (fun hc18_2 => ?_)
    ·
      have hc18_2b : 0 ≤ c1 ∧ c1 < f 3 := of_decide_eq_true (bI_1.mp (by have := bI_rg (decide (0 ≤ c1 ∧ c1 < f 3)); omega))
      refine g_iload_n C dX3_plan_27 rfl 1 rfl ?_
      refine g_if_lt C (tgt := 39) dX3_plan_28 (by decide) (by omega) (fun hc28_3 => ?_) (fun hc28_3 => ?_)
      ·
        refine g_aload_n C dX3_plan_39 rfl 0 rfl ?_
        refine g_iconst C dX3_plan_40 ?_
        refine kX3_X3_fail 2 C  ⟨Nat.le_of_ble_eq_true rfl, Nat.le_of_ble_eq_true rfl⟩ (Nat.le_of_ble_eq_true rfl) ⟨Nat.le_of_ble_eq_true rfl, Nat.le_of_ble_eq_true rfl⟩ dX3_plan_41 ?_
        refine g_ws (ws' := mW D h (up f 1 2) g) rfl ?_
        exact g_iret C dX3_plan_44 rfl (Nat.le_of_ble_eq_true rfl) (Nat.le_of_ble_eq_true rfl) ⟨_, rfl, _, _, (Or.inr (Or.inl ⟨by omega, rfl, rfl, rfl⟩)), rfl⟩
      ·
        refine g_iload_n C dX3_plan_31 rfl 1 rfl ?_
        refine g_aload_n C dX3_plan_32 rfl 0 rfl ?_
        refine gm_get5 C (v := f 5) rfl dX3_plan_33 ?_
        refine g_icmp_le C (tgt := 45) dX3_plan_36 (by decide) (by omega) (by omega) (fun hc36_4 => ?_) (fun hc36_4 => ?_)
        ·
          refine g_aload_n C dX3_plan_45 rfl 0 rfl ?_
          refine g_iconst C dX3_plan_46 ?_
          refine gm_put5 C (f' := (up (up f 1 0) 5 0)) rfl dX3_plan_47 ?_
          refine g_aload_n C dX3_plan_50 rfl 0 rfl ?_
          refine g_iconst C dX3_plan_51 ?_
          refine gm_put6 C (f' := (up (up (up f 1 0) 5 0) 6 (-1))) rfl dX3_plan_52 ?_
          refine g_aload_n C dX3_plan_55 rfl 0 rfl ?_
          refine gm_get7 C (v := f 7) rfl dX3_plan_56 ?_
          refine g_bipush C dX3_plan_59 (z := 8) rfl ?_
          refine g_icmp_ne C (tgt := 67) dX3_plan_61 (by decide) (by omega) (by omega) (fun hc61_5 => ?_) (fun hc61_5 => ?_)
          ·
            refine g_iconst C dX3_plan_67 ?_
            refine g_istore C dX3_plan_68 (lv' := [(0, .ref (h 36)), (1, .int (iI n1)), (2, .int (iI a)), (3, .int (iI c1)), (4, .int (iI 0))]) [1, 2, 3, 4, 0] rfl (Nat.le_of_ble_eq_true rfl) ?_
            refine g_iload_n C dX3_plan_70 rfl 2 rfl ?_
            refine g_iload_n C dX3_plan_71 rfl 3 rfl ?_
            refine g_iconst C dX3_plan_72 ?_
            refine kX3_X3_place a c1 0 C (by omega) (by omega) (by omega) ⟨Nat.le_of_ble_eq_true rfl, Nat.le_of_ble_eq_true rfl⟩ (Nat.le_of_ble_eq_true rfl) ⟨Nat.le_of_ble_eq_true rfl, Nat.le_of_ble_eq_true rfl⟩ (rv := 2 * (6 * a + c1) + 0) rfl dX3_plan_73 ?_
            refine g_istore C dX3_plan_76 (lv' := [(0, .ref (h 36)), (1, .int (iI n1)), (2, .int (iI a)), (3, .int (iI c1)), (4, .int (iI 0)), (5, .int (iI (2 * (6 * a + c1) + 0)))]) [1, 2, 3, 4, 5, 0] rfl (Nat.le_of_ble_eq_true rfl) ?_
            refine g_iconst C dX3_plan_78 ?_
            refine g_istore C dX3_plan_79 (lv' := [(0, .ref (h 36)), (1, .int (iI n1)), (2, .int (iI a)), (3, .int (iI c1)), (4, .int (iI 0)), (5, .int (iI (2 * (6 * a + c1) + 0))), (6, .int (iI 0))]) [1, 2, 3, 4, 5, 6, 0] rfl (Nat.le_of_ble_eq_true rfl) ?_
            have L6 : ∀ (n : Nat) (k : Int) (nn : Int) (p0 : Int) (y20 : Int → Int), (0 ≤ k ∧ k ≤ n1) → (nn = rdc (g 13) k) → (p0 = rdp (f 2) (f 3) (g 12) (g 13) (2 * (6 * a + c1) + 0) k) → (0 ≤ p0 ∧ p0 < 60 ∧ p0 / 2 / 6 < f 2 ∧ p0 / 2 % 6 < f 3) → (RDo (f 2) (f 3) (g 12) (g 13) (2 * (6 * a + c1) + 0) k) → (∀ j, j < 400 * f 7 → y20 j = g 20 j) → (∀ j, 0 ≤ j → j < nn → y20 (400 * f 7 + j) = rdv (g 13) k j) → (n1 - k).toNat < n → GO p l e (rmD 5 0 0) s mm args below meth c 9 D A A 0 0 (MX below D A (pI fun z w => ∃ f' g', sm_plan f g n1 a c1 z f' g' ∧ w = mW D h f' g') xN args s (0) (0)) (mW D h (up (up (up f 1 0) 5 0) 6 (-1)) (ug g 20 y20)) 81 [(0, .ref (h 36)), (1, .int (iI n1)), (2, .int (iI a)), (3, .int (iI c1)), (4, .int (iI nn)), (5, .int (iI p0)), (6, .int (iI k))] [] := by
              intro n
              induction n with
              | zero => intro k nn p0 y20 hk hn hp hpi hR hag hrd hm; exact absurd hm (Nat.not_lt_zero _)
              | succ n ih6 =>
                intro k nn p0 y20 hk hn hp hpi hR hag hrd hm6
                have hsg := sgf_rg (g 13 k)
                have hrr := rdc_rg (g 13) hk.1
                refine g_iload C dX3_plan_81 6 rfl ?_
                refine g_iload_n C dX3_plan_83 rfl 1 rfl ?_
                refine g_icmp_ge C (tgt := 204) dX3_plan_84 (by decide) (by omega) (by omega) (fun hc84_7 => ?_) (fun hc84_7 => ?_)
                ·
                  have ek : k = n1 := by omega
                  subst ek
                  subst hn
                  refine g_aload_n C dX3_plan_204 rfl 0 rfl ?_
                  refine gm_get18 C dX3_plan_205 ?_
                  refine g_aload_n C dX3_plan_208 rfl 0 rfl ?_
                  refine gm_get7 C (v := f 7) rfl dX3_plan_209 ?_
                  refine g_iload C dX3_plan_212 4 rfl ?_
                  refine gm_ast18 C (g' := (ug (ug g 18 (uI (g 18) (f 7) (rdc (g 13) k))) 20 y20)) rfl dX3_plan_214 (by omega) ?_
                  refine g_aload_n C dX3_plan_215 rfl 0 rfl ?_
                  refine gm_get19 C dX3_plan_216 ?_
                  refine g_aload_n C dX3_plan_219 rfl 0 rfl ?_
                  refine gm_get7 C (v := f 7) rfl dX3_plan_220 ?_
                  refine g_iload_n C dX3_plan_223 rfl 2 rfl ?_
                  refine g_iload_n C dX3_plan_224 rfl 3 rfl ?_
                  refine g_iconst C dX3_plan_225 ?_
                  refine kX3_X3_place a c1 0 C (by omega) (by omega) (by omega) ⟨Nat.le_of_ble_eq_true rfl, Nat.le_of_ble_eq_true rfl⟩ (Nat.le_of_ble_eq_true rfl) ⟨Nat.le_of_ble_eq_true rfl, Nat.le_of_ble_eq_true rfl⟩ (rv := 2 * (6 * a + c1) + 0) rfl dX3_plan_226 ?_
                  refine gm_ast19 C (g' := (ug (ug (ug g 18 (uI (g 18) (f 7) (rdc (g 13) k))) 19 (uI (g 19) (f 7) (2 * (6 * a + c1) + 0))) 20 y20)) rfl dX3_plan_229 (by omega) ?_
                  refine g_aload_n C dX3_plan_230 rfl 0 rfl ?_
                  refine g_dup C dX3_plan_231 rfl ?_
                  refine gm_get7 C (v := f 7) rfl dX3_plan_232 ?_
                  refine g_iconst C dX3_plan_235 ?_
                  refine g_iadd C dX3_plan_236 ?_
                  refine gm_put7 C (f' := (up (up (up (up f 1 0) 5 0) 6 (-1)) 7 ((f 7) + 1))) rfl dX3_plan_237 ?_
                  refine g_aload_n C dX3_plan_240 rfl 0 rfl ?_
                  refine gm_get7 C (v := (f 7) + 1) rfl dX3_plan_241 ?_
                  refine g_iconst C dX3_plan_244 ?_
                  refine g_isub C dX3_plan_245 ?_
                  exact g_iret C dX3_plan_246 rfl (Nat.le_of_ble_eq_true rfl) (Nat.le_of_ble_eq_true rfl) ⟨_, rfl, _, _, (Or.inr (Or.inr (Or.inr (Or.inr (⟨by omega, (by omega), y20, hR, hag, (fun j h0 h1 => hrd j h0 (by omega)), rfl, rfl⟩))))), rfl⟩
                ·
                  refine g_aload_n C dX3_plan_87 rfl 0 rfl ?_
                  refine gm_get13 C dX3_plan_88 ?_
                  refine g_iload C dX3_plan_91 6 rfl ?_
                  refine gm_ald13 C (v := (g 13) k) rfl dX3_plan_93 (by omega) ?_
                  have hf8 := htv (k) (by omega) (by omega)
                  refine g_bipush C dX3_plan_94 (z := 32) rfl ?_
                  refine g_icmp_eq C (tgt := 198) dX3_plan_96 (by decide) (by omega) (by omega) (fun hc96_9 => ?_) (fun hc96_9 => ?_)
                  ·
                    refine g_iinc C dX3_plan_198 6 rfl (lv' := [(0, .ref (h 36)), (1, .int (iI n1)), (2, .int (iI a)), (3, .int (iI c1)), (4, .int (iI nn)), (5, .int (iI p0)), (6, .int (iI (k + 1)))]) [1, 2, 3, 4, 5, 6, 0] rfl (Nat.le_of_ble_eq_true rfl) ?_
                    refine g_goto C (tgt := 81) dX3_plan_201 (by decide) ?_
                    exact ih6 (k + 1) nn p0 y20 (by omega) (hn.trans (rdc_b hk.1 (show isB (g 13 k) by unfold isB; omega)).symm) (hp.trans (rdp_b hk.1 (show isB (g 13 k) by unfold isB; omega)).symm) hpi (RDo_b hk.1 hR (show isB (g 13 k) by unfold isB; omega)) hag (fun j h0 h1 => (hrd j h0 h1).trans (by rw [rdv_b hk.1 (show isB (g 13 k) by unfold isB; omega)])) (by omega)
                  ·
                    refine g_aload_n C dX3_plan_99 rfl 0 rfl ?_
                    refine gm_get13 C dX3_plan_100 ?_
                    refine g_iload C dX3_plan_103 6 rfl ?_
                    refine gm_ald13 C (v := (g 13) k) rfl dX3_plan_105 (by omega) ?_
                    have hf10 := htv (k) (by omega) (by omega)
                    refine g_bipush C dX3_plan_106 (z := 10) rfl ?_
                    refine g_icmp_ne C (tgt := 114) dX3_plan_108 (by decide) (by omega) (by omega) (fun hc108_11 => ?_) (fun hc108_11 => ?_)
                    ·
                      refine g_aload_n C dX3_plan_114 rfl 0 rfl ?_
                      refine g_aload_n C dX3_plan_115 rfl 0 rfl ?_
                      refine gm_get13 C dX3_plan_116 ?_
                      refine g_iload C dX3_plan_119 6 rfl ?_
                      refine gm_ald13 C (v := (g 13) k) rfl dX3_plan_121 (by omega) ?_
                      have hf12 := htv (k) (by omega) (by omega)
                      refine kX3_X3_signOf ((g 13) k) C (by omega) ⟨Nat.le_of_ble_eq_true rfl, Nat.le_of_ble_eq_true rfl⟩ (Nat.le_of_ble_eq_true rfl) ⟨Nat.le_of_ble_eq_true rfl, Nat.le_of_ble_eq_true rfl⟩ (rv := sgf ((g 13) k)) rfl dX3_plan_122 ?_
                      refine g_istore C dX3_plan_125 (lv' := [(0, .ref (h 36)), (1, .int (iI n1)), (2, .int (iI a)), (3, .int (iI c1)), (4, .int (iI nn)), (5, .int (iI p0)), (6, .int (iI k)), (7, .int (iI (sgf ((g 13) k))))]) [1, 2, 3, 4, 5, 6, 7, 0] rfl (Nat.le_of_ble_eq_true rfl) ?_
                      refine g_iload C dX3_plan_127 7 rfl ?_
                      refine g_iconst C dX3_plan_129 ?_
                      refine g_icmp_ne C (tgt := 137) dX3_plan_130 (by decide) (by omega) (by omega) (fun hc130_13 => ?_) (fun hc130_13 => ?_)
                      ·
                        refine g_aload_n C dX3_plan_137 rfl 0 rfl ?_
                        refine g_iload C dX3_plan_138 5 rfl ?_
                        refine g_iload C dX3_plan_140 7 rfl ?_
                        refine kX3_X3_moved p0 (sgf ((g 13) k)) C hF hS hkd (by omega) (by omega) ⟨Nat.le_of_ble_eq_true rfl, Nat.le_of_ble_eq_true rfl⟩ (Nat.le_of_ble_eq_true rfl) ⟨Nat.le_of_ble_eq_true rfl, Nat.le_of_ble_eq_true rfl⟩ (rv := lead (f 2) (f 3) (g 12) p0 (sgf ((g 13) k))) rfl dX3_plan_142 ?_
                        refine g_istore C dX3_plan_145 (lv' := [(0, .ref (h 36)), (1, .int (iI n1)), (2, .int (iI a)), (3, .int (iI c1)), (4, .int (iI nn)), (5, .int (iI p0)), (6, .int (iI k)), (7, .int (iI (sgf ((g 13) k)))), (8, .int (iI (lead (f 2) (f 3) (g 12) p0 (sgf ((g 13) k)))))]) [1, 2, 3, 4, 5, 6, 7, 8, 0] rfl (Nat.le_of_ble_eq_true rfl) ?_
                        have hlr := lead_rg (kd := g 12) (m := sgf (g 13 k)) hF hS ⟨hpi.1, hpi.2.1⟩ hpi.2.2.1
                        refine g_iload C dX3_plan_147 8 rfl ?_
                        refine g_iconst C dX3_plan_149 ?_
                        refine g_icmp_ne C (tgt := 173) dX3_plan_150 (by decide) (by omega) (by omega) (fun hc150_14 => ?_) (fun hc150_14 => ?_)
                        ·
                          refine g_aload_n C dX3_plan_173 rfl 0 rfl ?_
                          refine gm_get20 C dX3_plan_174 ?_
                          refine g_sipush C dX3_plan_177 (z := 400) rfl ?_
                          refine g_aload_n C dX3_plan_180 rfl 0 rfl ?_
                          refine gm_get7 C (v := f 7) rfl dX3_plan_181 ?_
                          refine g_imul C dX3_plan_184 ?_
                          refine g_iload C dX3_plan_185 4 rfl ?_
                          refine g_iadd C dX3_plan_187 ?_
                          refine g_iload C dX3_plan_188 7 rfl ?_
                          refine gm_ast20 C (g' := (ug g 20 (uI y20 ((400 * (f 7)) + nn) (sgf ((g 13) k))))) rfl dX3_plan_190 (by omega) ?_
                          refine g_iinc C dX3_plan_191 4 rfl (lv' := [(0, .ref (h 36)), (1, .int (iI n1)), (2, .int (iI a)), (3, .int (iI c1)), (4, .int (iI (nn + 1))), (5, .int (iI p0)), (6, .int (iI k)), (7, .int (iI (sgf ((g 13) k)))), (8, .int (iI (lead (f 2) (f 3) (g 12) p0 (sgf ((g 13) k)))))]) [1, 2, 3, 4, 0, 5, 6, 7, 8] rfl (Nat.le_of_ble_eq_true rfl) ?_
                          refine g_iload C dX3_plan_194 8 rfl ?_
                          refine g_istore C dX3_plan_196 (lv' := [(0, .ref (h 36)), (1, .int (iI n1)), (2, .int (iI a)), (3, .int (iI c1)), (4, .int (iI (nn + 1))), (5, .int (iI (lead (f 2) (f 3) (g 12) p0 (sgf ((g 13) k))))), (6, .int (iI k)), (7, .int (iI (sgf ((g 13) k)))), (8, .int (iI (lead (f 2) (f 3) (g 12) p0 (sgf ((g 13) k)))))]) [1, 2, 3, 4, 5, 0, 6, 7, 8] rfl (Nat.le_of_ble_eq_true rfl) ?_
                          refine g_iinc C dX3_plan_198 6 rfl (lv' := [(0, .ref (h 36)), (1, .int (iI n1)), (2, .int (iI a)), (3, .int (iI c1)), (4, .int (iI (nn + 1))), (5, .int (iI (lead (f 2) (f 3) (g 12) p0 (sgf ((g 13) k))))), (6, .int (iI (k + 1))), (7, .int (iI (sgf ((g 13) k)))), (8, .int (iI (lead (f 2) (f 3) (g 12) p0 (sgf ((g 13) k)))))]) [1, 2, 3, 4, 5, 6, 0, 7, 8] rfl (Nat.le_of_ble_eq_true rfl) ?_
                          refine g_goto C (tgt := 81) dX3_plan_201 (by decide) ?_
                          refine g_lv [0, 1, 2, 3, 4, 5, 6] rfl ?_
                          exact ih6 (k + 1) (nn + 1) (lead (f 2) (f 3) (g 12) p0 (sgf ((g 13) k))) (uI y20 ((400 * (f 7)) + nn) (sgf ((g 13) k))) (by omega) (by rw [rdc_m hk.1 (show ¬ isB (g 13 k) by unfold isB; omega), hn]) (by rw [rdp_m hk.1 (show ¬ isB (g 13 k) by unfold isB; omega), ← hp]) (lead_in hF hS hpi (by assumption)) (RDo_m hk.1 hR (by omega) (by rw [← hp]; assumption)) (fun j hj => (uI_n (by omega)).trans (hag j hj)) (fun j h0 h1 => by rw [rdv_m hk.1 (show ¬ isB (g 13 k) by unfold isB; omega), ← hn]; by_cases e9 : j = nn; (subst e9; rw [uI_s, uI_s]); (rw [uI_n (by omega), uI_n e9]; exact hrd j h0 (by omega))) (by omega)
                        ·
                          refine g_aload_n C dX3_plan_153 rfl 0 rfl ?_
                          refine g_iload C dX3_plan_154 6 rfl ?_
                          refine gm_put6 C (f' := (up (up (up f 1 0) 5 0) 6 k)) rfl dX3_plan_156 ?_
                          refine g_iload C dX3_plan_159 7 rfl ?_
                          refine g_iconst C dX3_plan_161 ?_
                          refine g_icmp_ne C (tgt := 170) dX3_plan_162 (by decide) (by omega) (by omega) (fun hc162_15 => ?_) (fun hc162_15 => ?_)
                          ·
                            refine g_bipush C dX3_plan_170 (z := -3) rfl ?_
                            exact g_iret C dX3_plan_172 rfl (Nat.le_of_ble_eq_true rfl) (Nat.le_of_ble_eq_true rfl) ⟨_, rfl, _, _, (Or.inr (Or.inr (Or.inr (Or.inl ⟨by omega, k, y20, ⟨⟨by omega, by omega⟩, hR, (show ¬ isB (g 13 k) by unfold isB; omega), Or.inr ⟨by omega, by rw [← hp]; omega, rfl⟩⟩, hag, rfl, rfl⟩)))), rfl⟩
                          · exact absurd hc162_15 (by omega)
                      ·
                        refine g_iconst C dX3_plan_133 ?_
                        refine g_goto C (tgt := 145) dX3_plan_134 (by decide) ?_
                        refine g_istore C dX3_plan_145 (lv' := [(0, .ref (h 36)), (1, .int (iI n1)), (2, .int (iI a)), (3, .int (iI c1)), (4, .int (iI nn)), (5, .int (iI p0)), (6, .int (iI k)), (7, .int (iI (sgf ((g 13) k)))), (8, .int (iI (-1)))]) [1, 2, 3, 4, 5, 6, 7, 8, 0] rfl (Nat.le_of_ble_eq_true rfl) ?_
                        refine g_iload C dX3_plan_147 8 rfl ?_
                        refine g_iconst C dX3_plan_149 ?_
                        refine g_icmp_ne C (tgt := 173) dX3_plan_150 (by decide) (by omega) (by omega) (fun hc150_16 => ?_) (fun hc150_16 => ?_)
                        · exact absurd rfl hc150_16
                        ·
                          refine g_aload_n C dX3_plan_153 rfl 0 rfl ?_
                          refine g_iload C dX3_plan_154 6 rfl ?_
                          refine gm_put6 C (f' := (up (up (up f 1 0) 5 0) 6 k)) rfl dX3_plan_156 ?_
                          refine g_iload C dX3_plan_159 7 rfl ?_
                          refine g_iconst C dX3_plan_161 ?_
                          refine g_icmp_ne C (tgt := 170) dX3_plan_162 (by decide) (by omega) (by omega) (fun hc162_17 => ?_) (fun hc162_17 => ?_)
                          · exact absurd hc162_17 (by omega)
                          ·
                            refine g_bipush C dX3_plan_165 (z := -2) rfl ?_
                            refine g_goto C (tgt := 172) dX3_plan_167 (by decide) ?_
                            exact g_iret C dX3_plan_172 rfl (Nat.le_of_ble_eq_true rfl) (Nat.le_of_ble_eq_true rfl) ⟨_, rfl, _, _, (Or.inr (Or.inr (Or.inr (Or.inl ⟨by omega, k, y20, ⟨⟨by omega, by omega⟩, hR, (show ¬ isB (g 13 k) by unfold isB; omega), Or.inl ⟨by omega, rfl⟩⟩, hag, rfl, rfl⟩)))), rfl⟩
                    ·
                      refine g_goto C (tgt := 198) dX3_plan_111 (by decide) ?_
                      refine g_iinc C dX3_plan_198 6 rfl (lv' := [(0, .ref (h 36)), (1, .int (iI n1)), (2, .int (iI a)), (3, .int (iI c1)), (4, .int (iI nn)), (5, .int (iI p0)), (6, .int (iI (k + 1)))]) [1, 2, 3, 4, 5, 6, 0] rfl (Nat.le_of_ble_eq_true rfl) ?_
                      refine g_goto C (tgt := 81) dX3_plan_201 (by decide) ?_
                      exact ih6 (k + 1) nn p0 y20 (by omega) (hn.trans (rdc_b hk.1 (show isB (g 13 k) by unfold isB; omega)).symm) (hp.trans (rdp_b hk.1 (show isB (g 13 k) by unfold isB; omega)).symm) hpi (RDo_b hk.1 hR (show isB (g 13 k) by unfold isB; omega)) hag (fun j h0 h1 => (hrd j h0 h1).trans (by rw [rdv_b hk.1 (show isB (g 13 k) by unfold isB; omega)])) (by omega)
            exact L6 _ 0 0 (2 * (6 * a + c1) + 0) (g 20) (by omega) rfl rfl (by omega) trivial (fun j _ => rfl) (fun j h0 h1 => absurd h1 (by omega)) (Nat.lt_succ_self _)
          ·
            refine g_bipush C dX3_plan_64 (z := -9) rfl ?_
            exact g_iret C dX3_plan_66 rfl (Nat.le_of_ble_eq_true rfl) (Nat.le_of_ble_eq_true rfl) ⟨_, rfl, _, _, (Or.inr (Or.inr (Or.inl ⟨by omega, rfl, rfl, rfl⟩))), rfl⟩
        ·
          refine g_aload_n C dX3_plan_39 rfl 0 rfl ?_
          refine g_iconst C dX3_plan_40 ?_
          refine kX3_X3_fail 2 C  ⟨Nat.le_of_ble_eq_true rfl, Nat.le_of_ble_eq_true rfl⟩ (Nat.le_of_ble_eq_true rfl) ⟨Nat.le_of_ble_eq_true rfl, Nat.le_of_ble_eq_true rfl⟩ dX3_plan_41 ?_
          refine g_ws (ws' := mW D h (up f 1 2) g) rfl ?_
          exact g_iret C dX3_plan_44 rfl (Nat.le_of_ble_eq_true rfl) (Nat.le_of_ble_eq_true rfl) ⟨_, rfl, _, _, (Or.inr (Or.inl ⟨by omega, rfl, rfl, rfl⟩)), rfl⟩
    ·
      have hc18_2b : ¬ (0 ≤ c1 ∧ c1 < f 3) := of_decide_eq_false (bI_0.mp (by have := bI_rg (decide (0 ≤ c1 ∧ c1 < f 3)); omega))
      refine g_aload_n C dX3_plan_21 rfl 0 rfl ?_
      refine g_iconst C dX3_plan_22 ?_
      refine kX3_X3_fail 1 C  ⟨Nat.le_of_ble_eq_true rfl, Nat.le_of_ble_eq_true rfl⟩ (Nat.le_of_ble_eq_true rfl) ⟨Nat.le_of_ble_eq_true rfl, Nat.le_of_ble_eq_true rfl⟩ dX3_plan_23 ?_
      refine g_ws (ws' := mW D h (up f 1 1) g) rfl ?_
      exact g_iret C dX3_plan_26 rfl (Nat.le_of_ble_eq_true rfl) (Nat.le_of_ble_eq_true rfl) ⟨_, rfl, _, _, (Or.inl ⟨by omega, rfl, rfl, rfl⟩), rfl⟩

end MC10
