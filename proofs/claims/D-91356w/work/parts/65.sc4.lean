/-! ===== contracts of the class: its parts ===== -/
section SC4
set_option maxHeartbeats 4000000 in
set_option maxRecDepth 100000 in
theorem c_X1_find (l : Launch) (D : va_G) (hst : l.stackTraces = false) (h : Nat → Nat) (f : Nat → Int) (g : Nat → Int → Int) (N : Nat → Nat) (M : Nat → Nat → Nat) (U : va_W) (a s1 w1 : Int) (hnp : 0 ≤ f 6 ∧ f 6 ≤ 55) (hN6 : N 6 = 55) (hpt : ∀ j, 0 ≤ j → j < f 6 → (0 ≤ g 24 j ∧ g 24 j ≤ 4) ∧ (0 ≤ g 25 j ∧ g 25 j ≤ 5) ∧ (0 ≤ g 26 j ∧ g 26 j ≤ 2) ∧ (0 ≤ g 27 j ∧ g 27 j ≤ 1)) (ha : -100 ≤ a ∧ a ≤ 100 ∧ -100 ≤ s1 ∧ s1 ≤ 100 ∧ -100 ≤ w1 ∧ w1 ≤ 100) : CT l D yX1_find (ws_ yX1_find cX1_find 5 (some .int)) (rmD 4 0 0) (0) (0) mdR [.ref (h 0), .int (iI a), .int (iI s1), .int (iI w1)] (sW D h f g N M (ptW (M 6) (g 24) (g 25) (g 26) (g 27) (f 6) ++ U)) exT (pI fun z _ => z = fnd (f 6) (g 24) (g 25) (g 26) a s1 w1) (xN) := by
  refine ct_R (lv := [(0, .ref (h 0)), (1, .int (iI a)), (2, .int (iI s1)), (3, .int (iI w1))]) RX1 (by decide) rfl rfl hst (Nat.le_of_ble_eq_true rfl) rfl ?_
  intro p e s mm args below meth c A C htab hex
  refine g_iconst C dX1_find_0 ?_
  refine g_istore C dX1_find_1 (lv' := [(0, .ref (h 0)), (1, .int (iI a)), (2, .int (iI s1)), (3, .int (iI w1)), (4, .int (iI 0))]) [1, 2, 3, 4, 0] rfl (Nat.le_of_ble_eq_true rfl) ?_
  have L1 : ∀ (n : Nat) (k : Int), (0 ≤ k ∧ k ≤ f 6) → (fnd (f 6) (g 24) (g 25) (g 26) a s1 w1 = fndF (g 24) (g 25) (g 26) a s1 w1 (f 6 - k).toNat k) → (f 6 - k).toNat < n → GO p l e (rmD 4 0 0) s mm args below meth c 5 D A (fun _ => True) 0 0 (MX below D A (pI fun z _ => z = fnd (f 6) (g 24) (g 25) (g 26) a s1 w1) (xN) args s (0) (0)) (sW D h f g N M (ptW (M 6) (g 24) (g 25) (g 26) (g 27) (f 6) ++ U)) 3 [(0, .ref (h 0)), (1, .int (iI a)), (2, .int (iI s1)), (3, .int (iI w1)), (4, .int (iI k))] [] := by
    intro n
    induction n with
    | zero => intro k hk hfk hm; exact absurd hm (Nat.not_lt_zero _)
    | succ n ih1 =>
      intro k hk hfk hm1
      refine g_iload C dX1_find_3 4 rfl ?_
      refine g_aload_n C dX1_find_5 rfl 0 rfl ?_
      refine gs_get6 C dX1_find_6 ?_
      refine kX1_lsize (h 6) (h 21) (f 21) (N 6) (f 6) (M 6) C ⟨Nat.le_of_ble_eq_true rfl, Nat.le_of_ble_eq_true rfl⟩ (Nat.le_of_ble_eq_true rfl) ⟨Nat.le_of_ble_eq_true rfl, Nat.le_of_ble_eq_true rfl⟩ (rv := f 6) rfl sb_l6 dX1_find_9 ?_
      refine g_icmp_ge C (tgt := 81) dX1_find_12 (by decide) (by omega) (by omega) (fun hc12_2 => ?_) (fun hc12_2 => ?_)
      ·
        refine g_iconst C dX1_find_81 ?_
        refine g_nilA ?_
        exact g_iret C dX1_find_82 rfl (Nat.le_of_ble_eq_true rfl) (Nat.le_of_ble_eq_true rfl) ⟨_, rfl, by rw [hfk, fndF_end (by omega)]⟩
      ·
        refine g_aload_n C dX1_find_15 rfl 0 rfl ?_
        refine gs_get6 C dX1_find_16 ?_
        refine g_iload C dX1_find_19 4 rfl ?_
        refine kX1_lget (h 6) (h 21) (f 21) (N 6) (f 6) (M 6) k C (by omega) (show 0 ≤ (f 6) ∧ (f 6) ≤ ((N 6 : Nat) : Int) ∧ N 6 ≤ 3000 by omega) ⟨Nat.le_of_ble_eq_true rfl, Nat.le_of_ble_eq_true rfl⟩ (Nat.le_of_ble_eq_true rfl) ⟨Nat.le_of_ble_eq_true rfl, Nat.le_of_ble_eq_true rfl⟩ sb_l6 dX1_find_21 ?_
        refine g_castE C q438 (pt_rcv (j := k) C (by omega)) dX1_find_24 ?_
        refine gp_get0 C (j := k) (v := (g 24) k) (by omega) rfl dX1_find_27 ?_
        have hf3 := hpt (k) (by omega) (by omega)
        refine g_iload_n C dX1_find_30 rfl 1 rfl ?_
        refine g_icmp_ne C (tgt := 75) dX1_find_31 (by decide) (by omega) (by omega) (fun hc31_4 => ?_) (fun hc31_4 => ?_)
        ·
          refine g_iinc C dX1_find_75 4 rfl (lv' := [(0, .ref (h 0)), (1, .int (iI a)), (2, .int (iI s1)), (3, .int (iI w1)), (4, .int (iI (k + 1)))]) [1, 2, 3, 4, 0] rfl (Nat.le_of_ble_eq_true rfl) ?_
          refine g_goto C (tgt := 3) dX1_find_78 (by decide) ?_
          exact ih1 (k + 1) (by omega) (by rw [hfk, fndF_step (by omega), if_neg (by omega)]) (by omega)
        ·
          refine g_aload_n C dX1_find_34 rfl 0 rfl ?_
          refine gs_get6 C dX1_find_35 ?_
          refine g_iload C dX1_find_38 4 rfl ?_
          refine kX1_lget (h 6) (h 21) (f 21) (N 6) (f 6) (M 6) k C (by omega) (show 0 ≤ (f 6) ∧ (f 6) ≤ ((N 6 : Nat) : Int) ∧ N 6 ≤ 3000 by omega) ⟨Nat.le_of_ble_eq_true rfl, Nat.le_of_ble_eq_true rfl⟩ (Nat.le_of_ble_eq_true rfl) ⟨Nat.le_of_ble_eq_true rfl, Nat.le_of_ble_eq_true rfl⟩ sb_l6 dX1_find_40 ?_
          refine g_castE C q438 (pt_rcv (j := k) C (by omega)) dX1_find_43 ?_
          refine gp_get1 C (j := k) (v := (g 25) k) (by omega) rfl dX1_find_46 ?_
          have hf5 := hpt (k) (by omega) (by omega)
          refine g_iload_n C dX1_find_49 rfl 2 rfl ?_
          refine g_icmp_ne C (tgt := 75) dX1_find_50 (by decide) (by omega) (by omega) (fun hc50_6 => ?_) (fun hc50_6 => ?_)
          ·
            refine g_iinc C dX1_find_75 4 rfl (lv' := [(0, .ref (h 0)), (1, .int (iI a)), (2, .int (iI s1)), (3, .int (iI w1)), (4, .int (iI (k + 1)))]) [1, 2, 3, 4, 0] rfl (Nat.le_of_ble_eq_true rfl) ?_
            refine g_goto C (tgt := 3) dX1_find_78 (by decide) ?_
            exact ih1 (k + 1) (by omega) (by rw [hfk, fndF_step (by omega), if_neg (by omega)]) (by omega)
          ·
            refine g_aload_n C dX1_find_53 rfl 0 rfl ?_
            refine gs_get6 C dX1_find_54 ?_
            refine g_iload C dX1_find_57 4 rfl ?_
            refine kX1_lget (h 6) (h 21) (f 21) (N 6) (f 6) (M 6) k C (by omega) (show 0 ≤ (f 6) ∧ (f 6) ≤ ((N 6 : Nat) : Int) ∧ N 6 ≤ 3000 by omega) ⟨Nat.le_of_ble_eq_true rfl, Nat.le_of_ble_eq_true rfl⟩ (Nat.le_of_ble_eq_true rfl) ⟨Nat.le_of_ble_eq_true rfl, Nat.le_of_ble_eq_true rfl⟩ sb_l6 dX1_find_59 ?_
            refine g_castE C q438 (pt_rcv (j := k) C (by omega)) dX1_find_62 ?_
            refine gp_get2 C (j := k) (v := (g 26) k) (by omega) rfl dX1_find_65 ?_
            have hf7 := hpt (k) (by omega) (by omega)
            refine g_iload_n C dX1_find_68 rfl 3 rfl ?_
            refine g_icmp_ne C (tgt := 75) dX1_find_69 (by decide) (by omega) (by omega) (fun hc69_8 => ?_) (fun hc69_8 => ?_)
            ·
              refine g_iinc C dX1_find_75 4 rfl (lv' := [(0, .ref (h 0)), (1, .int (iI a)), (2, .int (iI s1)), (3, .int (iI w1)), (4, .int (iI (k + 1)))]) [1, 2, 3, 4, 0] rfl (Nat.le_of_ble_eq_true rfl) ?_
              refine g_goto C (tgt := 3) dX1_find_78 (by decide) ?_
              exact ih1 (k + 1) (by omega) (by rw [hfk, fndF_step (by omega), if_neg (by omega)]) (by omega)
            ·
              refine g_iload C dX1_find_72 4 rfl ?_
              refine g_nilA ?_
              exact g_iret C dX1_find_74 rfl (Nat.le_of_ble_eq_true rfl) (Nat.le_of_ble_eq_true rfl) ⟨_, rfl, by rw [hfk, fndF_step (by omega), if_pos (by omega)]⟩
  exact L1 _ 0 (by omega) (by unfold fnd; rw [Int.sub_zero]) (Nat.lt_succ_self _)

section MK
variable {p : Program} {l : Launch} {e : Env} {R : Room} {s : State} {mm : MethodId} {args : Array Value} {below : List Frame} {meth : Method} {c : Code} {cc : ByteArray} {nL : Nat} {ret : Option FieldType} {D : va_G} {A B : Nat → Prop} {cells slots : Nat} {Q : State → Prop} {pc : Nat} {lv : List (Nat × Value)} {st : List Value}
theorem kX1_X1_find {ws : va_W} (h : Nat → Nat) (f : Nat → Int) (g : Nat → Int → Int) (N : Nat → Nat) (M : Nat → Nat → Nat) (U : va_W) (a s1 w1 : Int) (C : CX p l s mm args meth c RX1 cc nL ret D A) (hnp : 0 ≤ f 6 ∧ f 6 ≤ 55) (hN6 : N 6 = 55) (hpt : ∀ j, 0 ≤ j → j < f 6 → (0 ≤ g 24 j ∧ g 24 j ≤ 4) ∧ (0 ≤ g 25 j ∧ g 25 j ≤ 5) ∧ (0 ≤ g 26 j ∧ g 26 j ≤ 2) ∧ (0 ≤ g 27 j ∧ g 27 j ≤ 1)) (ha : -100 ≤ a ∧ a ≤ 100 ∧ -100 ≤ s1 ∧ s1 ≤ 100 ∧ -100 ≤ w1 ∧ w1 ≤ 100) (hR : 4 + 1 ≤ R.frames ∧ 8 + (5 + 11) + 64 * 4 ≤ R.locals) (hcat : (st.map fun v => v.category).sum ≤ 8) (hroom : cells ≤ R.cells ∧ slots ≤ R.slots) {rv : Int} (hr : fnd (f 6) (g 24) (g 25) (g 26) a s1 w1 = rv) (hsb : Sb ws (sW D h f g N M (ptW (M 6) (g 24) (g 25) (g 26) (g 27) (f 6) ++ U))) (d : decode cc pc = .ok (.invokevirtual 155, 3)) (K : GO p l e R s mm args below meth c nL D A B cells slots Q (ws) (pc + 3) lv (.int (iI rv) :: st)) : GO p l e R s mm args below meth c nL D A B cells slots Q (ws) (pc) lv (.int (iI w1) :: .int (iI s1) :: .int (iI a) :: .ref (h 0) :: st) := by
  refine g_callVR C (c_X1_find l D C.hl h f g N M U a s1 w1 hnp hN6 hpt ha) (As := [.int (iI a), .int (iI s1), .int (iI w1)]) (n := 3) (lw_V q631 q633 qs10 q48 q634) (by decide +kernel) rfl rfl hR (rcvH C hsb) rfl rfl hcat ⟨hroom.1, hroom.2⟩ d hsb exT_b hex_t (fun v w hp => ?_) kx_n
  obtain ⟨z, rfl, rfl⟩ := hp
  rw [hr]
  exact K
end MK

set_option maxHeartbeats 4000000 in
set_option maxRecDepth 100000 in
theorem c_X1_goesAlong (l : Launch) (D : va_G) (hst : l.stackTraces = false) (h : Nat → Nat) (f : Nat → Int) (g : Nat → Int → Int) (N : Nat → Nat) (M : Nat → Nat → Nat) (U : va_W) (at_ mv : Int) (hnp : 0 ≤ f 6 ∧ f 6 ≤ 55) (hN6 : N 6 = 55) (hpt : ∀ j, 0 ≤ j → j < f 6 → (0 ≤ g 24 j ∧ g 24 j ≤ 4) ∧ (0 ≤ g 25 j ∧ g 25 j ≤ 5) ∧ (0 ≤ g 26 j ∧ g 26 j ≤ 2) ∧ (0 ≤ g 27 j ∧ g 27 j ≤ 1)) (hat : 0 ≤ at_ ∧ at_ < 60) (hm : 0 ≤ mv ∧ mv < 8) : CT l D yX1_goesAlong (ws_ yX1_goesAlong cX1_goesAlong 4 (some .int)) (rmD 5 0 0) (0) (0) mdR [.ref (h 0), .int (iI at_), .int (iI mv)] (sW D h f g N M (ptW (M 6) (g 24) (g 25) (g 26) (g 27) (f 6) ++ U)) exT (pI fun z _ => z = alg (f 6) (g 24) (g 25) (g 26) at_ mv) (xN) := by
  refine ct_R (lv := [(0, .ref (h 0)), (1, .int (iI at_)), (2, .int (iI mv))]) RX1 (by decide) rfl rfl hst (Nat.le_of_ble_eq_true rfl) rfl ?_
  intro p e s mm args below meth c A C htab hex
  refine g_iload_n C dX1_goesAlong_0 rfl 1 rfl ?_
  refine kX1_X1_station at_ C (by omega) ⟨Nat.le_of_ble_eq_true rfl, Nat.le_of_ble_eq_true rfl⟩ (Nat.le_of_ble_eq_true rfl) ⟨Nat.le_of_ble_eq_true rfl, Nat.le_of_ble_eq_true rfl⟩ (rv := at_ / 2 % 6) rfl dX1_goesAlong_1 ?_
  refine g_istore_n C dX1_goesAlong_4 rfl (lv' := [(0, .ref (h 0)), (1, .int (iI at_)), (2, .int (iI mv)), (3, .int (iI (at_ / 2 % 6)))]) [1, 2, 3, 0] rfl (Nat.le_of_ble_eq_true rfl) ?_
  refine g_iload_n C dX1_goesAlong_5 rfl 2 rfl ?_
  rcases (show mv = 0 ∨ mv = 1 ∨ mv = 2 ∨ mv = 3 ∨ mv = 4 ∨ mv = 5 ∨ mv = 6 ∨ mv = 7 by omega) with rfl | rfl | rfl | rfl | rfl | rfl | rfl | rfl
  ·
    refine g_tableD C (tgt := 99) dX1_goesAlong_6 (by omega) (by omega) (by decide) ?_
    refine g_iconst C dX1_goesAlong_99 ?_
    refine g_nilA ?_
    exact g_iret C dX1_goesAlong_100 rfl (Nat.le_of_ble_eq_true rfl) (Nat.le_of_ble_eq_true rfl) ⟨_, rfl, rfl⟩
  ·
    refine g_table C (tgt := 40) dX1_goesAlong_6 (by omega) (by omega) rfl (by decide) ?_
    refine g_aload_n C dX1_goesAlong_40 rfl 0 rfl ?_
    refine g_iload_n C dX1_goesAlong_41 rfl 1 rfl ?_
    refine kX1_X1_fold at_ C (by omega) ⟨Nat.le_of_ble_eq_true rfl, Nat.le_of_ble_eq_true rfl⟩ (Nat.le_of_ble_eq_true rfl) ⟨Nat.le_of_ble_eq_true rfl, Nat.le_of_ble_eq_true rfl⟩ (rv := at_ / 2 / 6) rfl dX1_goesAlong_42 ?_
    refine g_iload_n C dX1_goesAlong_45 rfl 3 rfl ?_
    refine g_iconst C dX1_goesAlong_46 ?_
    refine kX1_X1_find h f g N M U (at_ / 2 / 6) (at_ / 2 % 6) 0 C hnp hN6 hpt (by omega) ⟨Nat.le_of_ble_eq_true rfl, Nat.le_of_ble_eq_true rfl⟩ (Nat.le_of_ble_eq_true rfl) ⟨Nat.le_of_ble_eq_true rfl, Nat.le_of_ble_eq_true rfl⟩ (rv := fnd (f 6) (g 24) (g 25) (g 26) (at_ / 2 / 6) (at_ / 2 % 6) 0) rfl Sb.rf dX1_goesAlong_47 ?_
    refine g_nilA ?_
    exact g_iret C dX1_goesAlong_50 rfl (Nat.le_of_ble_eq_true rfl) (Nat.le_of_ble_eq_true rfl) ⟨_, rfl, rfl⟩
  ·
    refine g_table C (tgt := 51) dX1_goesAlong_6 (by omega) (by omega) rfl (by decide) ?_
    refine g_aload_n C dX1_goesAlong_51 rfl 0 rfl ?_
    refine g_iload_n C dX1_goesAlong_52 rfl 1 rfl ?_
    refine kX1_X1_fold at_ C (by omega) ⟨Nat.le_of_ble_eq_true rfl, Nat.le_of_ble_eq_true rfl⟩ (Nat.le_of_ble_eq_true rfl) ⟨Nat.le_of_ble_eq_true rfl, Nat.le_of_ble_eq_true rfl⟩ (rv := at_ / 2 / 6) rfl dX1_goesAlong_53 ?_
    refine g_iload_n C dX1_goesAlong_56 rfl 3 rfl ?_
    refine g_iconst C dX1_goesAlong_57 ?_
    refine g_isub C dX1_goesAlong_58 ?_
    refine g_iconst C dX1_goesAlong_59 ?_
    refine kX1_X1_find h f g N M U (at_ / 2 / 6) ((at_ / 2 % 6) - 1) 0 C hnp hN6 hpt (by omega) ⟨Nat.le_of_ble_eq_true rfl, Nat.le_of_ble_eq_true rfl⟩ (Nat.le_of_ble_eq_true rfl) ⟨Nat.le_of_ble_eq_true rfl, Nat.le_of_ble_eq_true rfl⟩ (rv := fnd (f 6) (g 24) (g 25) (g 26) (at_ / 2 / 6) ((at_ / 2 % 6) - 1) 0) rfl Sb.rf dX1_goesAlong_60 ?_
    refine g_nilA ?_
    exact g_iret C dX1_goesAlong_63 rfl (Nat.le_of_ble_eq_true rfl) (Nat.le_of_ble_eq_true rfl) ⟨_, rfl, rfl⟩
  ·
    refine g_table C (tgt := 64) dX1_goesAlong_6 (by omega) (by omega) rfl (by decide) ?_
    refine g_aload_n C dX1_goesAlong_64 rfl 0 rfl ?_
    refine g_iload_n C dX1_goesAlong_65 rfl 1 rfl ?_
    refine kX1_X1_fold at_ C (by omega) ⟨Nat.le_of_ble_eq_true rfl, Nat.le_of_ble_eq_true rfl⟩ (Nat.le_of_ble_eq_true rfl) ⟨Nat.le_of_ble_eq_true rfl, Nat.le_of_ble_eq_true rfl⟩ (rv := at_ / 2 / 6) rfl dX1_goesAlong_66 ?_
    refine g_iload_n C dX1_goesAlong_69 rfl 3 rfl ?_
    refine g_iconst C dX1_goesAlong_70 ?_
    refine kX1_X1_find h f g N M U (at_ / 2 / 6) (at_ / 2 % 6) 2 C hnp hN6 hpt (by omega) ⟨Nat.le_of_ble_eq_true rfl, Nat.le_of_ble_eq_true rfl⟩ (Nat.le_of_ble_eq_true rfl) ⟨Nat.le_of_ble_eq_true rfl, Nat.le_of_ble_eq_true rfl⟩ (rv := fnd (f 6) (g 24) (g 25) (g 26) (at_ / 2 / 6) (at_ / 2 % 6) 2) rfl Sb.rf dX1_goesAlong_71 ?_
    refine g_nilA ?_
    exact g_iret C dX1_goesAlong_74 rfl (Nat.le_of_ble_eq_true rfl) (Nat.le_of_ble_eq_true rfl) ⟨_, rfl, rfl⟩
  ·
    refine g_table C (tgt := 75) dX1_goesAlong_6 (by omega) (by omega) rfl (by decide) ?_
    refine g_aload_n C dX1_goesAlong_75 rfl 0 rfl ?_
    refine g_iload_n C dX1_goesAlong_76 rfl 1 rfl ?_
    refine kX1_X1_fold at_ C (by omega) ⟨Nat.le_of_ble_eq_true rfl, Nat.le_of_ble_eq_true rfl⟩ (Nat.le_of_ble_eq_true rfl) ⟨Nat.le_of_ble_eq_true rfl, Nat.le_of_ble_eq_true rfl⟩ (rv := at_ / 2 / 6) rfl dX1_goesAlong_77 ?_
    refine g_iload_n C dX1_goesAlong_80 rfl 3 rfl ?_
    refine g_iconst C dX1_goesAlong_81 ?_
    refine g_isub C dX1_goesAlong_82 ?_
    refine g_iconst C dX1_goesAlong_83 ?_
    refine kX1_X1_find h f g N M U (at_ / 2 / 6) ((at_ / 2 % 6) - 1) 2 C hnp hN6 hpt (by omega) ⟨Nat.le_of_ble_eq_true rfl, Nat.le_of_ble_eq_true rfl⟩ (Nat.le_of_ble_eq_true rfl) ⟨Nat.le_of_ble_eq_true rfl, Nat.le_of_ble_eq_true rfl⟩ (rv := fnd (f 6) (g 24) (g 25) (g 26) (at_ / 2 / 6) ((at_ / 2 % 6) - 1) 2) rfl Sb.rf dX1_goesAlong_84 ?_
    refine g_nilA ?_
    exact g_iret C dX1_goesAlong_87 rfl (Nat.le_of_ble_eq_true rfl) (Nat.le_of_ble_eq_true rfl) ⟨_, rfl, rfl⟩
  ·
    refine g_table C (tgt := 88) dX1_goesAlong_6 (by omega) (by omega) rfl (by decide) ?_
    refine g_aload_n C dX1_goesAlong_88 rfl 0 rfl ?_
    refine g_iload_n C dX1_goesAlong_89 rfl 1 rfl ?_
    refine kX1_X1_fold at_ C (by omega) ⟨Nat.le_of_ble_eq_true rfl, Nat.le_of_ble_eq_true rfl⟩ (Nat.le_of_ble_eq_true rfl) ⟨Nat.le_of_ble_eq_true rfl, Nat.le_of_ble_eq_true rfl⟩ (rv := at_ / 2 / 6) rfl dX1_goesAlong_90 ?_
    refine g_iload_n C dX1_goesAlong_93 rfl 3 rfl ?_
    refine g_iconst C dX1_goesAlong_94 ?_
    refine kX1_X1_find h f g N M U (at_ / 2 / 6) (at_ / 2 % 6) 1 C hnp hN6 hpt (by omega) ⟨Nat.le_of_ble_eq_true rfl, Nat.le_of_ble_eq_true rfl⟩ (Nat.le_of_ble_eq_true rfl) ⟨Nat.le_of_ble_eq_true rfl, Nat.le_of_ble_eq_true rfl⟩ (rv := fnd (f 6) (g 24) (g 25) (g 26) (at_ / 2 / 6) (at_ / 2 % 6) 1) rfl Sb.rf dX1_goesAlong_95 ?_
    refine g_nilA ?_
    exact g_iret C dX1_goesAlong_98 rfl (Nat.le_of_ble_eq_true rfl) (Nat.le_of_ble_eq_true rfl) ⟨_, rfl, rfl⟩
  ·
    refine g_tableD C (tgt := 99) dX1_goesAlong_6 (by omega) (by omega) (by decide) ?_
    refine g_iconst C dX1_goesAlong_99 ?_
    refine g_nilA ?_
    exact g_iret C dX1_goesAlong_100 rfl (Nat.le_of_ble_eq_true rfl) (Nat.le_of_ble_eq_true rfl) ⟨_, rfl, rfl⟩
  ·
    refine g_tableD C (tgt := 99) dX1_goesAlong_6 (by omega) (by omega) (by decide) ?_
    refine g_iconst C dX1_goesAlong_99 ?_
    refine g_nilA ?_
    exact g_iret C dX1_goesAlong_100 rfl (Nat.le_of_ble_eq_true rfl) (Nat.le_of_ble_eq_true rfl) ⟨_, rfl, rfl⟩

section MK
variable {p : Program} {l : Launch} {e : Env} {R : Room} {s : State} {mm : MethodId} {args : Array Value} {below : List Frame} {meth : Method} {c : Code} {cc : ByteArray} {nL : Nat} {ret : Option FieldType} {D : va_G} {A B : Nat → Prop} {cells slots : Nat} {Q : State → Prop} {pc : Nat} {lv : List (Nat × Value)} {st : List Value}
theorem kX1_X1_goesAlong {ws : va_W} (h : Nat → Nat) (f : Nat → Int) (g : Nat → Int → Int) (N : Nat → Nat) (M : Nat → Nat → Nat) (U : va_W) (at_ mv : Int) (C : CX p l s mm args meth c RX1 cc nL ret D A) (hnp : 0 ≤ f 6 ∧ f 6 ≤ 55) (hN6 : N 6 = 55) (hpt : ∀ j, 0 ≤ j → j < f 6 → (0 ≤ g 24 j ∧ g 24 j ≤ 4) ∧ (0 ≤ g 25 j ∧ g 25 j ≤ 5) ∧ (0 ≤ g 26 j ∧ g 26 j ≤ 2) ∧ (0 ≤ g 27 j ∧ g 27 j ≤ 1)) (hat : 0 ≤ at_ ∧ at_ < 60) (hm : 0 ≤ mv ∧ mv < 8) (hR : 5 + 1 ≤ R.frames ∧ 8 + (4 + 11) + 64 * 5 ≤ R.locals) (hcat : (st.map fun v => v.category).sum ≤ 8) (hroom : cells ≤ R.cells ∧ slots ≤ R.slots) {rv : Int} (hr : alg (f 6) (g 24) (g 25) (g 26) at_ mv = rv) (hsb : Sb ws (sW D h f g N M (ptW (M 6) (g 24) (g 25) (g 26) (g 27) (f 6) ++ U))) (d : decode cc pc = .ok (.invokevirtual 215, 3)) (K : GO p l e R s mm args below meth c nL D A B cells slots Q (ws) (pc + 3) lv (.int (iI rv) :: st)) : GO p l e R s mm args below meth c nL D A B cells slots Q (ws) (pc) lv (.int (iI mv) :: .int (iI at_) :: .ref (h 0) :: st) := by
  refine g_callVR C (c_X1_goesAlong l D C.hl h f g N M U at_ mv hnp hN6 hpt hat hm) (As := [.int (iI at_), .int (iI mv)]) (n := 2) (lw_V q627 q629 qs9 q48 q630) (by decide +kernel) rfl rfl hR (rcvH C hsb) rfl rfl hcat ⟨hroom.1, hroom.2⟩ d hsb exT_b hex_t (fun v w hp => ?_) kx_n
  obtain ⟨z, rfl, rfl⟩ := hp
  rw [hr]
  exact K
end MK

set_option maxHeartbeats 4000000 in
set_option maxRecDepth 100000 in
theorem c_X1_needed (l : Launch) (D : va_G) (hst : l.stackTraces = false) (h : Nat → Nat) (f : Nat → Int) (g : Nat → Int → Int) (N : Nat → Nat) (M : Nat → Nat → Nat) (U : va_W)  (hnp : 0 ≤ f 6 ∧ f 6 ≤ 55) (hN6 : N 6 = 55) (hpt : ∀ j, 0 ≤ j → j < f 6 → (0 ≤ g 24 j ∧ g 24 j ≤ 4) ∧ (0 ≤ g 25 j ∧ g 25 j ≤ 5) ∧ (0 ≤ g 26 j ∧ g 26 j ≤ 2) ∧ (0 ≤ g 27 j ∧ g 27 j ≤ 1)) : CT l D yX1_needed (ws_ yX1_needed cX1_needed 3 (some .int)) (rmD 4 0 0) (0) (0) mdR [.ref (h 0)] (sW D h f g N M (ptW (M 6) (g 24) (g 25) (g 26) (g 27) (f 6) ++ U)) exT (pI fun z _ => z = ndc (g 27) (f 6)) (xN) := by
  refine ct_R (lv := [(0, .ref (h 0))]) RX1 (by decide) rfl rfl hst (Nat.le_of_ble_eq_true rfl) rfl ?_
  intro p e s mm args below meth c A C htab hex
  refine g_iconst C dX1_needed_0 ?_
  refine g_istore_n C dX1_needed_1 rfl (lv' := [(0, .ref (h 0)), (1, .int (iI 0))]) [1, 0] rfl (Nat.le_of_ble_eq_true rfl) ?_
  refine g_iconst C dX1_needed_2 ?_
  refine g_istore_n C dX1_needed_3 rfl (lv' := [(0, .ref (h 0)), (1, .int (iI 0)), (2, .int (iI 0))]) [1, 2, 0] rfl (Nat.le_of_ble_eq_true rfl) ?_
  have L1 : ∀ (n : Nat) (k : Int) (nn : Int), (0 ≤ k ∧ k ≤ f 6) → (nn = ndc (g 27) k) → (f 6 - k).toNat < n → GO p l e (rmD 4 0 0) s mm args below meth c 3 D A (fun _ => True) 0 0 (MX below D A (pI fun z _ => z = ndc (g 27) (f 6)) (xN) args s (0) (0)) (sW D h f g N M (ptW (M 6) (g 24) (g 25) (g 26) (g 27) (f 6) ++ U)) 4 [(0, .ref (h 0)), (1, .int (iI nn)), (2, .int (iI k))] [] := by
    intro n
    induction n with
    | zero => intro k nn hk hn hm; exact absurd hm (Nat.not_lt_zero _)
    | succ n ih1 =>
      intro k nn hk hn hm1
      refine g_iload_n C dX1_needed_4 rfl 2 rfl ?_
      refine g_aload_n C dX1_needed_5 rfl 0 rfl ?_
      refine gs_get6 C dX1_needed_6 ?_
      refine kX1_lsize (h 6) (h 21) (f 21) (N 6) (f 6) (M 6) C ⟨Nat.le_of_ble_eq_true rfl, Nat.le_of_ble_eq_true rfl⟩ (Nat.le_of_ble_eq_true rfl) ⟨Nat.le_of_ble_eq_true rfl, Nat.le_of_ble_eq_true rfl⟩ (rv := f 6) rfl sb_l6 dX1_needed_9 ?_
      refine g_icmp_ge C (tgt := 41) dX1_needed_12 (by decide) (by omega) (by omega) (fun hc12_2 => ?_) (fun hc12_2 => ?_)
      ·
        refine g_iload_n C dX1_needed_41 rfl 1 rfl ?_
        refine g_nilA ?_
        exact g_iret C dX1_needed_42 rfl (Nat.le_of_ble_eq_true rfl) (Nat.le_of_ble_eq_true rfl) ⟨_, rfl, by rw [hn, show k = f 6 by omega]⟩
      ·
        refine g_aload_n C dX1_needed_15 rfl 0 rfl ?_
        refine gs_get6 C dX1_needed_16 ?_
        refine g_iload_n C dX1_needed_19 rfl 2 rfl ?_
        refine kX1_lget (h 6) (h 21) (f 21) (N 6) (f 6) (M 6) k C (by omega) (show 0 ≤ (f 6) ∧ (f 6) ≤ ((N 6 : Nat) : Int) ∧ N 6 ≤ 3000 by omega) ⟨Nat.le_of_ble_eq_true rfl, Nat.le_of_ble_eq_true rfl⟩ (Nat.le_of_ble_eq_true rfl) ⟨Nat.le_of_ble_eq_true rfl, Nat.le_of_ble_eq_true rfl⟩ sb_l6 dX1_needed_20 ?_
        refine g_castE C q438 (pt_rcv (j := k) C (by omega)) dX1_needed_23 ?_
        refine gp_get3 C (j := k) (v := (g 27) k) (by omega) rfl dX1_needed_26 ?_
        have hf3 := hpt (k) (by omega) (by omega)
        refine g_if_eq C (tgt := 35) dX1_needed_29 (by decide) (by omega) (fun hc29_4 => ?_) (fun hc29_4 => ?_)
        ·
          refine g_iinc C dX1_needed_35 2 rfl (lv' := [(0, .ref (h 0)), (1, .int (iI nn)), (2, .int (iI (k + 1)))]) [1, 2, 0] rfl (Nat.le_of_ble_eq_true rfl) ?_
          refine g_goto C (tgt := 4) dX1_needed_38 (by decide) ?_
          exact ih1 (k + 1) nn (by omega) (by rw [ndc_s hk.1, hn]; omega) (by omega)
        ·
          refine g_iinc C dX1_needed_32 1 rfl (lv' := [(0, .ref (h 0)), (1, .int (iI (nn + 1))), (2, .int (iI k))]) [1, 0, 2] rfl (Nat.le_of_ble_eq_true rfl) ?_
          refine g_iinc C dX1_needed_35 2 rfl (lv' := [(0, .ref (h 0)), (1, .int (iI (nn + 1))), (2, .int (iI (k + 1)))]) [1, 2, 0] rfl (Nat.le_of_ble_eq_true rfl) ?_
          refine g_goto C (tgt := 4) dX1_needed_38 (by decide) ?_
          exact ih1 (k + 1) (nn + 1) (by omega) (by rw [ndc_s hk.1, hn]; omega) (by omega)
  exact L1 _ 0 0 (by omega) rfl (Nat.lt_succ_self _)

section MK
variable {p : Program} {l : Launch} {e : Env} {R : Room} {s : State} {mm : MethodId} {args : Array Value} {below : List Frame} {meth : Method} {c : Code} {cc : ByteArray} {nL : Nat} {ret : Option FieldType} {D : va_G} {A B : Nat → Prop} {cells slots : Nat} {Q : State → Prop} {pc : Nat} {lv : List (Nat × Value)} {st : List Value}
theorem kX1_X1_needed {ws : va_W} (h : Nat → Nat) (f : Nat → Int) (g : Nat → Int → Int) (N : Nat → Nat) (M : Nat → Nat → Nat) (U : va_W)  (C : CX p l s mm args meth c RX1 cc nL ret D A) (hnp : 0 ≤ f 6 ∧ f 6 ≤ 55) (hN6 : N 6 = 55) (hpt : ∀ j, 0 ≤ j → j < f 6 → (0 ≤ g 24 j ∧ g 24 j ≤ 4) ∧ (0 ≤ g 25 j ∧ g 25 j ≤ 5) ∧ (0 ≤ g 26 j ∧ g 26 j ≤ 2) ∧ (0 ≤ g 27 j ∧ g 27 j ≤ 1)) (hR : 4 + 1 ≤ R.frames ∧ 8 + (3 + 11) + 64 * 4 ≤ R.locals) (hcat : (st.map fun v => v.category).sum ≤ 8) (hroom : cells ≤ R.cells ∧ slots ≤ R.slots) {rv : Int} (hr : ndc (g 27) (f 6) = rv) (hsb : Sb ws (sW D h f g N M (ptW (M 6) (g 24) (g 25) (g 26) (g 27) (f 6) ++ U))) (d : decode cc pc = .ok (.invokevirtual 259, 3)) (K : GO p l e R s mm args below meth c nL D A B cells slots Q (ws) (pc + 3) lv (.int (iI rv) :: st)) : GO p l e R s mm args below meth c nL D A B cells slots Q (ws) (pc) lv (.ref (h 0) :: st) := by
  refine g_callVR C (c_X1_needed l D C.hl h f g N M U hnp hN6 hpt) (As := []) (n := 0) (lw_V q949 q951 qs24 q48 q952) (by decide +kernel) rfl rfl hR (rcvH C hsb) rfl rfl hcat ⟨hroom.1, hroom.2⟩ d hsb exT_b hex_t (fun v w hp => ?_) kx_n
  obtain ⟨z, rfl, rfl⟩ := hp
  rw [hr]
  exact K
end MK

set_option maxHeartbeats 4000000 in
set_option maxRecDepth 100000 in
theorem c_X1_partAt (l : Launch) (D : va_G) (hst : l.stackTraces = false) (h : Nat → Nat) (f : Nat → Int) (g : Nat → Int → Int) (N : Nat → Nat) (M : Nat → Nat → Nat) (U : va_W) (k : Int) (hnp : 0 ≤ f 6 ∧ f 6 ≤ 55) (hN6 : N 6 = 55) (hpt : ∀ j, 0 ≤ j → j < f 6 → (0 ≤ g 24 j ∧ g 24 j ≤ 4) ∧ (0 ≤ g 25 j ∧ g 25 j ≤ 5) ∧ (0 ≤ g 26 j ∧ g 26 j ≤ 2) ∧ (0 ≤ g 27 j ∧ g 27 j ≤ 1)) (hkr : -2147483648 ≤ k ∧ k < 2147483648) : CT l D yX1_partAt (ws_ yX1_partAt cX1_partAt 2 (some (.object "SewnBook$Part"))) (rmD 7 1 6) (1) (6) mdR [.ref (h 0), .int (iI k)] (sW D h f g N M (ptW (M 6) (g 24) (g 25) (g 26) (g 27) (f 6) ++ U)) exT (fun v _ => v = some (.ref (M 6 k.toNat)) ∧ (0 ≤ k ∧ k < f 6)) (fun E _ w => E = EN ∧ ¬ (0 ≤ k ∧ k < f 6) ∧ w = []) := by
  refine ct_R (lv := [(0, .ref (h 0)), (1, .int (iI k))]) RX1 (by decide) rfl rfl hst (Nat.le_of_ble_eq_true rfl) rfl ?_
  intro p e s mm args below meth c A C htab hex
  refine g_iload_n C dX1_partAt_0 rfl 1 rfl ?_
  refine g_if_lt C (tgt := 19) dX1_partAt_1 (by decide) (by omega) (fun hc1_1 => ?_) (fun hc1_1 => ?_)
  ·
    refine g_iconst C dX1_partAt_19 ?_
    refine kX1_there 0 C (by omega) ⟨Nat.le_of_ble_eq_true rfl, Nat.le_of_ble_eq_true rfl⟩ (Nat.le_of_ble_eq_true rfl) ⟨Nat.le_of_ble_eq_true rfl, Nat.le_of_ble_eq_true rfl⟩ dX1_partAt_20 (fun hN2 => ?_) (fun hT3 q4 => ?_)
    ·
      exact absurd hN2 (by decide)
    ·
      exact x_nilA (x_out C htab (Nat.le_of_ble_eq_true rfl) (Nat.le_of_ble_eq_true rfl) ⟨rfl, by omega, rfl⟩)
  ·
    refine g_iload_n C dX1_partAt_4 rfl 1 rfl ?_
    refine g_aload_n C dX1_partAt_5 rfl 0 rfl ?_
    refine gs_get6 C dX1_partAt_6 ?_
    refine kX1_lsize (h 6) (h 21) (f 21) (N 6) (f 6) (M 6) C ⟨Nat.le_of_ble_eq_true rfl, Nat.le_of_ble_eq_true rfl⟩ (Nat.le_of_ble_eq_true rfl) ⟨Nat.le_of_ble_eq_true rfl, Nat.le_of_ble_eq_true rfl⟩ (rv := f 6) rfl sb_l6 dX1_partAt_9 ?_
    refine g_icmp_ge C (tgt := 19) dX1_partAt_12 (by decide) (by omega) (by omega) (fun hc12_5 => ?_) (fun hc12_5 => ?_)
    ·
      refine g_iconst C dX1_partAt_19 ?_
      refine kX1_there 0 C (by omega) ⟨Nat.le_of_ble_eq_true rfl, Nat.le_of_ble_eq_true rfl⟩ (Nat.le_of_ble_eq_true rfl) ⟨Nat.le_of_ble_eq_true rfl, Nat.le_of_ble_eq_true rfl⟩ dX1_partAt_20 (fun hN6 => ?_) (fun hT7 q8 => ?_)
      ·
        exact absurd hN6 (by decide)
      ·
        exact x_nilA (x_out C htab (Nat.le_of_ble_eq_true rfl) (Nat.le_of_ble_eq_true rfl) ⟨rfl, by omega, rfl⟩)
    ·
      refine g_iconst C dX1_partAt_15 ?_
      refine g_goto C (tgt := 20) dX1_partAt_16 (by decide) ?_
      refine kX1_there 1 C (by omega) ⟨Nat.le_of_ble_eq_true rfl, Nat.le_of_ble_eq_true rfl⟩ (Nat.le_of_ble_eq_true rfl) ⟨Nat.le_of_ble_eq_true rfl, Nat.le_of_ble_eq_true rfl⟩ dX1_partAt_20 (fun hN9 => ?_) (fun hT10 q11 => ?_)
      ·
        refine g_aload_n C dX1_partAt_23 rfl 0 rfl ?_
        refine gs_get6 C dX1_partAt_24 ?_
        refine g_iload_n C dX1_partAt_27 rfl 1 rfl ?_
        refine kX1_lget (h 6) (h 21) (f 21) (N 6) (f 6) (M 6) k C (by omega) (show 0 ≤ (f 6) ∧ (f 6) ≤ ((N 6 : Nat) : Int) ∧ N 6 ≤ 3000 by omega) ⟨Nat.le_of_ble_eq_true rfl, Nat.le_of_ble_eq_true rfl⟩ (Nat.le_of_ble_eq_true rfl) ⟨Nat.le_of_ble_eq_true rfl, Nat.le_of_ble_eq_true rfl⟩ sb_l6 dX1_partAt_28 ?_
        refine g_castE C q438 (pt_rcv (j := k) C (by omega)) dX1_partAt_31 ?_
        refine g_nilA ?_
        exact g_aret C (Or.inl ⟨_, rfl⟩) (Or.inr ⟨_, rfl⟩) dX1_partAt_34 (Nat.le_of_ble_eq_true rfl) (Nat.le_of_ble_eq_true rfl) ⟨rfl, by omega⟩
      ·
        exact absurd hT10 (by decide)

section MK
variable {p : Program} {l : Launch} {e : Env} {R : Room} {s : State} {mm : MethodId} {args : Array Value} {below : List Frame} {meth : Method} {c : Code} {cc : ByteArray} {nL : Nat} {ret : Option FieldType} {D : va_G} {A B : Nat → Prop} {cells slots : Nat} {Q : State → Prop} {pc : Nat} {lv : List (Nat × Value)} {st : List Value}
theorem kX1_X1_partAt {ws : va_W} (h : Nat → Nat) (f : Nat → Int) (g : Nat → Int → Int) (N : Nat → Nat) (M : Nat → Nat → Nat) (U : va_W) (k : Int) (C : CX p l s mm args meth c RX1 cc nL ret D A) (hnp : 0 ≤ f 6 ∧ f 6 ≤ 55) (hN6 : N 6 = 55) (hpt : ∀ j, 0 ≤ j → j < f 6 → (0 ≤ g 24 j ∧ g 24 j ≤ 4) ∧ (0 ≤ g 25 j ∧ g 25 j ≤ 5) ∧ (0 ≤ g 26 j ∧ g 26 j ≤ 2) ∧ (0 ≤ g 27 j ∧ g 27 j ≤ 1)) (hkr : -2147483648 ≤ k ∧ k < 2147483648) (hR : 7 + 1 ≤ R.frames ∧ 8 + (2 + 11) + 64 * 7 ≤ R.locals) (hcat : (st.map fun v => v.category).sum ≤ 8) (hroom : cells + 1 ≤ R.cells ∧ slots + 6 ≤ R.slots) (hsb : Sb ws (sW D h f g N M (ptW (M 6) (g 24) (g 25) (g 26) (g 27) (f 6) ++ U))) (d : decode cc pc = .ok (.invokevirtual 126, 3)) (K : (0 ≤ k ∧ k < f 6) → GO p l e R s mm args below meth c nL D A B (cells + 1) (slots + 6) Q ws (pc + 3) lv (.ref (M 6 k.toNat) :: st)) (KX : (¬ (0 ≤ k ∧ k < f 6)) → ∀ q : Addr, GT p l e R s mm args below meth c nL D A B (cells + 1) (slots + 6) Q ws (pc) lv (st) EN q) : GO p l e R s mm args below meth c nL D A B cells slots Q (ws) (pc) lv (.int (iI k) :: .ref (h 0) :: st) := by
  refine g_callVR C (c_X1_partAt l D C.hl h f g N M U k hnp hN6 hpt hkr) (As := [.int (iI k)]) (n := 1) (lw_V q715 q717 qs16 q48 q718) (by decide +kernel) rfl rfl hR (rcvH C hsb) rfl rfl hcat hroom d hsb exT_b hex_t (fun v w hp => ?_) (fun E q w hp => ?_)
  · obtain ⟨rfl, h1⟩ := hp
    exact K h1
  · obtain ⟨rfl, h1, -⟩ := hp
    exact KX h1 q
end MK

set_option maxHeartbeats 4000000 in
set_option maxRecDepth 100000 in
theorem c_X1_part (l : Launch) (D : va_G) (hst : l.stackTraces = false) (h : Nat → Nat) (f : Nat → Int) (g : Nat → Int → Int) (N : Nat → Nat) (M : Nat → Nat → Nat) (U : va_W) (k v : Int) (hnp : 0 ≤ f 6 ∧ f 6 ≤ 55) (hN6 : N 6 = 55) (hpt : ∀ j, 0 ≤ j → j < f 6 → (0 ≤ g 24 j ∧ g 24 j ≤ 4) ∧ (0 ≤ g 25 j ∧ g 25 j ≤ 5) ∧ (0 ≤ g 26 j ∧ g 26 j ≤ 2) ∧ (0 ≤ g 27 j ∧ g 27 j ≤ 1)) (hkr : -2147483648 ≤ k ∧ k < 2147483648) (hvr : -2147483648 ≤ v ∧ v < 2147483648) : CT l D yX1_part (ws_ yX1_part cX1_part 4 (some .int)) (rmD 8 2 12) (2) (12) mdR [.ref (h 0), .int (iI k), .int (iI v)] (sW D h f g N M (ptW (M 6) (g 24) (g 25) (g 26) (g 27) (f 6) ++ U)) exT (pI fun z _ => ((0 ≤ k ∧ k < f 6) ∧ 0 ≤ v ∧ v ≤ 3) ∧ z = if v = 0 then g 24 k else if v = 1 then g 25 k else if v = 2 then g 26 k else g 27 k) (fun E _ w => E = EN ∧ ¬ ((0 ≤ k ∧ k < f 6) ∧ 0 ≤ v ∧ v ≤ 3) ∧ w = []) := by
  refine ct_R (lv := [(0, .ref (h 0)), (1, .int (iI k)), (2, .int (iI v))]) RX1 (by decide) rfl rfl hst (Nat.le_of_ble_eq_true rfl) rfl ?_
  intro p e s mm args below meth c A C htab hex
  refine g_aload_n C dX1_part_0 rfl 0 rfl ?_
  refine g_iload_n C dX1_part_1 rfl 1 rfl ?_
  refine kX1_X1_partAt h f g N M U k C hnp hN6 hpt (by omega) ⟨Nat.le_of_ble_eq_true rfl, Nat.le_of_ble_eq_true rfl⟩ (Nat.le_of_ble_eq_true rfl) ⟨Nat.le_of_ble_eq_true rfl, Nat.le_of_ble_eq_true rfl⟩ Sb.rf dX1_part_2 (fun hN1 => ?_) (fun hT2 q3 => ?_)
  ·
    refine g_astore_n C dX1_part_5 rfl (lv' := [(0, .ref (h 0)), (1, .int (iI k)), (2, .int (iI v)), (3, .ref (M 6 k.toNat))]) [1, 2, 3, 0] rfl (Nat.le_of_ble_eq_true rfl) ?_
    refine g_iload_n C dX1_part_6 rfl 2 rfl ?_
    refine g_if_lt C (tgt := 19) dX1_part_7 (by decide) (by omega) (fun hc7_4 => ?_) (fun hc7_4 => ?_)
    ·
      refine g_iconst C dX1_part_19 ?_
      refine kX1_there 0 C (by omega) ⟨Nat.le_of_ble_eq_true rfl, Nat.le_of_ble_eq_true rfl⟩ (Nat.le_of_ble_eq_true rfl) ⟨Nat.le_of_ble_eq_true rfl, Nat.le_of_ble_eq_true rfl⟩ dX1_part_20 (fun hN5 => ?_) (fun hT6 q7 => ?_)
      ·
        exact absurd hN5 (by decide)
      ·
        exact x_nilA (x_out C htab (Nat.le_of_ble_eq_true rfl) (Nat.le_of_ble_eq_true rfl) ⟨rfl, by omega, rfl⟩)
    ·
      refine g_iload_n C dX1_part_10 rfl 2 rfl ?_
      refine g_iconst C dX1_part_11 ?_
      refine g_icmp_gt C (tgt := 19) dX1_part_12 (by decide) (by omega) (by omega) (fun hc12_8 => ?_) (fun hc12_8 => ?_)
      ·
        refine g_iconst C dX1_part_19 ?_
        refine kX1_there 0 C (by omega) ⟨Nat.le_of_ble_eq_true rfl, Nat.le_of_ble_eq_true rfl⟩ (Nat.le_of_ble_eq_true rfl) ⟨Nat.le_of_ble_eq_true rfl, Nat.le_of_ble_eq_true rfl⟩ dX1_part_20 (fun hN9 => ?_) (fun hT10 q11 => ?_)
        ·
          exact absurd hN9 (by decide)
        ·
          exact x_nilA (x_out C htab (Nat.le_of_ble_eq_true rfl) (Nat.le_of_ble_eq_true rfl) ⟨rfl, by omega, rfl⟩)
      ·
        refine g_iconst C dX1_part_15 ?_
        refine g_goto C (tgt := 20) dX1_part_16 (by decide) ?_
        refine kX1_there 1 C (by omega) ⟨Nat.le_of_ble_eq_true rfl, Nat.le_of_ble_eq_true rfl⟩ (Nat.le_of_ble_eq_true rfl) ⟨Nat.le_of_ble_eq_true rfl, Nat.le_of_ble_eq_true rfl⟩ dX1_part_20 (fun hN12 => ?_) (fun hT13 q14 => ?_)
        ·
          refine g_iload_n C dX1_part_23 rfl 2 rfl ?_
          refine g_if_ne C (tgt := 34) dX1_part_24 (by decide) (by omega) (fun hc24_15 => ?_) (fun hc24_15 => ?_)
          ·
            refine g_iload_n C dX1_part_34 rfl 2 rfl ?_
            refine g_iconst C dX1_part_35 ?_
            refine g_icmp_ne C (tgt := 46) dX1_part_36 (by decide) (by omega) (by omega) (fun hc36_16 => ?_) (fun hc36_16 => ?_)
            ·
              refine g_iload_n C dX1_part_46 rfl 2 rfl ?_
              refine g_iconst C dX1_part_47 ?_
              refine g_icmp_ne C (tgt := 58) dX1_part_48 (by decide) (by omega) (by omega) (fun hc48_17 => ?_) (fun hc48_17 => ?_)
              ·
                refine g_aload_n C dX1_part_58 rfl 3 rfl ?_
                refine gp_get3 C (j := k) (v := (g 27) k) (by omega) rfl dX1_part_59 ?_
                have hf18 := hpt (k) (by omega) (by omega)
                refine g_if_eq C (tgt := 69) dX1_part_62 (by decide) (by omega) (fun hc62_19 => ?_) (fun hc62_19 => ?_)
                ·
                  refine g_iconst C dX1_part_69 ?_
                  refine g_nilA ?_
                  exact g_iret C dX1_part_70 rfl (Nat.le_of_ble_eq_true rfl) (Nat.le_of_ble_eq_true rfl) ⟨_, rfl, by omega, by (repeat' split) <;> omega⟩
                ·
                  refine g_iconst C dX1_part_65 ?_
                  refine g_goto C (tgt := 70) dX1_part_66 (by decide) ?_
                  refine g_nilA ?_
                  exact g_iret C dX1_part_70 rfl (Nat.le_of_ble_eq_true rfl) (Nat.le_of_ble_eq_true rfl) ⟨_, rfl, by omega, by (repeat' split) <;> omega⟩
              ·
                refine g_aload_n C dX1_part_51 rfl 3 rfl ?_
                refine gp_get2 C (j := k) (v := (g 26) k) (by omega) rfl dX1_part_52 ?_
                have hf20 := hpt (k) (by omega) (by omega)
                refine g_goto C (tgt := 70) dX1_part_55 (by decide) ?_
                refine g_nilA ?_
                exact g_iret C dX1_part_70 rfl (Nat.le_of_ble_eq_true rfl) (Nat.le_of_ble_eq_true rfl) ⟨_, rfl, by omega, by (repeat' split) <;> omega⟩
            ·
              refine g_aload_n C dX1_part_39 rfl 3 rfl ?_
              refine gp_get1 C (j := k) (v := (g 25) k) (by omega) rfl dX1_part_40 ?_
              have hf21 := hpt (k) (by omega) (by omega)
              refine g_goto C (tgt := 70) dX1_part_43 (by decide) ?_
              refine g_nilA ?_
              exact g_iret C dX1_part_70 rfl (Nat.le_of_ble_eq_true rfl) (Nat.le_of_ble_eq_true rfl) ⟨_, rfl, by omega, by (repeat' split) <;> omega⟩
          ·
            refine g_aload_n C dX1_part_27 rfl 3 rfl ?_
            refine gp_get0 C (j := k) (v := (g 24) k) (by omega) rfl dX1_part_28 ?_
            have hf22 := hpt (k) (by omega) (by omega)
            refine g_goto C (tgt := 70) dX1_part_31 (by decide) ?_
            refine g_nilA ?_
            exact g_iret C dX1_part_70 rfl (Nat.le_of_ble_eq_true rfl) (Nat.le_of_ble_eq_true rfl) ⟨_, rfl, by omega, by (repeat' split) <;> omega⟩
        ·
          exact absurd hT13 (by decide)
  ·
    exact x_nilA (x_out C htab (Nat.le_of_ble_eq_true rfl) (Nat.le_of_ble_eq_true rfl) ⟨rfl, by omega, rfl⟩)

end SC4
