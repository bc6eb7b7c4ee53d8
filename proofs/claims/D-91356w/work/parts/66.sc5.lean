/-! ===== contracts of the class: need, count, move ===== -/
section SC5
def ss_need (f : Nat → Int) (g : Nat → Int → Int) (a v : Int) (z : Int) (f' : Nat → Int) (g' : Nat → Int → Int) : Prop :=
  ((0 ≤ a ∧ a < f 6) ∧ z = g 27 a ∧ f' = f ∧ g' = (ug g 27 (uI (g 27) a v)))
section MK
variable {p : Program} {l : Launch} {e : Env} {R : Room} {s : State} {mm : MethodId} {args : Array Value} {below : List Frame} {meth : Method} {c : Code} {cc : ByteArray} {nL : Nat} {ret : Option FieldType} {D : va_G} {A B : Nat → Prop} {cells slots : Nat} {Q : State → Prop} {pc : Nat} {lv : List (Nat × Value)} {st : List Value}
theorem kX1_iintV {ws : va_W} (v : Int) (C : CX p l s mm args meth c RX1 cc nL ret D A) (hv : -128 ≤ v ∧ v < 128) (hR : 0 + 1 ≤ R.frames ∧ 8 + (1 + 11) + 64 * 0 ≤ R.locals) (hcat : (st.map fun v => v.category).sum ≤ 8) (hroom : cells ≤ R.cells ∧ slots ≤ R.slots) {rv : Int} (hr : v = rv) (d : decode cc pc = .ok (.invokevirtual 212, 3)) (K : GO p l e R s mm args below meth c nL D A B cells slots Q (ws) (pc + 3) lv (.int (iI rv) :: st)) : GO p l e R s mm args below meth c nL D A B cells slots Q (ws) (pc) lv (.ref (D.2 1000 (v + 128).toNat) :: st) := by
  refine g_callVR C (c_iintV l D C.hl v hv) (As := []) (n := 0) (lw_V q891 q892 q893 q67 q894) (by decide +kernel) rfl rfl hR (rcvB C (by omega)) rfl rfl hcat ⟨hroom.1, hroom.2⟩ d Sb.nil exT_b hex_t (fun v w hp => ?_) kx_n
  obtain ⟨z, rfl, rfl⟩ := hp
  rw [hr]
  exact K
end MK

section MK
variable {p : Program} {l : Launch} {e : Env} {R : Room} {s : State} {mm : MethodId} {args : Array Value} {below : List Frame} {meth : Method} {c : Code} {cc : ByteArray} {nL : Nat} {ret : Option FieldType} {D : va_G} {A B : Nat → Prop} {cells slots : Nat} {Q : State → Prop} {pc : Nat} {lv : List (Nat × Value)} {st : List Value}
theorem kX1_ivalueOf {ws : va_W} (v : Int) (C : CX p l s mm args meth c RX1 cc nL ret D A) (hv : -128 ≤ v ∧ v < 128) (hR : 0 + 1 ≤ R.frames ∧ 8 + (1 + 11) + 64 * 0 ≤ R.locals) (hcat : (st.map fun v => v.category).sum ≤ 8) (hroom : cells ≤ R.cells ∧ slots ≤ R.slots) (d : decode cc pc = .ok (.invokestatic 193, 3)) (K : GO p l e R s mm args below meth c nL D A B cells slots Q (ws) (pc + 3) lv (.ref (D.2 1000 (v + 128).toNat) :: st)) : GO p l e R s mm args below meth c nL D A B cells slots Q (ws) (pc) lv (.int (iI v) :: st) := by
  refine g_callSR C (c_ivalueOf l D C.hl v hv) (As := [.int (iI v)]) (n := 1) (lw_S q847 q848 q67 q849) (by decide +kernel) rfl rfl hR rfl rfl hcat ⟨hroom.1, hroom.2⟩ d Sb.nil exT_b hex_t (fun v w hp => ?_) kx_n
  subst hp
  exact K
end MK

set_option maxHeartbeats 4000000 in
set_option maxRecDepth 100000 in
theorem c_X1_need (l : Launch) (D : va_G) (hst : l.stackTraces = false) (h : Nat → Nat) (f : Nat → Int) (g : Nat → Int → Int) (N : Nat → Nat) (M : Nat → Nat → Nat) (U : va_W) (a v : Int) (hnp : 0 ≤ f 6 ∧ f 6 ≤ 55) (hN6 : N 6 = 55) (hpt : ∀ j, 0 ≤ j → j < f 6 → (0 ≤ g 24 j ∧ g 24 j ≤ 4) ∧ (0 ≤ g 25 j ∧ g 25 j ≤ 5) ∧ (0 ≤ g 26 j ∧ g 26 j ≤ 2) ∧ (0 ≤ g 27 j ∧ g 27 j ≤ 1)) (har : -2147483648 ≤ a ∧ a < 2147483648) (hv : 0 ≤ v ∧ v ≤ 1) : CT l D yX1_need (ws_ yX1_need cX1_need 5 (some .boolean)) (rmD 8 1 6) (1) (6) va_A [.ref (h 0), .int (iI a), .int (iI v)] (sW D h f g N M (ptW (M 6) (g 24) (g 25) (g 26) (g 27) (f 6) ++ U)) exT (pI fun z w => ∃ f' g', ss_need f g a v z f' g' ∧ w = sW D h f' g' N M (ptW (M 6) (g' 24) (g' 25) (g' 26) (g' 27) (f' 6) ++ U)) (fun E _ w => E = EN ∧ (¬ (0 ≤ a ∧ a < f 6)) ∧ w = sW D h f g N M (ptW (M 6) (g 24) (g 25) (g 26) (g 27) (f 6) ++ U)) := by
  refine ct_U (lv := [(0, .ref (h 0)), (1, .int (iI a)), (2, .int (iI v))]) RX1 (by decide) rfl rfl hst (Nat.le_of_ble_eq_true rfl) rfl ?_
  intro p e s mm args below meth c A C htab hex hnm
  refine g_aload_n C dX1_need_0 rfl 0 rfl ?_
  refine g_iload_n C dX1_need_1 rfl 1 rfl ?_
  refine kX1_X1_partAt h f g N M U a C hnp hN6 hpt (by omega) ⟨Nat.le_of_ble_eq_true rfl, Nat.le_of_ble_eq_true rfl⟩ (Nat.le_of_ble_eq_true rfl) ⟨Nat.le_of_ble_eq_true rfl, Nat.le_of_ble_eq_true rfl⟩ Sb.rf dX1_need_2 (fun hN1 => ?_) (fun hT2 q3 => ?_)
  ·
    refine g_astore_n C dX1_need_5 rfl (lv' := [(0, .ref (h 0)), (1, .int (iI a)), (2, .int (iI v)), (3, .ref (M 6 a.toNat))]) [1, 2, 3, 0] rfl (Nat.le_of_ble_eq_true rfl) ?_
    refine g_aload_n C dX1_need_6 rfl 3 rfl ?_
    refine gp_get3 C (j := a) (v := (g 27) a) (by omega) rfl dX1_need_7 ?_
    have hf4 := hpt (a) (by omega) (by omega)
    refine g_istore C dX1_need_10 (lv' := [(0, .ref (h 0)), (1, .int (iI a)), (2, .int (iI v)), (3, .ref (M 6 a.toNat)), (4, .int (iI ((g 27) a)))]) [1, 2, 3, 4, 0] rfl (Nat.le_of_ble_eq_true rfl) ?_
    refine g_aload_n C dX1_need_12 rfl 3 rfl ?_
    refine g_iload_n C dX1_need_13 rfl 2 rfl ?_
    refine gp_put3 C (j := a) (v := v) (by omega) (by omega) dX1_need_14 ?_
    refine g_ws (ws' := sW D h f (ug g 27 (uI (g 27) a v)) N M (ptW (M 6) (g 24) (g 25) (g 26) (uI (g 27) a v) (f 6) ++ U)) rfl ?_
    refine g_iload C dX1_need_17 4 rfl ?_
    exact g_iret C dX1_need_19 (nr_b (by omega)) (Nat.le_of_ble_eq_true rfl) (Nat.le_of_ble_eq_true rfl) ⟨_, rfl, _, _, ⟨by omega, rfl, rfl, rfl⟩, rfl⟩
  ·
    exact x_out C htab (Nat.le_of_ble_eq_true rfl) (Nat.le_of_ble_eq_true rfl) ⟨rfl, by omega, rfl⟩

set_option maxHeartbeats 4000000 in
set_option maxRecDepth 100000 in
theorem c_X1_count (l : Launch) (D : va_G) (hst : l.stackTraces = false) (h : Nat → Nat) (f : Nat → Int) (g : Nat → Int → Int) (N : Nat → Nat) (M : Nat → Nat → Nat) (U : va_W) (v : Int) (hnp : 0 ≤ f 6 ∧ f 6 ≤ 55) (hN6 : N 6 = 55) (hpt : ∀ j, 0 ≤ j → j < f 6 → (0 ≤ g 24 j ∧ g 24 j ≤ 4) ∧ (0 ≤ g 25 j ∧ g 25 j ≤ 5) ∧ (0 ≤ g 26 j ∧ g 26 j ≤ 2) ∧ (0 ≤ g 27 j ∧ g 27 j ≤ 1)) (hvr : -2147483648 ≤ v ∧ v < 2147483648) : CT l D yX1_count (ws_ yX1_count cX1_count 2 (some .int)) (rmD 7 1 6) (1) (6) mdR [.ref (h 0), .int (iI v)] (sW D h f g N M (ptW (M 6) (g 24) (g 25) (g 26) (g 27) (f 6) ++ U)) exT (pI fun z _ => (0 ≤ v ∧ v ≤ 4) ∧ z = if v = 0 then f 0 else if v = 1 then f 1 else if v = 2 then f 7 else if v = 3 then ndc (g 27) (f 6) else f 9) (fun E _ w => E = EN ∧ ¬ (0 ≤ v ∧ v ≤ 4) ∧ w = []) := by
  refine ct_R (lv := [(0, .ref (h 0)), (1, .int (iI v))]) RX1 (by decide) rfl rfl hst (Nat.le_of_ble_eq_true rfl) rfl ?_
  intro p e s mm args below meth c A C htab hex
  refine g_iload_n C dX1_count_0 rfl 1 rfl ?_
  refine g_if_lt C (tgt := 13) dX1_count_1 (by decide) (by omega) (fun hc1_1 => ?_) (fun hc1_1 => ?_)
  ·
    refine g_iconst C dX1_count_13 ?_
    refine kX1_there 0 C (by omega) ⟨Nat.le_of_ble_eq_true rfl, Nat.le_of_ble_eq_true rfl⟩ (Nat.le_of_ble_eq_true rfl) ⟨Nat.le_of_ble_eq_true rfl, Nat.le_of_ble_eq_true rfl⟩ dX1_count_14 (fun hN2 => ?_) (fun hT3 q4 => ?_)
    ·
      exact absurd hN2 (by decide)
    ·
      exact x_nilA (x_out C htab (Nat.le_of_ble_eq_true rfl) (Nat.le_of_ble_eq_true rfl) ⟨rfl, by omega, rfl⟩)
  ·
    refine g_iload_n C dX1_count_4 rfl 1 rfl ?_
    refine g_iconst C dX1_count_5 ?_
    refine g_icmp_gt C (tgt := 13) dX1_count_6 (by decide) (by omega) (by omega) (fun hc6_5 => ?_) (fun hc6_5 => ?_)
    ·
      refine g_iconst C dX1_count_13 ?_
      refine kX1_there 0 C (by omega) ⟨Nat.le_of_ble_eq_true rfl, Nat.le_of_ble_eq_true rfl⟩ (Nat.le_of_ble_eq_true rfl) ⟨Nat.le_of_ble_eq_true rfl, Nat.le_of_ble_eq_true rfl⟩ dX1_count_14 (fun hN6 => ?_) (fun hT7 q8 => ?_)
      ·
        exact absurd hN6 (by decide)
      ·
        exact x_nilA (x_out C htab (Nat.le_of_ble_eq_true rfl) (Nat.le_of_ble_eq_true rfl) ⟨rfl, by omega, rfl⟩)
    ·
      refine g_iconst C dX1_count_9 ?_
      refine g_goto C (tgt := 14) dX1_count_10 (by decide) ?_
      refine kX1_there 1 C (by omega) ⟨Nat.le_of_ble_eq_true rfl, Nat.le_of_ble_eq_true rfl⟩ (Nat.le_of_ble_eq_true rfl) ⟨Nat.le_of_ble_eq_true rfl, Nat.le_of_ble_eq_true rfl⟩ dX1_count_14 (fun hN9 => ?_) (fun hT10 q11 => ?_)
      ·
        refine g_iload_n C dX1_count_17 rfl 1 rfl ?_
        refine g_if_ne C (tgt := 28) dX1_count_18 (by decide) (by omega) (fun hc18_12 => ?_) (fun hc18_12 => ?_)
        ·
          refine g_iload_n C dX1_count_28 rfl 1 rfl ?_
          refine g_iconst C dX1_count_29 ?_
          refine g_icmp_ne C (tgt := 40) dX1_count_30 (by decide) (by omega) (by omega) (fun hc30_13 => ?_) (fun hc30_13 => ?_)
          ·
            refine g_iload_n C dX1_count_40 rfl 1 rfl ?_
            refine g_iconst C dX1_count_41 ?_
            refine g_icmp_ne C (tgt := 55) dX1_count_42 (by decide) (by omega) (by omega) (fun hc42_14 => ?_) (fun hc42_14 => ?_)
            ·
              refine g_iload_n C dX1_count_55 rfl 1 rfl ?_
              refine g_iconst C dX1_count_56 ?_
              refine g_icmp_ne C (tgt := 67) dX1_count_57 (by decide) (by omega) (by omega) (fun hc57_15 => ?_) (fun hc57_15 => ?_)
              ·
                refine g_aload_n C dX1_count_67 rfl 0 rfl ?_
                refine gs_get9 C (v := f 9) rfl dX1_count_68 ?_
                refine g_nilA ?_
                exact g_iret C dX1_count_71 rfl (Nat.le_of_ble_eq_true rfl) (Nat.le_of_ble_eq_true rfl) ⟨_, rfl, by omega, by (repeat' split) <;> first | rfl | omega⟩
              ·
                refine g_aload_n C dX1_count_60 rfl 0 rfl ?_
                refine kX1_X1_needed h f g N M U C hnp hN6 hpt ⟨Nat.le_of_ble_eq_true rfl, Nat.le_of_ble_eq_true rfl⟩ (Nat.le_of_ble_eq_true rfl) ⟨Nat.le_of_ble_eq_true rfl, Nat.le_of_ble_eq_true rfl⟩ (rv := ndc (g 27) (f 6)) rfl Sb.rf dX1_count_61 ?_
                refine g_goto C (tgt := 71) dX1_count_64 (by decide) ?_
                refine g_nilA ?_
                exact g_iret C dX1_count_71 rfl (Nat.le_of_ble_eq_true rfl) (Nat.le_of_ble_eq_true rfl) ⟨_, rfl, by omega, by (repeat' split) <;> first | rfl | omega⟩
            ·
              refine g_aload_n C dX1_count_45 rfl 0 rfl ?_
              refine gs_get7 C dX1_count_46 ?_
              refine kX1_lsize (h 7) (h 22) (f 22) (N 7) (f 7) (M 7) C ⟨Nat.le_of_ble_eq_true rfl, Nat.le_of_ble_eq_true rfl⟩ (Nat.le_of_ble_eq_true rfl) ⟨Nat.le_of_ble_eq_true rfl, Nat.le_of_ble_eq_true rfl⟩ (rv := f 7) rfl sb_l7 dX1_count_49 ?_
              refine g_goto C (tgt := 71) dX1_count_52 (by decide) ?_
              refine g_nilA ?_
              exact g_iret C dX1_count_71 rfl (Nat.le_of_ble_eq_true rfl) (Nat.le_of_ble_eq_true rfl) ⟨_, rfl, by omega, by (repeat' split) <;> first | rfl | omega⟩
          ·
            refine g_aload_n C dX1_count_33 rfl 0 rfl ?_
            refine gs_get1 C (v := f 1) rfl dX1_count_34 ?_
            refine g_goto C (tgt := 71) dX1_count_37 (by decide) ?_
            refine g_nilA ?_
            exact g_iret C dX1_count_71 rfl (Nat.le_of_ble_eq_true rfl) (Nat.le_of_ble_eq_true rfl) ⟨_, rfl, by omega, by (repeat' split) <;> first | rfl | omega⟩
        ·
          refine g_aload_n C dX1_count_21 rfl 0 rfl ?_
          refine gs_get0 C (v := f 0) rfl dX1_count_22 ?_
          refine g_goto C (tgt := 71) dX1_count_25 (by decide) ?_
          refine g_nilA ?_
          exact g_iret C dX1_count_71 rfl (Nat.le_of_ble_eq_true rfl) (Nat.le_of_ble_eq_true rfl) ⟨_, rfl, by omega, by (repeat' split) <;> first | rfl | omega⟩
      ·
        exact absurd hT10 (by decide)

set_option maxHeartbeats 4000000 in
set_option maxRecDepth 100000 in
theorem c_X1_move (l : Launch) (D : va_G) (hst : l.stackTraces = false) (h : Nat → Nat) (f : Nat → Int) (g : Nat → Int → Int) (N : Nat → Nat) (M : Nat → Nat → Nat) (T : va_W) (a : Int) (hkn : 0 ≤ f 11 ∧ f 11 ≤ 1000 ∧ f 11 ≤ N 11 ∧ N 11 ≤ 3000) (hkb : ∀ j, 0 ≤ j → j < f 11 → M 11 j.toNat = D.2 1000 (g 28 j + 128).toNat ∧ 0 ≤ g 28 j ∧ g 28 j < 8) (har : -2147483648 ≤ a ∧ a < 2147483648) : CT l D yX1_move (ws_ yX1_move cX1_move 2 (some .int)) (rmD 7 1 6) (1) (6) mdR [.ref (h 0), .int (iI a)] (sW D h f g N M T) exT (pI fun z _ => (-1 ≤ a ∧ a < f 11) ∧ z = if a = -1 then f 11 else g 28 a) (fun E _ w => E = EN ∧ ¬ (-1 ≤ a ∧ a < f 11) ∧ w = []) := by
  refine ct_R (lv := [(0, .ref (h 0)), (1, .int (iI a))]) RX1 (by decide) rfl rfl hst (Nat.le_of_ble_eq_true rfl) rfl ?_
  intro p e s mm args below meth c A C htab hex
  refine g_iload_n C dX1_move_0 rfl 1 rfl ?_
  refine g_iconst C dX1_move_1 ?_
  refine g_icmp_lt C (tgt := 20) dX1_move_2 (by decide) (by omega) (by omega) (fun hc2_1 => ?_) (fun hc2_1 => ?_)
  ·
    refine g_iconst C dX1_move_20 ?_
    refine kX1_there 0 C (by omega) ⟨Nat.le_of_ble_eq_true rfl, Nat.le_of_ble_eq_true rfl⟩ (Nat.le_of_ble_eq_true rfl) ⟨Nat.le_of_ble_eq_true rfl, Nat.le_of_ble_eq_true rfl⟩ dX1_move_21 (fun hN2 => ?_) (fun hT3 q4 => ?_)
    ·
      exact absurd hN2 (by decide)
    ·
      exact x_nilA (x_out C htab (Nat.le_of_ble_eq_true rfl) (Nat.le_of_ble_eq_true rfl) ⟨rfl, by omega, rfl⟩)
  ·
    refine g_iload_n C dX1_move_5 rfl 1 rfl ?_
    refine g_aload_n C dX1_move_6 rfl 0 rfl ?_
    refine gs_get11 C dX1_move_7 ?_
    refine kX1_lsize (h 11) (h 23) (f 23) (N 11) (f 11) (M 11) C ⟨Nat.le_of_ble_eq_true rfl, Nat.le_of_ble_eq_true rfl⟩ (Nat.le_of_ble_eq_true rfl) ⟨Nat.le_of_ble_eq_true rfl, Nat.le_of_ble_eq_true rfl⟩ (rv := f 11) rfl sb_l11 dX1_move_10 ?_
    refine g_icmp_ge C (tgt := 20) dX1_move_13 (by decide) (by omega) (by omega) (fun hc13_5 => ?_) (fun hc13_5 => ?_)
    ·
      refine g_iconst C dX1_move_20 ?_
      refine kX1_there 0 C (by omega) ⟨Nat.le_of_ble_eq_true rfl, Nat.le_of_ble_eq_true rfl⟩ (Nat.le_of_ble_eq_true rfl) ⟨Nat.le_of_ble_eq_true rfl, Nat.le_of_ble_eq_true rfl⟩ dX1_move_21 (fun hN6 => ?_) (fun hT7 q8 => ?_)
      ·
        exact absurd hN6 (by decide)
      ·
        exact x_nilA (x_out C htab (Nat.le_of_ble_eq_true rfl) (Nat.le_of_ble_eq_true rfl) ⟨rfl, by omega, rfl⟩)
    ·
      refine g_iconst C dX1_move_16 ?_
      refine g_goto C (tgt := 21) dX1_move_17 (by decide) ?_
      refine kX1_there 1 C (by omega) ⟨Nat.le_of_ble_eq_true rfl, Nat.le_of_ble_eq_true rfl⟩ (Nat.le_of_ble_eq_true rfl) ⟨Nat.le_of_ble_eq_true rfl, Nat.le_of_ble_eq_true rfl⟩ dX1_move_21 (fun hN9 => ?_) (fun hT10 q11 => ?_)
      ·
        refine g_iload_n C dX1_move_24 rfl 1 rfl ?_
        refine g_iconst C dX1_move_25 ?_
        refine g_icmp_ne C (tgt := 39) dX1_move_26 (by decide) (by omega) (by omega) (fun hc26_12 => ?_) (fun hc26_12 => ?_)
        ·
          refine g_aload_n C dX1_move_39 rfl 0 rfl ?_
          refine gs_get11 C dX1_move_40 ?_
          refine g_iload_n C dX1_move_43 rfl 1 rfl ?_
          refine kX1_lget (h 11) (h 23) (f 23) (N 11) (f 11) (M 11) a C (by omega) (show 0 ≤ (f 11) ∧ (f 11) ≤ ((N 11 : Nat) : Int) ∧ N 11 ≤ 3000 by omega) ⟨Nat.le_of_ble_eq_true rfl, Nat.le_of_ble_eq_true rfl⟩ (Nat.le_of_ble_eq_true rfl) ⟨Nat.le_of_ble_eq_true rfl, Nat.le_of_ble_eq_true rfl⟩ sb_l11 dX1_move_44 ?_
          have hbx := hkb a (by omega) (by omega)
          rw [hbx.1]
          refine g_castE C q890 (rcvB C (show (g 28 a + 128).toNat < 256 by omega)) dX1_move_47 ?_
          refine kX1_iintV (g 28 a) C (by omega) ⟨Nat.le_of_ble_eq_true rfl, Nat.le_of_ble_eq_true rfl⟩ (Nat.le_of_ble_eq_true rfl) ⟨Nat.le_of_ble_eq_true rfl, Nat.le_of_ble_eq_true rfl⟩ (rv := g 28 a) rfl dX1_move_50 ?_
          refine g_nilA ?_
          exact g_iret C dX1_move_53 rfl (Nat.le_of_ble_eq_true rfl) (Nat.le_of_ble_eq_true rfl) ⟨_, rfl, by omega, by first | rw [if_pos (by omega)] | rw [if_neg (by omega)]⟩
        ·
          refine g_aload_n C dX1_move_29 rfl 0 rfl ?_
          refine gs_get11 C dX1_move_30 ?_
          refine kX1_lsize (h 11) (h 23) (f 23) (N 11) (f 11) (M 11) C ⟨Nat.le_of_ble_eq_true rfl, Nat.le_of_ble_eq_true rfl⟩ (Nat.le_of_ble_eq_true rfl) ⟨Nat.le_of_ble_eq_true rfl, Nat.le_of_ble_eq_true rfl⟩ (rv := f 11) rfl sb_l11 dX1_move_33 ?_
          refine g_goto C (tgt := 53) dX1_move_36 (by decide) ?_
          refine g_nilA ?_
          exact g_iret C dX1_move_53 rfl (Nat.le_of_ble_eq_true rfl) (Nat.le_of_ble_eq_true rfl) ⟨_, rfl, by omega, by first | rw [if_pos (by omega)] | rw [if_neg (by omega)]⟩
      ·
        exact absurd hT10 (by decide)

end SC5
