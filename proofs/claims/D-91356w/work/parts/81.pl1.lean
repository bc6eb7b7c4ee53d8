/-! ===== contracts of the class: a plan followed ===== -/
section PL1
set_option maxHeartbeats 4000000 in
set_option maxRecDepth 100000 in
theorem c_closed (l : Launch) (D : va_G) (hst : l.stackTraces = false) (pq : Nat → Nat) (pz : Nat → Int) (hz : (0 ≤ pz 0 ∧ pz 0 < 60) ∧ 0 ≤ pz 1 ∧ pz 1 < 60) : CT l D yX4_isClosed (ws_ yX4_isClosed cX4_isClosed 1 (some .boolean)) (rmD 0 0 0) (0) (0) mdR [.ref (pq 0)] ([(pq 0, .inr (3, [.int (iI (pz 0)), .int (iI (pz 1)), .int (iI (pz 2)), .ref (pq 1), .ref (pq 3)]))]) exT (pI fun z _ => z = bP (pz 1 = pz 0)) (xN) := by
  refine ct_R (lv := [(0, .ref (pq 0))]) RX4 (by decide) rfl rfl hst (Nat.le_of_ble_eq_true rfl) rfl ?_
  intro p e s mm args below meth c A C htab hex
  refine g_aload_n C dX4_isClosed_0 rfl 0 rfl ?_
  refine g_get C in_X4 0 1 rfl rfl (Nat.le_of_ble_eq_true rfl) (v := .int (iI (pz 1))) rfl q756 rfl dX4_isClosed_1 ?_
  refine g_aload_n C dX4_isClosed_4 rfl 0 rfl ?_
  refine g_get C in_X4 0 0 rfl rfl (Nat.le_of_ble_eq_true rfl) (v := .int (iI (pz 0))) rfl q755 rfl dX4_isClosed_5 ?_
  refine g_icmp_ne C (tgt := 15) dX4_isClosed_8 (by decide) (by omega) (by omega) (fun hc8_1 => ?_) (fun hc8_1 => ?_)
  ·
    refine g_iconst C dX4_isClosed_15 ?_
    refine g_nilA ?_
    exact g_iret C dX4_isClosed_16 rfl (Nat.le_of_ble_eq_true rfl) (Nat.le_of_ble_eq_true rfl) ⟨_, rfl, (bP_f (by omega)).symm⟩
  ·
    refine g_iconst C dX4_isClosed_11 ?_
    refine g_goto C (tgt := 16) dX4_isClosed_12 (by decide) ?_
    refine g_nilA ?_
    exact g_iret C dX4_isClosed_16 rfl (Nat.le_of_ble_eq_true rfl) (Nat.le_of_ble_eq_true rfl) ⟨_, rfl, (bP_t (by omega)).symm⟩

section MK
variable {p : Program} {l : Launch} {e : Env} {R : Room} {s : State} {mm : MethodId} {args : Array Value} {below : List Frame} {meth : Method} {c : Code} {cc : ByteArray} {nL : Nat} {ret : Option FieldType} {D : va_G} {A B : Nat → Prop} {cells slots : Nat} {Q : State → Prop} {pc : Nat} {lv : List (Nat × Value)} {st : List Value}
theorem kX1_closed {ws : va_W} (pq : Nat → Nat) (pz : Nat → Int) (C : CX p l s mm args meth c RX1 cc nL ret D A) (hz : (0 ≤ pz 0 ∧ pz 0 < 60) ∧ 0 ≤ pz 1 ∧ pz 1 < 60) (hR : 0 + 1 ≤ R.frames ∧ 8 + (1 + 11) + 64 * 0 ≤ R.locals) (hcat : (st.map fun v => v.category).sum ≤ 8) (hroom : cells ≤ R.cells ∧ slots ≤ R.slots) {rv : Int} (hr : bP (pz 1 = pz 0) = rv) (hsb : Sb ws ([(pq 0, .inr (3, [.int (iI (pz 0)), .int (iI (pz 1)), .int (iI (pz 2)), .ref (pq 1), .ref (pq 3)]))])) (d : decode cc pc = .ok (.invokevirtual 218, 3)) (K : GO p l e R s mm args below meth c nL D A B cells slots Q (ws) (pc + 3) lv (.int (iI rv) :: st)) : GO p l e R s mm args below meth c nL D A B cells slots Q (ws) (pc) lv (.ref (pq 0) :: st) := by
  refine g_callVR C (c_closed l D C.hl pq pz hz) (As := []) (n := 0) (lw_V q878 q879 q880 q72 q881) (by decide +kernel) rfl rfl hR (fun H _ hP _ => va_recv C.hK (hsb.1 _ _ _ hP) (show clX[3]? = some _ from rfl) (show ([_] : va_W)[0]? = some _ from rfl)) rfl rfl hcat ⟨hroom.1, hroom.2⟩ d hsb exT_b hex_t (fun v w hp => ?_) kx_n
  obtain ⟨z, rfl, rfl⟩ := hp
  rw [hr]
  exact K
end MK

set_option maxHeartbeats 4000000 in
set_option maxRecDepth 100000 in
theorem c_times0 (l : Launch) (D : va_G) (hst : l.stackTraces = false) (h : Nat → Nat) (f : Nat → Int) (g : Nat → Int → Int) (N : Nat → Nat) (M : Nat → Nat → Nat) (pq : Nat → Nat) (pz : Nat → Int) (pv : Nat → Int → Int) (V : va_W) (b : Int) (hF : 1 ≤ f 0 ∧ f 0 ≤ 5) (hS : 2 ≤ f 1 ∧ f 1 ≤ 6) (hnp : 0 ≤ f 6 ∧ f 6 ≤ 55) (hN6 : N 6 = 55) (hpt : ∀ j, 0 ≤ j → j < f 6 → (0 ≤ g 24 j ∧ g 24 j ≤ 4) ∧ (0 ≤ g 25 j ∧ g 25 j ≤ 5) ∧ (0 ≤ g 26 j ∧ g 26 j ≤ 2) ∧ (0 ≤ g 27 j ∧ g 27 j ≤ 1)) (hPV : PV f g pq pz pv) (hbr : -2147483648 ≤ b ∧ b < 2147483648) : CT l D yX1_times (ws_ yX1_times cX1_times 6 (some .int)) (rmD 6 0 0) (0) (0) mdR [.ref (h 0), .ref (pq 0), .int (iI b), .null] (sW D h f g N M (ptW (M 6) (g 24) (g 25) (g 26) (g 27) (f 6) ++ (plC D pq pz pv ++ V))) exT (pI fun z _ => z = fgo (f 6) (g 24) (g 25) (g 26) (f 0) (f 1) (g 5) (pz 0) (pv 0) (pz 5) b) (xN) := by
  refine ct_R (lv := [(0, .ref (h 0)), (1, .ref (pq 0)), (2, .int (iI b)), (3, .null)]) RX1 (by decide) rfl rfl hst (Nat.le_of_ble_eq_true rfl) rfl ?_
  intro p e s mm args below meth c A C htab hex
  have hn0 := hPV.1.2.1
  have hcp := hPV.2.2.1
  refine g_iconst C dX1_times_0 ?_
  refine g_istore C dX1_times_1 (lv' := [(0, .ref (h 0)), (1, .ref (pq 0)), (2, .int (iI b)), (3, .null), (4, .int (iI 0))]) [1, 2, 3, 4, 0] rfl (Nat.le_of_ble_eq_true rfl) ?_
  refine g_iconst C dX1_times_3 ?_
  refine g_istore C dX1_times_4 (lv' := [(0, .ref (h 0)), (1, .ref (pq 0)), (2, .int (iI b)), (3, .null), (4, .int (iI 0)), (5, .int (iI 0))]) [1, 2, 3, 4, 5, 0] rfl (Nat.le_of_ble_eq_true rfl) ?_
  have L1 : ∀ (n : Nat) (k : Int) (nn : Int), (0 ≤ k ∧ k ≤ pz 5) → (nn = fgo (f 6) (g 24) (g 25) (g 26) (f 0) (f 1) (g 5) (pz 0) (pv 0) k b) → (pz 5 - k).toNat < n → GO p l e (rmD 6 0 0) s mm args below meth c 6 D A (fun _ => True) 0 0 (MX below D A (pI fun z _ => z = fgo (f 6) (g 24) (g 25) (g 26) (f 0) (f 1) (g 5) (pz 0) (pv 0) (pz 5) b) (xN) args s (0) (0)) (sW D h f g N M (ptW (M 6) (g 24) (g 25) (g 26) (g 27) (f 6) ++ (plC D pq pz pv ++ V))) 6 [(0, .ref (h 0)), (1, .ref (pq 0)), (2, .int (iI b)), (3, .null), (4, .int (iI nn)), (5, .int (iI k))] [] := by
    intro n
    induction n with
    | zero => intro k nn hk hn hm; exact absurd hm (Nat.not_lt_zero _)
    | succ n ih1 =>
      intro k nn hk hn hm1
      refine g_iload C dX1_times_6 5 rfl ?_
      refine g_aload_n C dX1_times_8 rfl 1 rfl ?_
      refine gl_get3 C sb_pl dX1_times_9 ?_
      refine kX1_lsize (pq 1) (pq 2) (pz 3) (pq 5) (pz 5) (bxA D (pv 0)) C ⟨Nat.le_of_ble_eq_true rfl, Nat.le_of_ble_eq_true rfl⟩ (Nat.le_of_ble_eq_true rfl) ⟨Nat.le_of_ble_eq_true rfl, Nat.le_of_ble_eq_true rfl⟩ (rv := pz 5) rfl sb_pm dX1_times_12 ?_
      refine g_icmp_ge C (tgt := 76) dX1_times_15 (by decide) (by omega) (by omega) (fun hc15_2 => ?_) (fun hc15_2 => ?_)
      ·
        refine g_iload C dX1_times_76 4 rfl ?_
        refine g_nilA ?_
        exact g_iret C dX1_times_78 rfl (Nat.le_of_ble_eq_true rfl) (Nat.le_of_ble_eq_true rfl) ⟨_, rfl, by rw [hn, show k = pz 5 by omega]⟩
      ·
        have hk8 := hPV.1.2.2 k hk.1 (by omega)
        have hpp := hPV.2.1 k hk.1 (by omega)
        have hpi := hPV.1.at hF hS (k := k) hk.1 (by omega)
        rw [← hpp] at hpi hk8
        unfold PIn at hpi
        have hal := alg_rg (np := f 6) (pf := g 24) (ps := g 25) (pk := g 26) (p := pv 1 k) (m := pv 0 k) hnp.1
        refine g_aload_nN C dX1_times_18 rfl 3 rfl ?_
        refine g_ifnullN C (tgt := 29) (by decide) dX1_times_19 ?_
        refine g_aload_n C dX1_times_29 rfl 0 rfl ?_
        refine g_aload_n C dX1_times_30 rfl 1 rfl ?_
        refine gl_get4 C sb_pl dX1_times_31 ?_
        refine g_iload C dX1_times_34 5 rfl ?_
        refine kX1_lget (pq 3) (pq 4) (pz 4) (pq 6) (pz 5) (bxA D (pv 1)) k C (by omega) (by omega) ⟨Nat.le_of_ble_eq_true rfl, Nat.le_of_ble_eq_true rfl⟩ (Nat.le_of_ble_eq_true rfl) ⟨Nat.le_of_ble_eq_true rfl, Nat.le_of_ble_eq_true rfl⟩ sb_pp dX1_times_36 ?_
        rw [bx_at (show 0 ≤ k by omega)]
        refine g_castE C q890 (rcvB C (show (pv 1 k + 128).toNat < 256 by omega)) dX1_times_39 ?_
        refine kX1_iintV (pv 1 k) C (by omega) ⟨Nat.le_of_ble_eq_true rfl, Nat.le_of_ble_eq_true rfl⟩ (Nat.le_of_ble_eq_true rfl) ⟨Nat.le_of_ble_eq_true rfl, Nat.le_of_ble_eq_true rfl⟩ (rv := pv 1 k) rfl dX1_times_42 ?_
        refine g_aload_n C dX1_times_45 rfl 1 rfl ?_
        refine gl_get3 C sb_pl dX1_times_46 ?_
        refine g_iload C dX1_times_49 5 rfl ?_
        refine kX1_lget (pq 1) (pq 2) (pz 3) (pq 5) (pz 5) (bxA D (pv 0)) k C (by omega) (by omega) ⟨Nat.le_of_ble_eq_true rfl, Nat.le_of_ble_eq_true rfl⟩ (Nat.le_of_ble_eq_true rfl) ⟨Nat.le_of_ble_eq_true rfl, Nat.le_of_ble_eq_true rfl⟩ sb_pm dX1_times_51 ?_
        rw [bx_at (show 0 ≤ k by omega)]
        refine g_castE C q890 (rcvB C (show (pv 0 k + 128).toNat < 256 by omega)) dX1_times_54 ?_
        refine kX1_iintV (pv 0 k) C (by omega) ⟨Nat.le_of_ble_eq_true rfl, Nat.le_of_ble_eq_true rfl⟩ (Nat.le_of_ble_eq_true rfl) ⟨Nat.le_of_ble_eq_true rfl, Nat.le_of_ble_eq_true rfl⟩ (rv := pv 0 k) rfl dX1_times_57 ?_
        refine kX1_X1_goesAlong h f g N M (plC D pq pz pv ++ V) (pv 1 k) (pv 0 k) C hnp hN6 hpt (by omega) (by omega) ⟨Nat.le_of_ble_eq_true rfl, Nat.le_of_ble_eq_true rfl⟩ (Nat.le_of_ble_eq_true rfl) ⟨Nat.le_of_ble_eq_true rfl, Nat.le_of_ble_eq_true rfl⟩ (rv := alg (f 6) (g 24) (g 25) (g 26) (pv 1 k) (pv 0 k)) rfl Sb.rf dX1_times_60 ?_
        refine g_iload_n C dX1_times_63 rfl 2 rfl ?_
        refine g_icmp_ne C (tgt := 70) dX1_times_64 (by decide) (by omega) (by omega) (fun hc64_3 => ?_) (fun hc64_3 => ?_)
        ·
          refine g_iinc C dX1_times_70 5 rfl (lv' := [(0, .ref (h 0)), (1, .ref (pq 0)), (2, .int (iI b)), (3, .null), (4, .int (iI nn)), (5, .int (iI (k + 1)))]) [1, 2, 3, 4, 5, 0] rfl (Nat.le_of_ble_eq_true rfl) ?_
          refine g_goto C (tgt := 6) dX1_times_73 (by decide) ?_
          exact ih1 (k + 1) nn (by omega) (by rw [fgo_s hk.1, ← hpp, bI_dn (by omega), hn]; omega) (by omega)
        ·
          refine g_iinc C dX1_times_67 4 rfl (lv' := [(0, .ref (h 0)), (1, .ref (pq 0)), (2, .int (iI b)), (3, .null), (4, .int (iI (nn + 1))), (5, .int (iI k))]) [1, 2, 3, 4, 0, 5] rfl (Nat.le_of_ble_eq_true rfl) ?_
          refine g_iinc C dX1_times_70 5 rfl (lv' := [(0, .ref (h 0)), (1, .ref (pq 0)), (2, .int (iI b)), (3, .null), (4, .int (iI (nn + 1))), (5, .int (iI (k + 1)))]) [1, 2, 3, 4, 5, 0] rfl (Nat.le_of_ble_eq_true rfl) ?_
          refine g_goto C (tgt := 6) dX1_times_73 (by decide) ?_
          exact ih1 (k + 1) (nn + 1) (by omega) (by rw [fgo_s hk.1, ← hpp, bI_d (by omega), hn]) (by omega)
  exact L1 _ 0 0 (by omega) rfl (Nat.lt_succ_self _)

section MK
variable {p : Program} {l : Launch} {e : Env} {R : Room} {s : State} {mm : MethodId} {args : Array Value} {below : List Frame} {meth : Method} {c : Code} {cc : ByteArray} {nL : Nat} {ret : Option FieldType} {D : va_G} {A B : Nat → Prop} {cells slots : Nat} {Q : State → Prop} {pc : Nat} {lv : List (Nat × Value)} {st : List Value}
theorem kX1_times0 {ws : va_W} (h : Nat → Nat) (f : Nat → Int) (g : Nat → Int → Int) (N : Nat → Nat) (M : Nat → Nat → Nat) (pq : Nat → Nat) (pz : Nat → Int) (pv : Nat → Int → Int) (V : va_W) (b : Int) (C : CX p l s mm args meth c RX1 cc nL ret D A) (hF : 1 ≤ f 0 ∧ f 0 ≤ 5) (hS : 2 ≤ f 1 ∧ f 1 ≤ 6) (hnp : 0 ≤ f 6 ∧ f 6 ≤ 55) (hN6 : N 6 = 55) (hpt : ∀ j, 0 ≤ j → j < f 6 → (0 ≤ g 24 j ∧ g 24 j ≤ 4) ∧ (0 ≤ g 25 j ∧ g 25 j ≤ 5) ∧ (0 ≤ g 26 j ∧ g 26 j ≤ 2) ∧ (0 ≤ g 27 j ∧ g 27 j ≤ 1)) (hPV : PV f g pq pz pv) (hbr : -2147483648 ≤ b ∧ b < 2147483648) (hR : 6 + 1 ≤ R.frames ∧ 8 + (6 + 11) + 64 * 6 ≤ R.locals) (hcat : (st.map fun v => v.category).sum ≤ 8) (hroom : cells ≤ R.cells ∧ slots ≤ R.slots) {rv : Int} (hr : fgo (f 6) (g 24) (g 25) (g 26) (f 0) (f 1) (g 5) (pz 0) (pv 0) (pz 5) b = rv) (hsb : Sb ws (sW D h f g N M (ptW (M 6) (g 24) (g 25) (g 26) (g 27) (f 6) ++ (plC D pq pz pv ++ V)))) (d : decode cc pc = .ok (.invokevirtual 222, 3)) (K : GO p l e R s mm args below meth c nL D A B cells slots Q (ws) (pc + 3) lv (.int (iI rv) :: st)) : GO p l e R s mm args below meth c nL D A B cells slots Q (ws) (pc) lv (.null :: .int (iI b) :: .ref (pq 0) :: .ref (h 0) :: st) := by
  refine g_callVR C (c_times0 l D C.hl h f g N M pq pz pv V b hF hS hnp hN6 hpt hPV hbr) (As := [.ref (pq 0), .int (iI b), .null]) (n := 3) (lw_V q886 q888 qs20 q48 q889) (by decide +kernel) rfl rfl hR (rcvH C (Sb.tr hsb Sb.rf)) rfl rfl hcat ⟨hroom.1, hroom.2⟩ d hsb exT_b hex_t (fun v w hp => ?_) kx_n
  obtain ⟨z, rfl, rfl⟩ := hp
  rw [hr]
  exact K
end MK

set_option maxHeartbeats 4000000 in
set_option maxRecDepth 100000 in
theorem c_times1 (l : Launch) (D : va_G) (hst : l.stackTraces = false) (h : Nat → Nat) (f : Nat → Int) (g : Nat → Int → Int) (N : Nat → Nat) (M : Nat → Nat → Nat) (pq : Nat → Nat) (pz : Nat → Int) (pv : Nat → Int → Int) (V : va_W) (o no : Nat) (ov : Int → Int) (b : Int) (hF : 1 ≤ f 0 ∧ f 0 ≤ 5) (hS : 2 ≤ f 1 ∧ f 1 ≤ 6) (hnp : 0 ≤ f 6 ∧ f 6 ≤ 55) (hN6 : N 6 = 55) (hpt : ∀ j, 0 ≤ j → j < f 6 → (0 ≤ g 24 j ∧ g 24 j ≤ 4) ∧ (0 ≤ g 25 j ∧ g 25 j ≤ 5) ∧ (0 ≤ g 26 j ∧ g 26 j ≤ 2) ∧ (0 ≤ g 27 j ∧ g 27 j ≤ 1)) (hPV : PV f g pq pz pv) (hbr : -2147483648 ≤ b ∧ b < 2147483648) (hno : (no : Int) < 2147483648) (hon : pz 5 ≤ no) (hov : ∀ j, 0 ≤ j → j < pz 5 → 0 ≤ ov j ∧ ov j ≤ 1) : CT l D yX1_times (ws_ yX1_times cX1_times 6 (some .int)) (rmD 6 0 0) (0) (0) mdR [.ref (h 0), .ref (pq 0), .int (iI b), .ref o] (sW D h f g N M (ptW (M 6) (g 24) (g 25) (g 26) (g 27) (f 6) ++ (plC D pq pz pv ++ ((o, .inl (D.1 101, no, .inl (aI ov))) :: V)))) exT (pI fun z _ => z = fgoO ov (f 6) (g 24) (g 25) (g 26) (f 0) (f 1) (g 5) (pz 0) (pv 0) (pz 5) b) (xN) := by
  refine ct_R (lv := [(0, .ref (h 0)), (1, .ref (pq 0)), (2, .int (iI b)), (3, .ref o)]) RX1 (by decide) rfl rfl hst (Nat.le_of_ble_eq_true rfl) rfl ?_
  intro p e s mm args below meth c A C htab hex
  have hn0 := hPV.1.2.1
  have hcp := hPV.2.2.1
  have hsbo : Sb (sW D h f g N M (ptW (M 6) (g 24) (g 25) (g 26) (g 27) (f 6) ++ (plC D pq pz pv ++ ((o, .inl (D.1 101, no, .inl (aI ov))) :: V)))) [(o, .inl (D.1 101, no, .inl (aI ov)))] := Sb.tr Sb.rt (Sb.tr Sb.rt (Sb.tr Sb.rt (Sb.pick [0] rfl rfl)))
  refine g_iconst C dX1_times_0 ?_
  refine g_istore C dX1_times_1 (lv' := [(0, .ref (h 0)), (1, .ref (pq 0)), (2, .int (iI b)), (3, .ref o), (4, .int (iI 0))]) [1, 2, 3, 4, 0] rfl (Nat.le_of_ble_eq_true rfl) ?_
  refine g_iconst C dX1_times_3 ?_
  refine g_istore C dX1_times_4 (lv' := [(0, .ref (h 0)), (1, .ref (pq 0)), (2, .int (iI b)), (3, .ref o), (4, .int (iI 0)), (5, .int (iI 0))]) [1, 2, 3, 4, 5, 0] rfl (Nat.le_of_ble_eq_true rfl) ?_
  have L1 : ∀ (n : Nat) (k : Int) (nn : Int), (0 ≤ k ∧ k ≤ pz 5) → (nn = fgoO ov (f 6) (g 24) (g 25) (g 26) (f 0) (f 1) (g 5) (pz 0) (pv 0) k b) → (pz 5 - k).toNat < n → GO p l e (rmD 6 0 0) s mm args below meth c 6 D A (fun _ => True) 0 0 (MX below D A (pI fun z _ => z = fgoO ov (f 6) (g 24) (g 25) (g 26) (f 0) (f 1) (g 5) (pz 0) (pv 0) (pz 5) b) (xN) args s (0) (0)) (sW D h f g N M (ptW (M 6) (g 24) (g 25) (g 26) (g 27) (f 6) ++ (plC D pq pz pv ++ ((o, .inl (D.1 101, no, .inl (aI ov))) :: V)))) 6 [(0, .ref (h 0)), (1, .ref (pq 0)), (2, .int (iI b)), (3, .ref o), (4, .int (iI nn)), (5, .int (iI k))] [] := by
    intro n
    induction n with
    | zero => intro k nn hk hn hm; exact absurd hm (Nat.not_lt_zero _)
    | succ n ih1 =>
      intro k nn hk hn hm1
      refine g_iload C dX1_times_6 5 rfl ?_
      refine g_aload_n C dX1_times_8 rfl 1 rfl ?_
      refine gl_get3 C sb_pl dX1_times_9 ?_
      refine kX1_lsize (pq 1) (pq 2) (pz 3) (pq 5) (pz 5) (bxA D (pv 0)) C ⟨Nat.le_of_ble_eq_true rfl, Nat.le_of_ble_eq_true rfl⟩ (Nat.le_of_ble_eq_true rfl) ⟨Nat.le_of_ble_eq_true rfl, Nat.le_of_ble_eq_true rfl⟩ (rv := pz 5) rfl sb_pm dX1_times_12 ?_
      refine g_icmp_ge C (tgt := 76) dX1_times_15 (by decide) (by omega) (by omega) (fun hc15_2 => ?_) (fun hc15_2 => ?_)
      ·
        refine g_iload C dX1_times_76 4 rfl ?_
        refine g_nilA ?_
        exact g_iret C dX1_times_78 rfl (Nat.le_of_ble_eq_true rfl) (Nat.le_of_ble_eq_true rfl) ⟨_, rfl, by rw [hn, show k = pz 5 by omega]⟩
      ·
        have hk8 := hPV.1.2.2 k hk.1 (by omega)
        have hpp := hPV.2.1 k hk.1 (by omega)
        have hpi := hPV.1.at hF hS (k := k) hk.1 (by omega)
        rw [← hpp] at hpi hk8
        unfold PIn at hpi
        have hal := alg_rg (np := f 6) (pf := g 24) (ps := g 25) (pk := g 26) (p := pv 1 k) (m := pv 0 k) hnp.1
        have hovk := hov k hk.1 (by omega)
        refine g_aload_n C dX1_times_18 rfl 3 rfl ?_
        refine g_ifnull C dX1_times_19 ?_
        refine g_aload_n C dX1_times_22 rfl 3 rfl ?_
        refine g_iload C dX1_times_23 5 rfl ?_
        refine g_zalds (n := no) (x := ov) (v := ov k) C hsbo rfl (by omega) hno dX1_times_25 ?_
        refine g_if_ne C (tgt := 70) dX1_times_26 (by decide) (by omega) (fun hc26_3 => ?_) (fun hc26_3 => ?_)
        ·
          refine g_iinc C dX1_times_70 5 rfl (lv' := [(0, .ref (h 0)), (1, .ref (pq 0)), (2, .int (iI b)), (3, .ref o), (4, .int (iI nn)), (5, .int (iI (k + 1)))]) [1, 2, 3, 4, 5, 0] rfl (Nat.le_of_ble_eq_true rfl) ?_
          refine g_goto C (tgt := 6) dX1_times_73 (by decide) ?_
          exact ih1 (k + 1) nn (by omega) (by rw [fgoO_s hk.1, ← hpp, bI_dn (by omega), hn]; omega) (by omega)
        ·
          refine g_aload_n C dX1_times_29 rfl 0 rfl ?_
          refine g_aload_n C dX1_times_30 rfl 1 rfl ?_
          refine gl_get4 C sb_pl dX1_times_31 ?_
          refine g_iload C dX1_times_34 5 rfl ?_
          refine kX1_lget (pq 3) (pq 4) (pz 4) (pq 6) (pz 5) (bxA D (pv 1)) k C (by omega) (by omega) ⟨Nat.le_of_ble_eq_true rfl, Nat.le_of_ble_eq_true rfl⟩ (Nat.le_of_ble_eq_true rfl) ⟨Nat.le_of_ble_eq_true rfl, Nat.le_of_ble_eq_true rfl⟩ sb_pp dX1_times_36 ?_
          rw [bx_at (show 0 ≤ k by omega)]
          refine g_castE C q890 (rcvB C (show (pv 1 k + 128).toNat < 256 by omega)) dX1_times_39 ?_
          refine kX1_iintV (pv 1 k) C (by omega) ⟨Nat.le_of_ble_eq_true rfl, Nat.le_of_ble_eq_true rfl⟩ (Nat.le_of_ble_eq_true rfl) ⟨Nat.le_of_ble_eq_true rfl, Nat.le_of_ble_eq_true rfl⟩ (rv := pv 1 k) rfl dX1_times_42 ?_
          refine g_aload_n C dX1_times_45 rfl 1 rfl ?_
          refine gl_get3 C sb_pl dX1_times_46 ?_
          refine g_iload C dX1_times_49 5 rfl ?_
          refine kX1_lget (pq 1) (pq 2) (pz 3) (pq 5) (pz 5) (bxA D (pv 0)) k C (by omega) (by omega) ⟨Nat.le_of_ble_eq_true rfl, Nat.le_of_ble_eq_true rfl⟩ (Nat.le_of_ble_eq_true rfl) ⟨Nat.le_of_ble_eq_true rfl, Nat.le_of_ble_eq_true rfl⟩ sb_pm dX1_times_51 ?_
          rw [bx_at (show 0 ≤ k by omega)]
          refine g_castE C q890 (rcvB C (show (pv 0 k + 128).toNat < 256 by omega)) dX1_times_54 ?_
          refine kX1_iintV (pv 0 k) C (by omega) ⟨Nat.le_of_ble_eq_true rfl, Nat.le_of_ble_eq_true rfl⟩ (Nat.le_of_ble_eq_true rfl) ⟨Nat.le_of_ble_eq_true rfl, Nat.le_of_ble_eq_true rfl⟩ (rv := pv 0 k) rfl dX1_times_57 ?_
          refine kX1_X1_goesAlong h f g N M (plC D pq pz pv ++ ((o, .inl (D.1 101, no, .inl (aI ov))) :: V)) (pv 1 k) (pv 0 k) C hnp hN6 hpt (by omega) (by omega) ⟨Nat.le_of_ble_eq_true rfl, Nat.le_of_ble_eq_true rfl⟩ (Nat.le_of_ble_eq_true rfl) ⟨Nat.le_of_ble_eq_true rfl, Nat.le_of_ble_eq_true rfl⟩ (rv := alg (f 6) (g 24) (g 25) (g 26) (pv 1 k) (pv 0 k)) rfl Sb.rf dX1_times_60 ?_
          refine g_iload_n C dX1_times_63 rfl 2 rfl ?_
          refine g_icmp_ne C (tgt := 70) dX1_times_64 (by decide) (by omega) (by omega) (fun hc64_4 => ?_) (fun hc64_4 => ?_)
          ·
            refine g_iinc C dX1_times_70 5 rfl (lv' := [(0, .ref (h 0)), (1, .ref (pq 0)), (2, .int (iI b)), (3, .ref o), (4, .int (iI nn)), (5, .int (iI (k + 1)))]) [1, 2, 3, 4, 5, 0] rfl (Nat.le_of_ble_eq_true rfl) ?_
            refine g_goto C (tgt := 6) dX1_times_73 (by decide) ?_
            exact ih1 (k + 1) nn (by omega) (by rw [fgoO_s hk.1, ← hpp, bI_dn (by omega), hn]; omega) (by omega)
          ·
            refine g_iinc C dX1_times_67 4 rfl (lv' := [(0, .ref (h 0)), (1, .ref (pq 0)), (2, .int (iI b)), (3, .ref o), (4, .int (iI (nn + 1))), (5, .int (iI k))]) [1, 2, 3, 4, 0, 5] rfl (Nat.le_of_ble_eq_true rfl) ?_
            refine g_iinc C dX1_times_70 5 rfl (lv' := [(0, .ref (h 0)), (1, .ref (pq 0)), (2, .int (iI b)), (3, .ref o), (4, .int (iI (nn + 1))), (5, .int (iI (k + 1)))]) [1, 2, 3, 4, 5, 0] rfl (Nat.le_of_ble_eq_true rfl) ?_
            refine g_goto C (tgt := 6) dX1_times_73 (by decide) ?_
            exact ih1 (k + 1) (nn + 1) (by omega) (by rw [fgoO_s hk.1, ← hpp, bI_d (by omega), hn]) (by omega)
  exact L1 _ 0 0 (by omega) rfl (Nat.lt_succ_self _)

section MK
variable {p : Program} {l : Launch} {e : Env} {R : Room} {s : State} {mm : MethodId} {args : Array Value} {below : List Frame} {meth : Method} {c : Code} {cc : ByteArray} {nL : Nat} {ret : Option FieldType} {D : va_G} {A B : Nat → Prop} {cells slots : Nat} {Q : State → Prop} {pc : Nat} {lv : List (Nat × Value)} {st : List Value}
theorem kX1_times1 {ws : va_W} (h : Nat → Nat) (f : Nat → Int) (g : Nat → Int → Int) (N : Nat → Nat) (M : Nat → Nat → Nat) (pq : Nat → Nat) (pz : Nat → Int) (pv : Nat → Int → Int) (V : va_W) (o no : Nat) (ov : Int → Int) (b : Int) (C : CX p l s mm args meth c RX1 cc nL ret D A) (hF : 1 ≤ f 0 ∧ f 0 ≤ 5) (hS : 2 ≤ f 1 ∧ f 1 ≤ 6) (hnp : 0 ≤ f 6 ∧ f 6 ≤ 55) (hN6 : N 6 = 55) (hpt : ∀ j, 0 ≤ j → j < f 6 → (0 ≤ g 24 j ∧ g 24 j ≤ 4) ∧ (0 ≤ g 25 j ∧ g 25 j ≤ 5) ∧ (0 ≤ g 26 j ∧ g 26 j ≤ 2) ∧ (0 ≤ g 27 j ∧ g 27 j ≤ 1)) (hPV : PV f g pq pz pv) (hbr : -2147483648 ≤ b ∧ b < 2147483648) (hno : (no : Int) < 2147483648) (hon : pz 5 ≤ no) (hov : ∀ j, 0 ≤ j → j < pz 5 → 0 ≤ ov j ∧ ov j ≤ 1) (hR : 6 + 1 ≤ R.frames ∧ 8 + (6 + 11) + 64 * 6 ≤ R.locals) (hcat : (st.map fun v => v.category).sum ≤ 8) (hroom : cells ≤ R.cells ∧ slots ≤ R.slots) {rv : Int} (hr : fgoO ov (f 6) (g 24) (g 25) (g 26) (f 0) (f 1) (g 5) (pz 0) (pv 0) (pz 5) b = rv) (hsb : Sb ws (sW D h f g N M (ptW (M 6) (g 24) (g 25) (g 26) (g 27) (f 6) ++ (plC D pq pz pv ++ ((o, .inl (D.1 101, no, .inl (aI ov))) :: V))))) (d : decode cc pc = .ok (.invokevirtual 222, 3)) (K : GO p l e R s mm args below meth c nL D A B cells slots Q (ws) (pc + 3) lv (.int (iI rv) :: st)) : GO p l e R s mm args below meth c nL D A B cells slots Q (ws) (pc) lv (.ref o :: .int (iI b) :: .ref (pq 0) :: .ref (h 0) :: st) := by
  refine g_callVR C (c_times1 l D C.hl h f g N M pq pz pv V o no ov b hF hS hnp hN6 hpt hPV hbr hno hon hov) (As := [.ref (pq 0), .int (iI b), .ref o]) (n := 3) (lw_V q886 q888 qs20 q48 q889) (by decide +kernel) rfl rfl hR (rcvH C (Sb.tr hsb Sb.rf)) rfl rfl hcat ⟨hroom.1, hroom.2⟩ d hsb exT_b hex_t (fun v w hp => ?_) kx_n
  obtain ⟨z, rfl, rfl⟩ := hp
  rw [hr]
  exact K
end MK

set_option maxHeartbeats 4000000 in
set_option maxRecDepth 100000 in
theorem c_X1_isWhole (l : Launch) (D : va_G) (hst : l.stackTraces = false) (h : Nat → Nat) (f : Nat → Int) (g : Nat → Int → Int) (N : Nat → Nat) (M : Nat → Nat → Nat) (pq : Nat → Nat) (pz : Nat → Int) (pv : Nat → Int → Int) (V : va_W) (cl : Int) (hF : 1 ≤ f 0 ∧ f 0 ≤ 5) (hS : 2 ≤ f 1 ∧ f 1 ≤ 6) (hnp : 0 ≤ f 6 ∧ f 6 ≤ 55) (hN6 : N 6 = 55) (hpt : ∀ j, 0 ≤ j → j < f 6 → (0 ≤ g 24 j ∧ g 24 j ≤ 4) ∧ (0 ≤ g 25 j ∧ g 25 j ≤ 5) ∧ (0 ≤ g 26 j ∧ g 26 j ≤ 2) ∧ (0 ≤ g 27 j ∧ g 27 j ≤ 1)) (hPV : PV f g pq pz pv) (hclr : 0 ≤ cl ∧ cl ≤ 1) : CT l D yX1_isWhole (ws_ yX1_isWhole cX1_isWhole 6 (some .boolean)) (rmD 7 0 0) (0) (0) mdR [.ref (h 0), .ref (pq 0), .int (iI cl)] (sW D h f g N M (ptW (M 6) (g 24) (g 25) (g 26) (g 27) (f 6) ++ (plC D pq pz pv ++ V))) exT (pI fun z _ => z = bP (pz 1 = pz 0 ∧ ∀ j, 0 ≤ j → j < f 6 → (cl = 0 → (g 27 j = 0 ∨ 0 < fgo (f 6) (g 24) (g 25) (g 26) (f 0) (f 1) (g 5) (pz 0) (pv 0) (pz 5) j)) ∧ (cl ≠ 0 → fgo (f 6) (g 24) (g 25) (g 26) (f 0) (f 1) (g 5) (pz 0) (pv 0) (pz 5) j = g 27 j))) (xN) := by
  refine ct_R (lv := [(0, .ref (h 0)), (1, .ref (pq 0)), (2, .int (iI cl))]) RX1 (by decide) rfl rfl hst (Nat.le_of_ble_eq_true rfl) rfl ?_
  intro p e s mm args below meth c A C htab hex
  have hn0 := hPV.1.2.1
  have hcp := hPV.2.2.1
  have hb0 := hPV.1.1
  have hto := hPV.2.2.2.1
  have hpe := hPV.1.at hF hS (k := pz 5) (by omega) (Int.le_refl _)
  rw [← hto] at hpe
  unfold PIn at hpe hb0
  refine g_aload_n C dX1_isWhole_0 rfl 1 rfl ?_
  refine kX1_closed pq pz C (by omega) ⟨Nat.le_of_ble_eq_true rfl, Nat.le_of_ble_eq_true rfl⟩ (Nat.le_of_ble_eq_true rfl) ⟨Nat.le_of_ble_eq_true rfl, Nat.le_of_ble_eq_true rfl⟩ (rv := bP (pz 1 = pz 0)) rfl sb_po dX1_isWhole_1 ?_
  have hbr1 := bP_rg (pz 1 = pz 0)
  refine g_istore_n C dX1_isWhole_4 rfl (lv' := [(0, .ref (h 0)), (1, .ref (pq 0)), (2, .int (iI cl)), (3, .int (iI (bP (pz 1 = pz 0))))]) [1, 2, 3, 0] rfl (Nat.le_of_ble_eq_true rfl) ?_
  refine g_iconst C dX1_isWhole_5 ?_
  refine g_istore C dX1_isWhole_6 (lv' := [(0, .ref (h 0)), (1, .ref (pq 0)), (2, .int (iI cl)), (3, .int (iI (bP (pz 1 = pz 0)))), (4, .int (iI 0))]) [1, 2, 3, 4, 0] rfl (Nat.le_of_ble_eq_true rfl) ?_
  have L2 : ∀ (n : Nat) (k : Int) (is_ : Int), (0 ≤ k ∧ k ≤ f 6) → (is_ = bP (pz 1 = pz 0 ∧ ∀ j, 0 ≤ j → j < k → (cl = 0 → (g 27 j = 0 ∨ 0 < fgo (f 6) (g 24) (g 25) (g 26) (f 0) (f 1) (g 5) (pz 0) (pv 0) (pz 5) j)) ∧ (cl ≠ 0 → fgo (f 6) (g 24) (g 25) (g 26) (f 0) (f 1) (g 5) (pz 0) (pv 0) (pz 5) j = g 27 j))) → (f 6 - k).toNat < n → GO p l e (rmD 7 0 0) s mm args below meth c 6 D A (fun _ => True) 0 0 (MX below D A (pI fun z _ => z = bP (pz 1 = pz 0 ∧ ∀ j, 0 ≤ j → j < f 6 → (cl = 0 → (g 27 j = 0 ∨ 0 < fgo (f 6) (g 24) (g 25) (g 26) (f 0) (f 1) (g 5) (pz 0) (pv 0) (pz 5) j)) ∧ (cl ≠ 0 → fgo (f 6) (g 24) (g 25) (g 26) (f 0) (f 1) (g 5) (pz 0) (pv 0) (pz 5) j = g 27 j))) (xN) args s (0) (0)) (sW D h f g N M (ptW (M 6) (g 24) (g 25) (g 26) (g 27) (f 6) ++ (plC D pq pz pv ++ V))) 8 [(0, .ref (h 0)), (1, .ref (pq 0)), (2, .int (iI cl)), (3, .int (iI is_)), (4, .int (iI k))] [] := by
    intro n
    induction n with
    | zero => intro k is_ hk his hm; exact absurd hm (Nat.not_lt_zero _)
    | succ n ih2 =>
      intro k is_ hk his hm2
      have hib : 0 ≤ is_ ∧ is_ ≤ 1 := by rw [his]; exact bP_rg _
      refine g_iload C dX1_isWhole_8 4 rfl ?_
      refine g_aload_n C dX1_isWhole_10 rfl 0 rfl ?_
      refine gs_get6 C dX1_isWhole_11 ?_
      refine kX1_lsize (h 6) (h 21) (f 21) (N 6) (f 6) (M 6) C ⟨Nat.le_of_ble_eq_true rfl, Nat.le_of_ble_eq_true rfl⟩ (Nat.le_of_ble_eq_true rfl) ⟨Nat.le_of_ble_eq_true rfl, Nat.le_of_ble_eq_true rfl⟩ (rv := f 6) rfl sb_l6 dX1_isWhole_14 ?_
      refine g_icmp_ge C (tgt := 118) dX1_isWhole_17 (by decide) (by omega) (by omega) (fun hc17_3 => ?_) (fun hc17_3 => ?_)
      ·
        refine g_iload_n C dX1_isWhole_118 rfl 3 rfl ?_
        refine g_nilA ?_
        exact g_iret C dX1_isWhole_119 (nr_b hib) (Nat.le_of_ble_eq_true rfl) (Nat.le_of_ble_eq_true rfl) ⟨_, rfl, by first | (rw [his, show k = f 6 by omega]) | (rw [show is_ = 0 by omega]; exact bW_x (by rw [← his]; omega) hk.2)⟩
      ·
        refine g_iload_n C dX1_isWhole_20 rfl 3 rfl ?_
        refine g_if_eq C (tgt := 118) dX1_isWhole_21 (by decide) (by omega) (fun hc21_4 => ?_) (fun hc21_4 => ?_)
        ·
          refine g_iload_n C dX1_isWhole_118 rfl 3 rfl ?_
          refine g_nilA ?_
          exact g_iret C dX1_isWhole_119 (nr_b hib) (Nat.le_of_ble_eq_true rfl) (Nat.le_of_ble_eq_true rfl) ⟨_, rfl, by first | (rw [his, show k = f 6 by omega]) | (rw [show is_ = 0 by omega]; exact bW_x (by rw [← his]; omega) hk.2)⟩
        ·
          refine g_aload_n C dX1_isWhole_24 rfl 0 rfl ?_
          refine g_aload_n C dX1_isWhole_25 rfl 1 rfl ?_
          refine g_iload C dX1_isWhole_26 4 rfl ?_
          refine g_null C dX1_isWhole_28 ?_
          refine kX1_times0 h f g N M pq pz pv V k C hF hS hnp hN6 hpt hPV (by omega) ⟨Nat.le_of_ble_eq_true rfl, Nat.le_of_ble_eq_true rfl⟩ (Nat.le_of_ble_eq_true rfl) ⟨Nat.le_of_ble_eq_true rfl, Nat.le_of_ble_eq_true rfl⟩ (rv := fgo (f 6) (g 24) (g 25) (g 26) (f 0) (f 1) (g 5) (pz 0) (pv 0) (pz 5) k) rfl Sb.rf dX1_isWhole_29 ?_
          have hgr := fgo_rg (np := f 6) (pf := g 24) (ps := g 25) (pk := g 26) (F := f 0) (S := f 1) (kd := g 5) (b := pz 0) (mv := pv 0) (k := pz 5) (j := k) hn0.1
          refine g_istore C dX1_isWhole_32 (lv' := [(0, .ref (h 0)), (1, .ref (pq 0)), (2, .int (iI cl)), (3, .int (iI is_)), (4, .int (iI k)), (5, .int (iI (fgo (f 6) (g 24) (g 25) (g 26) (f 0) (f 1) (g 5) (pz 0) (pv 0) (pz 5) k)))]) [1, 2, 3, 4, 5, 0] rfl (Nat.le_of_ble_eq_true rfl) ?_
          have J5 : ∀ (nv : Int), (nv = bP (pz 1 = pz 0 ∧ ∀ j, 0 ≤ j → j < k + 1 → (cl = 0 → (g 27 j = 0 ∨ 0 < fgo (f 6) (g 24) (g 25) (g 26) (f 0) (f 1) (g 5) (pz 0) (pv 0) (pz 5) j)) ∧ (cl ≠ 0 → fgo (f 6) (g 24) (g 25) (g 26) (f 0) (f 1) (g 5) (pz 0) (pv 0) (pz 5) j = g 27 j))) → GO p l e (rmD 7 0 0) s mm args below meth c 6 D A (fun _ => True) 0 0 (MX below D A (pI fun z _ => z = bP (pz 1 = pz 0 ∧ ∀ j, 0 ≤ j → j < f 6 → (cl = 0 → (g 27 j = 0 ∨ 0 < fgo (f 6) (g 24) (g 25) (g 26) (f 0) (f 1) (g 5) (pz 0) (pv 0) (pz 5) j)) ∧ (cl ≠ 0 → fgo (f 6) (g 24) (g 25) (g 26) (f 0) (f 1) (g 5) (pz 0) (pv 0) (pz 5) j = g 27 j))) (xN) args s (0) (0)) (sW D h f g N M (ptW (M 6) (g 24) (g 25) (g 26) (g 27) (f 6) ++ (plC D pq pz pv ++ V))) 111 [(0, .ref (h 0)), (1, .ref (pq 0)), (2, .int (iI cl)), (3, .int (iI is_)), (4, .int (iI k)), (5, .int (iI (fgo (f 6) (g 24) (g 25) (g 26) (f 0) (f 1) (g 5) (pz 0) (pv 0) (pz 5) k)))] [.int (iI nv)] := by
            intro nv hnv
            refine g_istore_n C dX1_isWhole_111 rfl (lv' := [(0, .ref (h 0)), (1, .ref (pq 0)), (2, .int (iI cl)), (3, .int (iI nv)), (4, .int (iI k)), (5, .int (iI (fgo (f 6) (g 24) (g 25) (g 26) (f 0) (f 1) (g 5) (pz 0) (pv 0) (pz 5) k)))]) [1, 2, 3, 0, 4, 5] rfl (Nat.le_of_ble_eq_true rfl) ?_
            refine g_iinc C dX1_isWhole_112 4 rfl (lv' := [(0, .ref (h 0)), (1, .ref (pq 0)), (2, .int (iI cl)), (3, .int (iI nv)), (4, .int (iI (k + 1))), (5, .int (iI (fgo (f 6) (g 24) (g 25) (g 26) (f 0) (f 1) (g 5) (pz 0) (pv 0) (pz 5) k)))]) [1, 2, 3, 4, 0, 5] rfl (Nat.le_of_ble_eq_true rfl) ?_
            refine g_goto C (tgt := 8) dX1_isWhole_115 (by decide) ?_
            refine g_lv [0, 1, 2, 3, 4] rfl ?_
            exact ih2 (k + 1) nv (by omega) hnv (by omega)
          refine g_iload_n C dX1_isWhole_34 rfl 2 rfl ?_
          refine g_if_ne C (tgt := 69) dX1_isWhole_35 (by decide) (by omega) (fun hc35_6 => ?_) (fun hc35_6 => ?_)
          ·
            refine g_aload_n C dX1_isWhole_69 rfl 0 rfl ?_
            refine gs_get6 C dX1_isWhole_70 ?_
            refine g_iload C dX1_isWhole_73 4 rfl ?_
            refine kX1_lget (h 6) (h 21) (f 21) (N 6) (f 6) (M 6) k C (by omega) (show 0 ≤ (f 6) ∧ (f 6) ≤ ((N 6 : Nat) : Int) ∧ N 6 ≤ 3000 by omega) ⟨Nat.le_of_ble_eq_true rfl, Nat.le_of_ble_eq_true rfl⟩ (Nat.le_of_ble_eq_true rfl) ⟨Nat.le_of_ble_eq_true rfl, Nat.le_of_ble_eq_true rfl⟩ sb_l6 dX1_isWhole_75 ?_
            refine g_castE C q438 (pt_rcv (j := k) C (by omega)) dX1_isWhole_78 ?_
            refine gp_get3 C (j := k) (v := (g 27) k) (by omega) rfl dX1_isWhole_81 ?_
            have hf7 := hpt (k) (by omega) (by omega)
            refine g_if_eq C (tgt := 101) dX1_isWhole_84 (by decide) (by omega) (fun hc84_8 => ?_) (fun hc84_8 => ?_)
            ·
              refine g_iload C dX1_isWhole_101 5 rfl ?_
              refine g_if_ne C (tgt := 110) dX1_isWhole_103 (by decide) (by omega) (fun hc103_9 => ?_) (fun hc103_9 => ?_)
              ·
                refine g_iconst C dX1_isWhole_110 ?_
                exact J5 0 (bW_0 (P := fun j => (cl = 0 → (g 27 j = 0 ∨ 0 < fgo (f 6) (g 24) (g 25) (g 26) (f 0) (f 1) (g 5) (pz 0) (pv 0) (pz 5) j)) ∧ (cl ≠ 0 → fgo (f 6) (g 24) (g 25) (g 26) (f 0) (f 1) (g 5) (pz 0) (pv 0) (pz 5) j = g 27 j)) hk.1 (fun q9 => by have q8 := q9.1; have q7 := q9.2; omega))
              ·
                refine g_iconst C dX1_isWhole_106 ?_
                refine g_goto C (tgt := 111) dX1_isWhole_107 (by decide) ?_
                exact J5 1 (bW_1 (P := fun j => (cl = 0 → (g 27 j = 0 ∨ 0 < fgo (f 6) (g 24) (g 25) (g 26) (f 0) (f 1) (g 5) (pz 0) (pv 0) (pz 5) j)) ∧ (cl ≠ 0 → fgo (f 6) (g 24) (g 25) (g 26) (f 0) (f 1) (g 5) (pz 0) (pv 0) (pz 5) j = g 27 j)) (by rw [← his]; omega) (show (cl = 0 → (g 27 k = 0 ∨ 0 < fgo (f 6) (g 24) (g 25) (g 26) (f 0) (f 1) (g 5) (pz 0) (pv 0) (pz 5) k)) ∧ (cl ≠ 0 → fgo (f 6) (g 24) (g 25) (g 26) (f 0) (f 1) (g 5) (pz 0) (pv 0) (pz 5) k = g 27 k) from ⟨fun q9 => by omega, fun q9 => by omega⟩))
            ·
              refine g_iload C dX1_isWhole_87 5 rfl ?_
              refine g_iconst C dX1_isWhole_89 ?_
              refine g_icmp_ne C (tgt := 97) dX1_isWhole_90 (by decide) (by omega) (by omega) (fun hc90_10 => ?_) (fun hc90_10 => ?_)
              ·
                refine g_iconst C dX1_isWhole_97 ?_
                refine g_goto C (tgt := 111) dX1_isWhole_98 (by decide) ?_
                exact J5 0 (bW_0 (P := fun j => (cl = 0 → (g 27 j = 0 ∨ 0 < fgo (f 6) (g 24) (g 25) (g 26) (f 0) (f 1) (g 5) (pz 0) (pv 0) (pz 5) j)) ∧ (cl ≠ 0 → fgo (f 6) (g 24) (g 25) (g 26) (f 0) (f 1) (g 5) (pz 0) (pv 0) (pz 5) j = g 27 j)) hk.1 (fun q9 => by have q8 := q9.1; have q7 := q9.2; omega))
              ·
                refine g_iconst C dX1_isWhole_93 ?_
                refine g_goto C (tgt := 111) dX1_isWhole_94 (by decide) ?_
                exact J5 1 (bW_1 (P := fun j => (cl = 0 → (g 27 j = 0 ∨ 0 < fgo (f 6) (g 24) (g 25) (g 26) (f 0) (f 1) (g 5) (pz 0) (pv 0) (pz 5) j)) ∧ (cl ≠ 0 → fgo (f 6) (g 24) (g 25) (g 26) (f 0) (f 1) (g 5) (pz 0) (pv 0) (pz 5) j = g 27 j)) (by rw [← his]; omega) (show (cl = 0 → (g 27 k = 0 ∨ 0 < fgo (f 6) (g 24) (g 25) (g 26) (f 0) (f 1) (g 5) (pz 0) (pv 0) (pz 5) k)) ∧ (cl ≠ 0 → fgo (f 6) (g 24) (g 25) (g 26) (f 0) (f 1) (g 5) (pz 0) (pv 0) (pz 5) k = g 27 k) from ⟨fun q9 => by omega, fun q9 => by omega⟩))
          ·
            refine g_iload C dX1_isWhole_38 5 rfl ?_
            refine g_if_gt C (tgt := 61) dX1_isWhole_40 (by decide) (by omega) (fun hc40_11 => ?_) (fun hc40_11 => ?_)
            ·
              refine g_iconst C dX1_isWhole_61 ?_
              refine g_goto C (tgt := 111) dX1_isWhole_62 (by decide) ?_
              exact J5 1 (bW_1 (P := fun j => (cl = 0 → (g 27 j = 0 ∨ 0 < fgo (f 6) (g 24) (g 25) (g 26) (f 0) (f 1) (g 5) (pz 0) (pv 0) (pz 5) j)) ∧ (cl ≠ 0 → fgo (f 6) (g 24) (g 25) (g 26) (f 0) (f 1) (g 5) (pz 0) (pv 0) (pz 5) j = g 27 j)) (by rw [← his]; omega) (show (cl = 0 → (g 27 k = 0 ∨ 0 < fgo (f 6) (g 24) (g 25) (g 26) (f 0) (f 1) (g 5) (pz 0) (pv 0) (pz 5) k)) ∧ (cl ≠ 0 → fgo (f 6) (g 24) (g 25) (g 26) (f 0) (f 1) (g 5) (pz 0) (pv 0) (pz 5) k = g 27 k) from ⟨fun q9 => by omega, fun q9 => by omega⟩))
            ·
              refine g_aload_n C dX1_isWhole_43 rfl 0 rfl ?_
              refine gs_get6 C dX1_isWhole_44 ?_
              refine g_iload C dX1_isWhole_47 4 rfl ?_
              refine kX1_lget (h 6) (h 21) (f 21) (N 6) (f 6) (M 6) k C (by omega) (show 0 ≤ (f 6) ∧ (f 6) ≤ ((N 6 : Nat) : Int) ∧ N 6 ≤ 3000 by omega) ⟨Nat.le_of_ble_eq_true rfl, Nat.le_of_ble_eq_true rfl⟩ (Nat.le_of_ble_eq_true rfl) ⟨Nat.le_of_ble_eq_true rfl, Nat.le_of_ble_eq_true rfl⟩ sb_l6 dX1_isWhole_49 ?_
              refine g_castE C q438 (pt_rcv (j := k) C (by omega)) dX1_isWhole_52 ?_
              refine gp_get3 C (j := k) (v := (g 27) k) (by omega) rfl dX1_isWhole_55 ?_
              have hf12 := hpt (k) (by omega) (by omega)
              refine g_if_ne C (tgt := 65) dX1_isWhole_58 (by decide) (by omega) (fun hc58_13 => ?_) (fun hc58_13 => ?_)
              ·
                refine g_iconst C dX1_isWhole_65 ?_
                refine g_goto C (tgt := 111) dX1_isWhole_66 (by decide) ?_
                exact J5 0 (bW_0 (P := fun j => (cl = 0 → (g 27 j = 0 ∨ 0 < fgo (f 6) (g 24) (g 25) (g 26) (f 0) (f 1) (g 5) (pz 0) (pv 0) (pz 5) j)) ∧ (cl ≠ 0 → fgo (f 6) (g 24) (g 25) (g 26) (f 0) (f 1) (g 5) (pz 0) (pv 0) (pz 5) j = g 27 j)) hk.1 (fun q9 => by have q8 := q9.1; have q7 := q9.2; omega))
              ·
                refine g_iconst C dX1_isWhole_61 ?_
                refine g_goto C (tgt := 111) dX1_isWhole_62 (by decide) ?_
                exact J5 1 (bW_1 (P := fun j => (cl = 0 → (g 27 j = 0 ∨ 0 < fgo (f 6) (g 24) (g 25) (g 26) (f 0) (f 1) (g 5) (pz 0) (pv 0) (pz 5) j)) ∧ (cl ≠ 0 → fgo (f 6) (g 24) (g 25) (g 26) (f 0) (f 1) (g 5) (pz 0) (pv 0) (pz 5) j = g 27 j)) (by rw [← his]; omega) (show (cl = 0 → (g 27 k = 0 ∨ 0 < fgo (f 6) (g 24) (g 25) (g 26) (f 0) (f 1) (g 5) (pz 0) (pv 0) (pz 5) k)) ∧ (cl ≠ 0 → fgo (f 6) (g 24) (g 25) (g 26) (f 0) (f 1) (g 5) (pz 0) (pv 0) (pz 5) k = g 27 k) from ⟨fun q9 => by omega, fun q9 => by omega⟩))
  exact L2 _ 0 (bP (pz 1 = pz 0)) (by omega) (bW_i rfl) (Nat.lt_succ_self _)

section MK
variable {p : Program} {l : Launch} {e : Env} {R : Room} {s : State} {mm : MethodId} {args : Array Value} {below : List Frame} {meth : Method} {c : Code} {cc : ByteArray} {nL : Nat} {ret : Option FieldType} {D : va_G} {A B : Nat → Prop} {cells slots : Nat} {Q : State → Prop} {pc : Nat} {lv : List (Nat × Value)} {st : List Value}
theorem kX1_X1_isWhole {ws : va_W} (h : Nat → Nat) (f : Nat → Int) (g : Nat → Int → Int) (N : Nat → Nat) (M : Nat → Nat → Nat) (pq : Nat → Nat) (pz : Nat → Int) (pv : Nat → Int → Int) (V : va_W) (cl : Int) (C : CX p l s mm args meth c RX1 cc nL ret D A) (hF : 1 ≤ f 0 ∧ f 0 ≤ 5) (hS : 2 ≤ f 1 ∧ f 1 ≤ 6) (hnp : 0 ≤ f 6 ∧ f 6 ≤ 55) (hN6 : N 6 = 55) (hpt : ∀ j, 0 ≤ j → j < f 6 → (0 ≤ g 24 j ∧ g 24 j ≤ 4) ∧ (0 ≤ g 25 j ∧ g 25 j ≤ 5) ∧ (0 ≤ g 26 j ∧ g 26 j ≤ 2) ∧ (0 ≤ g 27 j ∧ g 27 j ≤ 1)) (hPV : PV f g pq pz pv) (hclr : 0 ≤ cl ∧ cl ≤ 1) (hR : 7 + 1 ≤ R.frames ∧ 8 + (6 + 11) + 64 * 7 ≤ R.locals) (hcat : (st.map fun v => v.category).sum ≤ 8) (hroom : cells ≤ R.cells ∧ slots ≤ R.slots) {rv : Int} (hr : bP (pz 1 = pz 0 ∧ ∀ j, 0 ≤ j → j < f 6 → (cl = 0 → (g 27 j = 0 ∨ 0 < fgo (f 6) (g 24) (g 25) (g 26) (f 0) (f 1) (g 5) (pz 0) (pv 0) (pz 5) j)) ∧ (cl ≠ 0 → fgo (f 6) (g 24) (g 25) (g 26) (f 0) (f 1) (g 5) (pz 0) (pv 0) (pz 5) j = g 27 j)) = rv) (hsb : Sb ws (sW D h f g N M (ptW (M 6) (g 24) (g 25) (g 26) (g 27) (f 6) ++ (plC D pq pz pv ++ V)))) (d : decode cc pc = .ok (.invokevirtual 234, 3)) (K : GO p l e R s mm args below meth c nL D A B cells slots Q (ws) (pc + 3) lv (.int (iI rv) :: st)) : GO p l e R s mm args below meth c nL D A B cells slots Q (ws) (pc) lv (.int (iI cl) :: .ref (pq 0) :: .ref (h 0) :: st) := by
  refine g_callVR C (c_X1_isWhole l D C.hl h f g N M pq pz pv V cl hF hS hnp hN6 hpt hPV hclr) (As := [.ref (pq 0), .int (iI cl)]) (n := 2) (lw_V q882 q884 qs19 q48 q885) (by decide +kernel) rfl rfl hR (rcvH C (Sb.tr hsb Sb.rf)) rfl rfl hcat ⟨hroom.1, hroom.2⟩ d hsb exT_b hex_t (fun v w hp => ?_) kx_n
  obtain ⟨z, rfl, rfl⟩ := hp
  rw [hr]
  exact K
end MK

set_option maxHeartbeats 4000000 in
set_option maxRecDepth 100000 in
theorem c_X1_ties (l : Launch) (D : va_G) (hst : l.stackTraces = false) (h : Nat → Nat) (f : Nat → Int) (g : Nat → Int → Int) (N : Nat → Nat) (M : Nat → Nat → Nat) (pq : Nat → Nat) (pz : Nat → Int) (pv : Nat → Int → Int) (V : va_W) (b : Int) (hF : 1 ≤ f 0 ∧ f 0 ≤ 5) (hS : 2 ≤ f 1 ∧ f 1 ≤ 6) (hPV : PV f g pq pz pv) (hbr : -10 ≤ b ∧ b ≤ 10) : CT l D yX1_ties (ws_ yX1_ties cX1_ties 6 (some .int)) (rmD 3 0 0) (0) (0) mdR [.ref (h 0), .ref (pq 0), .int (iI b)] (sW D h f g N M (ptW (M 6) (g 24) (g 25) (g 26) (g 27) (f 6) ++ (plC D pq pz pv ++ V))) exT (pI fun z _ => z = fti (f 0) (f 1) (g 5) (pz 0) (pv 0) (pz 5) b) (xN) := by
  refine ct_R (lv := [(0, .ref (h 0)), (1, .ref (pq 0)), (2, .int (iI b))]) RX1 (by decide) rfl rfl hst (Nat.le_of_ble_eq_true rfl) rfl ?_
  intro p e s mm args below meth c A C htab hex
  have hn0 := hPV.1.2.1
  have hcp := hPV.2.2.1
  refine g_iconst C dX1_ties_0 ?_
  refine g_istore_n C dX1_ties_1 rfl (lv' := [(0, .ref (h 0)), (1, .ref (pq 0)), (2, .int (iI b)), (3, .int (iI 0))]) [1, 2, 3, 0] rfl (Nat.le_of_ble_eq_true rfl) ?_
  refine g_iconst C dX1_ties_2 ?_
  refine g_istore C dX1_ties_3 (lv' := [(0, .ref (h 0)), (1, .ref (pq 0)), (2, .int (iI b)), (3, .int (iI 0)), (4, .int (iI 0))]) [1, 2, 3, 4, 0] rfl (Nat.le_of_ble_eq_true rfl) ?_
  have L1 : ∀ (n : Nat) (k : Int) (nn : Int), (0 ≤ k ∧ k ≤ pz 5) → (nn = fti (f 0) (f 1) (g 5) (pz 0) (pv 0) k b) → (pz 5 - k).toNat < n → GO p l e (rmD 3 0 0) s mm args below meth c 6 D A (fun _ => True) 0 0 (MX below D A (pI fun z _ => z = fti (f 0) (f 1) (g 5) (pz 0) (pv 0) (pz 5) b) (xN) args s (0) (0)) (sW D h f g N M (ptW (M 6) (g 24) (g 25) (g 26) (g 27) (f 6) ++ (plC D pq pz pv ++ V))) 5 [(0, .ref (h 0)), (1, .ref (pq 0)), (2, .int (iI b)), (3, .int (iI nn)), (4, .int (iI k))] [] := by
    intro n
    induction n with
    | zero => intro k nn hk hn hm; exact absurd hm (Nat.not_lt_zero _)
    | succ n ih1 =>
      intro k nn hk hn hm1
      refine g_iload C dX1_ties_5 4 rfl ?_
      refine g_aload_n C dX1_ties_7 rfl 1 rfl ?_
      refine gl_get3 C sb_pl dX1_ties_8 ?_
      refine kX1_lsize (pq 1) (pq 2) (pz 3) (pq 5) (pz 5) (bxA D (pv 0)) C ⟨Nat.le_of_ble_eq_true rfl, Nat.le_of_ble_eq_true rfl⟩ (Nat.le_of_ble_eq_true rfl) ⟨Nat.le_of_ble_eq_true rfl, Nat.le_of_ble_eq_true rfl⟩ (rv := pz 5) rfl sb_pm dX1_ties_11 ?_
      refine g_icmp_ge C (tgt := 100) dX1_ties_14 (by decide) (by omega) (by omega) (fun hc14_2 => ?_) (fun hc14_2 => ?_)
      ·
        refine g_iload_n C dX1_ties_100 rfl 3 rfl ?_
        refine g_nilA ?_
        exact g_iret C dX1_ties_101 rfl (Nat.le_of_ble_eq_true rfl) (Nat.le_of_ble_eq_true rfl) ⟨_, rfl, by rw [hn, show k = pz 5 by omega]⟩
      ·
        have hk8 := hPV.1.2.2 k hk.1 (by omega)
        have hpp := hPV.2.1 k hk.1 (by omega)
        have hpi := hPV.1.at hF hS (k := k) hk.1 (by omega)
        rw [← hpp] at hpi hk8
        unfold PIn at hpi
        refine g_aload_n C dX1_ties_17 rfl 1 rfl ?_
        refine gl_get4 C sb_pl dX1_ties_18 ?_
        refine g_iload C dX1_ties_21 4 rfl ?_
        refine kX1_lget (pq 3) (pq 4) (pz 4) (pq 6) (pz 5) (bxA D (pv 1)) k C (by omega) (by omega) ⟨Nat.le_of_ble_eq_true rfl, Nat.le_of_ble_eq_true rfl⟩ (Nat.le_of_ble_eq_true rfl) ⟨Nat.le_of_ble_eq_true rfl, Nat.le_of_ble_eq_true rfl⟩ sb_pp dX1_ties_23 ?_
        rw [bx_at (show 0 ≤ k by omega)]
        refine g_castE C q890 (rcvB C (show (pv 1 k + 128).toNat < 256 by omega)) dX1_ties_26 ?_
        refine kX1_iintV (pv 1 k) C (by omega) ⟨Nat.le_of_ble_eq_true rfl, Nat.le_of_ble_eq_true rfl⟩ (Nat.le_of_ble_eq_true rfl) ⟨Nat.le_of_ble_eq_true rfl, Nat.le_of_ble_eq_true rfl⟩ (rv := pv 1 k) rfl dX1_ties_29 ?_
        refine kX1_X1_fold (pv 1 k) C (by omega) ⟨Nat.le_of_ble_eq_true rfl, Nat.le_of_ble_eq_true rfl⟩ (Nat.le_of_ble_eq_true rfl) ⟨Nat.le_of_ble_eq_true rfl, Nat.le_of_ble_eq_true rfl⟩ (rv := (pv 1 k) / 2 / 6) rfl dX1_ties_32 ?_
        refine g_istore C dX1_ties_35 (lv' := [(0, .ref (h 0)), (1, .ref (pq 0)), (2, .int (iI b)), (3, .int (iI nn)), (4, .int (iI k)), (5, .int (iI ((pv 1 k) / 2 / 6)))]) [1, 2, 3, 4, 5, 0] rfl (Nat.le_of_ble_eq_true rfl) ?_
        refine g_aload_n C dX1_ties_37 rfl 1 rfl ?_
        refine gl_get3 C sb_pl dX1_ties_38 ?_
        refine g_iload C dX1_ties_41 4 rfl ?_
        refine kX1_lget (pq 1) (pq 2) (pz 3) (pq 5) (pz 5) (bxA D (pv 0)) k C (by omega) (by omega) ⟨Nat.le_of_ble_eq_true rfl, Nat.le_of_ble_eq_true rfl⟩ (Nat.le_of_ble_eq_true rfl) ⟨Nat.le_of_ble_eq_true rfl, Nat.le_of_ble_eq_true rfl⟩ sb_pm dX1_ties_43 ?_
        rw [bx_at (show 0 ≤ k by omega)]
        refine g_castE C q890 (rcvB C (show (pv 0 k + 128).toNat < 256 by omega)) dX1_ties_46 ?_
        refine kX1_iintV (pv 0 k) C (by omega) ⟨Nat.le_of_ble_eq_true rfl, Nat.le_of_ble_eq_true rfl⟩ (Nat.le_of_ble_eq_true rfl) ⟨Nat.le_of_ble_eq_true rfl, Nat.le_of_ble_eq_true rfl⟩ (rv := pv 0 k) rfl dX1_ties_49 ?_
        refine g_bipush C dX1_ties_52 (z := 6) rfl ?_
        refine g_icmp_ne C (tgt := 63) dX1_ties_54 (by decide) (by omega) (by omega) (fun hc54_3 => ?_) (fun hc54_3 => ?_)
        ·
          refine g_aload_n C dX1_ties_63 rfl 1 rfl ?_
          refine gl_get3 C sb_pl dX1_ties_64 ?_
          refine g_iload C dX1_ties_67 4 rfl ?_
          refine kX1_lget (pq 1) (pq 2) (pz 3) (pq 5) (pz 5) (bxA D (pv 0)) k C (by omega) (by omega) ⟨Nat.le_of_ble_eq_true rfl, Nat.le_of_ble_eq_true rfl⟩ (Nat.le_of_ble_eq_true rfl) ⟨Nat.le_of_ble_eq_true rfl, Nat.le_of_ble_eq_true rfl⟩ sb_pm dX1_ties_69 ?_
          rw [bx_at (show 0 ≤ k by omega)]
          refine g_castE C q890 (rcvB C (show (pv 0 k + 128).toNat < 256 by omega)) dX1_ties_72 ?_
          refine kX1_iintV (pv 0 k) C (by omega) ⟨Nat.le_of_ble_eq_true rfl, Nat.le_of_ble_eq_true rfl⟩ (Nat.le_of_ble_eq_true rfl) ⟨Nat.le_of_ble_eq_true rfl, Nat.le_of_ble_eq_true rfl⟩ (rv := pv 0 k) rfl dX1_ties_75 ?_
          refine g_bipush C dX1_ties_78 (z := 7) rfl ?_
          refine g_icmp_ne C (tgt := 94) dX1_ties_80 (by decide) (by omega) (by omega) (fun hc80_4 => ?_) (fun hc80_4 => ?_)
          ·
            refine g_iinc C dX1_ties_94 4 rfl (lv' := [(0, .ref (h 0)), (1, .ref (pq 0)), (2, .int (iI b)), (3, .int (iI nn)), (4, .int (iI (k + 1))), (5, .int (iI ((pv 1 k) / 2 / 6)))]) [1, 2, 3, 4, 0, 5] rfl (Nat.le_of_ble_eq_true rfl) ?_
            refine g_goto C (tgt := 5) dX1_ties_97 (by decide) ?_
            refine g_lv [0, 1, 2, 3, 4] rfl ?_
            exact ih1 (k + 1) nn (by omega) (by rw [fti_s hk.1, ← hpp, bI_dn (by omega), hn]; omega) (by omega)
          ·
            refine g_iload C dX1_ties_83 5 rfl ?_
            refine g_iload_n C dX1_ties_85 rfl 2 rfl ?_
            refine g_iconst C dX1_ties_86 ?_
            refine g_iadd C dX1_ties_87 ?_
            refine g_icmp_ne C (tgt := 94) dX1_ties_88 (by decide) (by omega) (by omega) (fun hc88_5 => ?_) (fun hc88_5 => ?_)
            ·
              refine g_iinc C dX1_ties_94 4 rfl (lv' := [(0, .ref (h 0)), (1, .ref (pq 0)), (2, .int (iI b)), (3, .int (iI nn)), (4, .int (iI (k + 1))), (5, .int (iI ((pv 1 k) / 2 / 6)))]) [1, 2, 3, 4, 0, 5] rfl (Nat.le_of_ble_eq_true rfl) ?_
              refine g_goto C (tgt := 5) dX1_ties_97 (by decide) ?_
              refine g_lv [0, 1, 2, 3, 4] rfl ?_
              exact ih1 (k + 1) nn (by omega) (by rw [fti_s hk.1, ← hpp, bI_dn (by omega), hn]; omega) (by omega)
            ·
              refine g_iinc C dX1_ties_91 3 rfl (lv' := [(0, .ref (h 0)), (1, .ref (pq 0)), (2, .int (iI b)), (3, .int (iI (nn + 1))), (4, .int (iI k)), (5, .int (iI ((pv 1 k) / 2 / 6)))]) [1, 2, 3, 0, 4, 5] rfl (Nat.le_of_ble_eq_true rfl) ?_
              refine g_iinc C dX1_ties_94 4 rfl (lv' := [(0, .ref (h 0)), (1, .ref (pq 0)), (2, .int (iI b)), (3, .int (iI (nn + 1))), (4, .int (iI (k + 1))), (5, .int (iI ((pv 1 k) / 2 / 6)))]) [1, 2, 3, 4, 0, 5] rfl (Nat.le_of_ble_eq_true rfl) ?_
              refine g_goto C (tgt := 5) dX1_ties_97 (by decide) ?_
              refine g_lv [0, 1, 2, 3, 4] rfl ?_
              exact ih1 (k + 1) (nn + 1) (by omega) (by rw [fti_s hk.1, ← hpp, bI_d (by omega), hn]) (by omega)
        ·
          refine g_iload C dX1_ties_57 5 rfl ?_
          refine g_iload_n C dX1_ties_59 rfl 2 rfl ?_
          refine g_icmp_eq C (tgt := 91) dX1_ties_60 (by decide) (by omega) (by omega) (fun hc60_6 => ?_) (fun hc60_6 => ?_)
          ·
            refine g_iinc C dX1_ties_91 3 rfl (lv' := [(0, .ref (h 0)), (1, .ref (pq 0)), (2, .int (iI b)), (3, .int (iI (nn + 1))), (4, .int (iI k)), (5, .int (iI ((pv 1 k) / 2 / 6)))]) [1, 2, 3, 0, 4, 5] rfl (Nat.le_of_ble_eq_true rfl) ?_
            refine g_iinc C dX1_ties_94 4 rfl (lv' := [(0, .ref (h 0)), (1, .ref (pq 0)), (2, .int (iI b)), (3, .int (iI (nn + 1))), (4, .int (iI (k + 1))), (5, .int (iI ((pv 1 k) / 2 / 6)))]) [1, 2, 3, 4, 0, 5] rfl (Nat.le_of_ble_eq_true rfl) ?_
            refine g_goto C (tgt := 5) dX1_ties_97 (by decide) ?_
            refine g_lv [0, 1, 2, 3, 4] rfl ?_
            exact ih1 (k + 1) (nn + 1) (by omega) (by rw [fti_s hk.1, ← hpp, bI_d (by omega), hn]) (by omega)
          ·
            refine g_aload_n C dX1_ties_63 rfl 1 rfl ?_
            refine gl_get3 C sb_pl dX1_ties_64 ?_
            refine g_iload C dX1_ties_67 4 rfl ?_
            refine kX1_lget (pq 1) (pq 2) (pz 3) (pq 5) (pz 5) (bxA D (pv 0)) k C (by omega) (by omega) ⟨Nat.le_of_ble_eq_true rfl, Nat.le_of_ble_eq_true rfl⟩ (Nat.le_of_ble_eq_true rfl) ⟨Nat.le_of_ble_eq_true rfl, Nat.le_of_ble_eq_true rfl⟩ sb_pm dX1_ties_69 ?_
            rw [bx_at (show 0 ≤ k by omega)]
            refine g_castE C q890 (rcvB C (show (pv 0 k + 128).toNat < 256 by omega)) dX1_ties_72 ?_
            refine kX1_iintV (pv 0 k) C (by omega) ⟨Nat.le_of_ble_eq_true rfl, Nat.le_of_ble_eq_true rfl⟩ (Nat.le_of_ble_eq_true rfl) ⟨Nat.le_of_ble_eq_true rfl, Nat.le_of_ble_eq_true rfl⟩ (rv := pv 0 k) rfl dX1_ties_75 ?_
            refine g_bipush C dX1_ties_78 (z := 7) rfl ?_
            refine g_icmp_ne C (tgt := 94) dX1_ties_80 (by decide) (by omega) (by omega) (fun hc80_7 => ?_) (fun hc80_7 => ?_)
            ·
              refine g_iinc C dX1_ties_94 4 rfl (lv' := [(0, .ref (h 0)), (1, .ref (pq 0)), (2, .int (iI b)), (3, .int (iI nn)), (4, .int (iI (k + 1))), (5, .int (iI ((pv 1 k) / 2 / 6)))]) [1, 2, 3, 4, 0, 5] rfl (Nat.le_of_ble_eq_true rfl) ?_
              refine g_goto C (tgt := 5) dX1_ties_97 (by decide) ?_
              refine g_lv [0, 1, 2, 3, 4] rfl ?_
              exact ih1 (k + 1) nn (by omega) (by rw [fti_s hk.1, ← hpp, bI_dn (by omega), hn]; omega) (by omega)
            ·
              refine g_iload C dX1_ties_83 5 rfl ?_
              refine g_iload_n C dX1_ties_85 rfl 2 rfl ?_
              refine g_iconst C dX1_ties_86 ?_
              refine g_iadd C dX1_ties_87 ?_
              refine g_icmp_ne C (tgt := 94) dX1_ties_88 (by decide) (by omega) (by omega) (fun hc88_8 => ?_) (fun hc88_8 => ?_)
              ·
                refine g_iinc C dX1_ties_94 4 rfl (lv' := [(0, .ref (h 0)), (1, .ref (pq 0)), (2, .int (iI b)), (3, .int (iI nn)), (4, .int (iI (k + 1))), (5, .int (iI ((pv 1 k) / 2 / 6)))]) [1, 2, 3, 4, 0, 5] rfl (Nat.le_of_ble_eq_true rfl) ?_
                refine g_goto C (tgt := 5) dX1_ties_97 (by decide) ?_
                refine g_lv [0, 1, 2, 3, 4] rfl ?_
                exact ih1 (k + 1) nn (by omega) (by rw [fti_s hk.1, ← hpp, bI_dn (by omega), hn]; omega) (by omega)
              ·
                refine g_iinc C dX1_ties_91 3 rfl (lv' := [(0, .ref (h 0)), (1, .ref (pq 0)), (2, .int (iI b)), (3, .int (iI (nn + 1))), (4, .int (iI k)), (5, .int (iI ((pv 1 k) / 2 / 6)))]) [1, 2, 3, 0, 4, 5] rfl (Nat.le_of_ble_eq_true rfl) ?_
                refine g_iinc C dX1_ties_94 4 rfl (lv' := [(0, .ref (h 0)), (1, .ref (pq 0)), (2, .int (iI b)), (3, .int (iI (nn + 1))), (4, .int (iI (k + 1))), (5, .int (iI ((pv 1 k) / 2 / 6)))]) [1, 2, 3, 4, 0, 5] rfl (Nat.le_of_ble_eq_true rfl) ?_
                refine g_goto C (tgt := 5) dX1_ties_97 (by decide) ?_
                refine g_lv [0, 1, 2, 3, 4] rfl ?_
                exact ih1 (k + 1) (nn + 1) (by omega) (by rw [fti_s hk.1, ← hpp, bI_d (by omega), hn]) (by omega)
  exact L1 _ 0 0 (by omega) rfl (Nat.lt_succ_self _)

section MK
variable {p : Program} {l : Launch} {e : Env} {R : Room} {s : State} {mm : MethodId} {args : Array Value} {below : List Frame} {meth : Method} {c : Code} {cc : ByteArray} {nL : Nat} {ret : Option FieldType} {D : va_G} {A B : Nat → Prop} {cells slots : Nat} {Q : State → Prop} {pc : Nat} {lv : List (Nat × Value)} {st : List Value}
theorem kX1_X1_ties {ws : va_W} (h : Nat → Nat) (f : Nat → Int) (g : Nat → Int → Int) (N : Nat → Nat) (M : Nat → Nat → Nat) (pq : Nat → Nat) (pz : Nat → Int) (pv : Nat → Int → Int) (V : va_W) (b : Int) (C : CX p l s mm args meth c RX1 cc nL ret D A) (hF : 1 ≤ f 0 ∧ f 0 ≤ 5) (hS : 2 ≤ f 1 ∧ f 1 ≤ 6) (hPV : PV f g pq pz pv) (hbr : -10 ≤ b ∧ b ≤ 10) (hR : 3 + 1 ≤ R.frames ∧ 8 + (6 + 11) + 64 * 3 ≤ R.locals) (hcat : (st.map fun v => v.category).sum ≤ 8) (hroom : cells ≤ R.cells ∧ slots ≤ R.slots) {rv : Int} (hr : fti (f 0) (f 1) (g 5) (pz 0) (pv 0) (pz 5) b = rv) (hsb : Sb ws (sW D h f g N M (ptW (M 6) (g 24) (g 25) (g 26) (g 27) (f 6) ++ (plC D pq pz pv ++ V)))) (d : decode cc pc = .ok (.invokevirtual 226, 3)) (K : GO p l e R s mm args below meth c nL D A B cells slots Q (ws) (pc + 3) lv (.int (iI rv) :: st)) : GO p l e R s mm args below meth c nL D A B cells slots Q (ws) (pc) lv (.int (iI b) :: .ref (pq 0) :: .ref (h 0) :: st) := by
  refine g_callVR C (c_X1_ties l D C.hl h f g N M pq pz pv V b hF hS hPV hbr) (As := [.ref (pq 0), .int (iI b)]) (n := 2) (lw_V q899 q901 qs22 q48 q902) (by decide +kernel) rfl rfl hR (rcvH C (Sb.tr hsb Sb.rf)) rfl rfl hcat ⟨hroom.1, hroom.2⟩ d hsb exT_b hex_t (fun v w hp => ?_) kx_n
  obtain ⟨z, rfl, rfl⟩ := hp
  rw [hr]
  exact K
end MK

set_option maxHeartbeats 4000000 in
set_option maxRecDepth 100000 in
theorem c_X1_isHeld (l : Launch) (D : va_G) (hst : l.stackTraces = false) (h : Nat → Nat) (f : Nat → Int) (g : Nat → Int → Int) (N : Nat → Nat) (M : Nat → Nat → Nat) (pq : Nat → Nat) (pz : Nat → Int) (pv : Nat → Int → Int) (V : va_W) (hF : 1 ≤ f 0 ∧ f 0 ≤ 5) (hS : 2 ≤ f 1 ∧ f 1 ≤ 6) (hPV : PV f g pq pz pv) : CT l D yX1_isHeld (ws_ yX1_isHeld cX1_isHeld 4 (some .boolean)) (rmD 4 0 0) (0) (0) mdR [.ref (h 0), .ref (pq 0)] (sW D h f g N M (ptW (M 6) (g 24) (g 25) (g 26) (g 27) (f 6) ++ (plC D pq pz pv ++ V))) exT (pI fun z _ => z = bP (∀ j, 0 ≤ j → j < f 0 - 1 → 2 ≤ fti (f 0) (f 1) (g 5) (pz 0) (pv 0) (pz 5) j)) (xN) := by
  refine ct_R (lv := [(0, .ref (h 0)), (1, .ref (pq 0))]) RX1 (by decide) rfl rfl hst (Nat.le_of_ble_eq_true rfl) rfl ?_
  intro p e s mm args below meth c A C htab hex
  have hn0 := hPV.1.2.1
  have hcp := hPV.2.2.1
  refine g_iconst C dX1_isHeld_0 ?_
  refine g_istore_n C dX1_isHeld_1 rfl (lv' := [(0, .ref (h 0)), (1, .ref (pq 0)), (2, .int (iI 1))]) [1, 2, 0] rfl (Nat.le_of_ble_eq_true rfl) ?_
  refine g_iconst C dX1_isHeld_2 ?_
  refine g_istore_n C dX1_isHeld_3 rfl (lv' := [(0, .ref (h 0)), (1, .ref (pq 0)), (2, .int (iI 1)), (3, .int (iI 0))]) [1, 2, 3, 0] rfl (Nat.le_of_ble_eq_true rfl) ?_
  have L1 : ∀ (n : Nat) (k : Int) (he : Int), (0 ≤ k ∧ k ≤ f 0 - 1) → (he = bP (∀ j, 0 ≤ j → j < k → 2 ≤ fti (f 0) (f 1) (g 5) (pz 0) (pv 0) (pz 5) j)) → (f 0 - k).toNat < n → GO p l e (rmD 4 0 0) s mm args below meth c 4 D A (fun _ => True) 0 0 (MX below D A (pI fun z _ => z = bP (∀ j, 0 ≤ j → j < f 0 - 1 → 2 ≤ fti (f 0) (f 1) (g 5) (pz 0) (pv 0) (pz 5) j)) (xN) args s (0) (0)) (sW D h f g N M (ptW (M 6) (g 24) (g 25) (g 26) (g 27) (f 6) ++ (plC D pq pz pv ++ V))) 4 [(0, .ref (h 0)), (1, .ref (pq 0)), (2, .int (iI he)), (3, .int (iI k))] [] := by
    intro n
    induction n with
    | zero => intro k he hk hhe hm; exact absurd hm (Nat.not_lt_zero _)
    | succ n ih1 =>
      intro k he hk hhe hm1
      have hhb : 0 ≤ he ∧ he ≤ 1 := by rw [hhe]; exact bP_rg _
      refine g_iload_n C dX1_isHeld_4 rfl 3 rfl ?_
      refine g_iconst C dX1_isHeld_5 ?_
      refine g_iadd C dX1_isHeld_6 ?_
      refine g_aload_n C dX1_isHeld_7 rfl 0 rfl ?_
      refine gs_get0 C (v := f 0) rfl dX1_isHeld_8 ?_
      refine g_icmp_ge C (tgt := 40) dX1_isHeld_11 (by decide) (by omega) (by omega) (fun hc11_2 => ?_) (fun hc11_2 => ?_)
      ·
        refine g_iload_n C dX1_isHeld_40 rfl 2 rfl ?_
        refine g_nilA ?_
        exact g_iret C dX1_isHeld_41 (nr_b hhb) (Nat.le_of_ble_eq_true rfl) (Nat.le_of_ble_eq_true rfl) ⟨_, rfl, by rw [hhe, show k = f 0 - 1 by omega]⟩
      ·
        have J3 : ∀ (bv : Int), (bv = bP (∀ j, 0 ≤ j → j < k + 1 → 2 ≤ fti (f 0) (f 1) (g 5) (pz 0) (pv 0) (pz 5) j)) → GO p l e (rmD 4 0 0) s mm args below meth c 4 D A (fun _ => True) 0 0 (MX below D A (pI fun z _ => z = bP (∀ j, 0 ≤ j → j < f 0 - 1 → 2 ≤ fti (f 0) (f 1) (g 5) (pz 0) (pv 0) (pz 5) j)) (xN) args s (0) (0)) (sW D h f g N M (ptW (M 6) (g 24) (g 25) (g 26) (g 27) (f 6) ++ (plC D pq pz pv ++ V))) 33 [(0, .ref (h 0)), (1, .ref (pq 0)), (2, .int (iI he)), (3, .int (iI k))] [.int (iI bv)] := by
          intro bv hbv
          refine g_istore_n C dX1_isHeld_33 rfl (lv' := [(0, .ref (h 0)), (1, .ref (pq 0)), (2, .int (iI bv)), (3, .int (iI k))]) [1, 2, 0, 3] rfl (Nat.le_of_ble_eq_true rfl) ?_
          refine g_iinc C dX1_isHeld_34 3 rfl (lv' := [(0, .ref (h 0)), (1, .ref (pq 0)), (2, .int (iI bv)), (3, .int (iI (k + 1)))]) [1, 2, 3, 0] rfl (Nat.le_of_ble_eq_true rfl) ?_
          refine g_goto C (tgt := 4) dX1_isHeld_37 (by decide) ?_
          exact ih1 (k + 1) bv (by omega) hbv (by omega)
        refine g_iload_n C dX1_isHeld_14 rfl 2 rfl ?_
        refine g_if_eq C (tgt := 32) dX1_isHeld_15 (by decide) (by omega) (fun hc15_4 => ?_) (fun hc15_4 => ?_)
        ·
          refine g_iconst C dX1_isHeld_32 ?_
          exact J3 0 (by first | exact bA_0 (by rw [← hhe]; omega) | exact bA_1 hk.1 (show ¬ (2 ≤ fti (f 0) (f 1) (g 5) (pz 0) (pv 0) (pz 5) k) by omega))
        ·
          refine g_aload_n C dX1_isHeld_18 rfl 0 rfl ?_
          refine g_aload_n C dX1_isHeld_19 rfl 1 rfl ?_
          refine g_iload_n C dX1_isHeld_20 rfl 3 rfl ?_
          refine kX1_X1_ties h f g N M pq pz pv V k C hF hS hPV (by omega) ⟨Nat.le_of_ble_eq_true rfl, Nat.le_of_ble_eq_true rfl⟩ (Nat.le_of_ble_eq_true rfl) ⟨Nat.le_of_ble_eq_true rfl, Nat.le_of_ble_eq_true rfl⟩ (rv := fti (f 0) (f 1) (g 5) (pz 0) (pv 0) (pz 5) k) rfl Sb.rf dX1_isHeld_21 ?_
          have htr := fti_rg (F := f 0) (S := f 1) (kd := g 5) (b := pz 0) (mv := pv 0) (k := pz 5) (j := k) hn0.1
          refine g_iconst C dX1_isHeld_24 ?_
          refine g_icmp_lt C (tgt := 32) dX1_isHeld_25 (by decide) (by omega) (by omega) (fun hc25_5 => ?_) (fun hc25_5 => ?_)
          ·
            refine g_iconst C dX1_isHeld_32 ?_
            exact J3 0 (by first | exact bA_0 (by rw [← hhe]; omega) | exact bA_1 hk.1 (show ¬ (2 ≤ fti (f 0) (f 1) (g 5) (pz 0) (pv 0) (pz 5) k) by omega))
          ·
            refine g_iconst C dX1_isHeld_28 ?_
            refine g_goto C (tgt := 33) dX1_isHeld_29 (by decide) ?_
            exact J3 1 (bA_t (by rw [← hhe]; omega) (show 2 ≤ fti (f 0) (f 1) (g 5) (pz 0) (pv 0) (pz 5) k by omega))
  exact L1 _ 0 1 (by omega) bA_i (Nat.lt_succ_self _)

section MK
variable {p : Program} {l : Launch} {e : Env} {R : Room} {s : State} {mm : MethodId} {args : Array Value} {below : List Frame} {meth : Method} {c : Code} {cc : ByteArray} {nL : Nat} {ret : Option FieldType} {D : va_G} {A B : Nat → Prop} {cells slots : Nat} {Q : State → Prop} {pc : Nat} {lv : List (Nat × Value)} {st : List Value}
theorem kX1_X1_isHeld {ws : va_W} (h : Nat → Nat) (f : Nat → Int) (g : Nat → Int → Int) (N : Nat → Nat) (M : Nat → Nat → Nat) (pq : Nat → Nat) (pz : Nat → Int) (pv : Nat → Int → Int) (V : va_W) (C : CX p l s mm args meth c RX1 cc nL ret D A) (hF : 1 ≤ f 0 ∧ f 0 ≤ 5) (hS : 2 ≤ f 1 ∧ f 1 ≤ 6) (hPV : PV f g pq pz pv) (hR : 4 + 1 ≤ R.frames ∧ 8 + (4 + 11) + 64 * 4 ≤ R.locals) (hcat : (st.map fun v => v.category).sum ≤ 8) (hroom : cells ≤ R.cells ∧ slots ≤ R.slots) {rv : Int} (hr : bP (∀ j, 0 ≤ j → j < f 0 - 1 → 2 ≤ fti (f 0) (f 1) (g 5) (pz 0) (pv 0) (pz 5) j) = rv) (hsb : Sb ws (sW D h f g N M (ptW (M 6) (g 24) (g 25) (g 26) (g 27) (f 6) ++ (plC D pq pz pv ++ V)))) (d : decode cc pc = .ok (.invokevirtual 238, 3)) (K : GO p l e R s mm args below meth c nL D A B cells slots Q (ws) (pc + 3) lv (.int (iI rv) :: st)) : GO p l e R s mm args below meth c nL D A B cells slots Q (ws) (pc) lv (.ref (pq 0) :: .ref (h 0) :: st) := by
  refine g_callVR C (c_X1_isHeld l D C.hl h f g N M pq pz pv V hF hS hPV) (As := [.ref (pq 0)]) (n := 1) (lw_V q895 q897 qs21 q48 q898) (by decide +kernel) rfl rfl hR (rcvH C (Sb.tr hsb Sb.rf)) rfl rfl hcat ⟨hroom.1, hroom.2⟩ d hsb exT_b hex_t (fun v w hp => ?_) kx_n
  obtain ⟨z, rfl, rfl⟩ := hp
  rw [hr]
  exact K
end MK

end PL1
