/-! ===== JDK contracts: String.indexOf ===== -/
section JC7
theorem i8_c {c : Int} (h : 0 ≤ c ∧ c < 256) : i8 c = if c < 128 then c else c - 256 := by
  obtain ⟨n, rfl⟩ := Int.eq_ofNat_of_zero_le h.1
  have hn : n < 256 := by omega
  have key : ∀ n : Nat, n < 256 → i8 (n : Int) = if (n : Int) < 128 then (n : Int) else (n : Int) - 256 := by decide +kernel
  exact key n hn
theorem sgn_128 (k : Int) : 0 ≤ sgn k ∧ sgn k < 128 := by unfold sgn; omega
set_option maxHeartbeats 4000000 in
set_option maxRecDepth 100000 in
theorem c_canE (l : Launch) (D : va_G) (hst : l.stackTraces = false) (v : Int) (hc : 0 ≤ v ∧ v < 256) : CT l D yJ15_canEncode (ws_ yJ15_canEncode cJ15_canEncode 1 (some .boolean)) (rmD 0 0 0) (0) (0) mdR [.int (iI v)] ([]) exT (pI fun z _ => z = 1) (xN) := by
  refine ct_R (lv := [(0, .int (iI v))]) RJ15 (by decide) rfl rfl hst (Nat.le_of_ble_eq_true rfl) rfl ?_
  intro p e s mm args below meth c A C htab hex
  refine g_iload_n C dJ15_canEncode_0 rfl 0 rfl ?_
  refine g_if_lt C (tgt := 15) dJ15_canEncode_1 (by decide) (by omega) (fun hc1_1 => ?_) (fun hc1_1 => ?_)
  · exact absurd hc1_1 (by omega)
  ·
    refine g_iload_n C dJ15_canEncode_4 rfl 0 rfl ?_
    refine g_sipush C dJ15_canEncode_5 (z := 255) rfl ?_
    refine g_icmp_gt C (tgt := 15) dJ15_canEncode_8 (by decide) (by omega) (by omega) (fun hc8_2 => ?_) (fun hc8_2 => ?_)
    · exact absurd hc8_2 (by omega)
    ·
      refine g_iconst C dJ15_canEncode_11 ?_
      refine g_goto C (tgt := 16) dJ15_canEncode_12 (by decide) ?_
      refine g_nilA ?_
      exact g_iret C dJ15_canEncode_16 rfl (Nat.le_of_ble_eq_true rfl) (Nat.le_of_ble_eq_true rfl) ⟨_, rfl, rfl⟩

section MK
variable {p : Program} {l : Launch} {e : Env} {R : Room} {s : State} {mm : MethodId} {args : Array Value} {below : List Frame} {meth : Method} {c : Code} {cc : ByteArray} {nL : Nat} {ret : Option FieldType} {D : va_G} {A B : Nat → Prop} {cells slots : Nat} {Q : State → Prop} {pc : Nat} {lv : List (Nat × Value)} {st : List Value}
theorem kJ15_canE {ws : va_W} (v : Int) (C : CX p l s mm args meth c RJ15 cc nL ret D A) (hc : 0 ≤ v ∧ v < 256) (hR : 0 + 1 ≤ R.frames ∧ 8 + (1 + 11) + 64 * 0 ≤ R.locals) (hcat : (st.map fun v => v.category).sum ≤ 8) (hroom : cells ≤ R.cells ∧ slots ≤ R.slots) {rv : Int} (hr : 1 = rv) (d : decode cc pc = .ok (.invokestatic 88, 3)) (K : GO p l e R s mm args below meth c nL D A B cells slots Q (ws) (pc + 3) lv (.int (iI rv) :: st)) : GO p l e R s mm args below meth c nL D A B cells slots Q (ws) (pc) lv (.int (iI v) :: st) := by
  refine g_callSR C (c_canE l D C.hl v hc) (As := [.int (iI v)]) (n := 1) (lw_S q791 q792 q65 q793) (by decide +kernel) rfl rfl hR rfl rfl hcat ⟨hroom.1, hroom.2⟩ d Sb.nil exT_b hex_t (fun v w hp => ?_) kx_n
  obtain ⟨z, rfl, rfl⟩ := hp
  rw [hr]
  exact K
end MK

set_option maxHeartbeats 4000000 in
set_option maxRecDepth 100000 in
theorem c_sCoder (l : Launch) (D : va_G) (hst : l.stackTraces = false)   : CT l D yJ9_coder (ws_ yJ9_coder cJ9_coder 1 (some .byte)) (rmD 0 0 0) (0) (0) mdR [.ref (D.2 1001 1)] ([]) exT (pI fun z _ => z = 0) (xN) := by
  refine ct_R (lv := [(0, .ref (D.2 1001 1))]) RJ9 (by decide) rfl rfl hst (Nat.le_of_ble_eq_true rfl) rfl ?_
  intro p e s mm args below meth c A C htab hex
  refine g_gets C C.hG.2.2.2.2.2.2.2.1 q260 rfl dJ9_coder_0 ?_
  show GO p l e (rmD 0 0 0) s mm args below meth c 1 D A (fun _ => True) 0 0 (MX below D A (pI fun z _ => z = 0) (xN) args s (0) (0)) ([]) 3 [(0, .ref (D.2 1001 1))] [.int (iI 1)]
  refine g_if_eq C (tgt := 13) dJ9_coder_3 (by decide) (by omega) (fun hc3_1 => ?_) (fun hc3_1 => ?_)
  · exact absurd hc3_1 (by decide)
  ·
    refine g_aload_n C dJ9_coder_6 rfl 0 rfl ?_
    refine g_getf C ((C.hG.2.2.2.2.2.2.1).1 0 (by decide)).2.1 q402 rfl dJ9_coder_7 ?_
    show GO p l e (rmD 0 0 0) s mm args below meth c 1 D A (fun _ => True) 0 0 (MX below D A (pI fun z _ => z = 0) (xN) args s (0) (0)) ([]) 10 [(0, .ref (D.2 1001 1))] [.int (iI 0)]
    refine g_goto C (tgt := 14) dJ9_coder_10 (by decide) ?_
    refine g_nilA ?_
    exact g_iret C dJ9_coder_14 rfl (Nat.le_of_ble_eq_true rfl) (Nat.le_of_ble_eq_true rfl) ⟨_, rfl, rfl⟩

section MK
variable {p : Program} {l : Launch} {e : Env} {R : Room} {s : State} {mm : MethodId} {args : Array Value} {below : List Frame} {meth : Method} {c : Code} {cc : ByteArray} {nL : Nat} {ret : Option FieldType} {D : va_G} {A B : Nat → Prop} {cells slots : Nat} {Q : State → Prop} {pc : Nat} {lv : List (Nat × Value)} {st : List Value}
theorem kJ9_sCoder {ws : va_W}  (C : CX p l s mm args meth c RJ9 cc nL ret D A)  (hR : 0 + 1 ≤ R.frames ∧ 8 + (1 + 11) + 64 * 0 ≤ R.locals) (hcat : (st.map fun v => v.category).sum ≤ 8) (hroom : cells ≤ R.cells ∧ slots ≤ R.slots) {rv : Int} (hr : 0 = rv) (d : decode cc pc = .ok (.invokevirtual 335, 3)) (K : GO p l e R s mm args below meth c nL D A B cells slots Q (ws) (pc + 3) lv (.int (iI rv) :: st)) : GO p l e R s mm args below meth c nL D A B cells slots Q (ws) (pc) lv (.ref (D.2 1001 1) :: st) := by
  refine g_callVR C (c_sCoder l D C.hl  ) (As := []) (n := 0) (lw_V q256 q257 q258 q58 q259) (by decide +kernel) rfl rfl hR (rcvS C) rfl rfl hcat ⟨hroom.1, hroom.2⟩ d Sb.nil exT_b hex_t (fun v w hp => ?_) kx_n
  obtain ⟨z, rfl, rfl⟩ := hp
  rw [hr]
  exact K
end MK

set_option maxHeartbeats 4000000 in
set_option maxRecDepth 100000 in
theorem c_sLen (l : Launch) (D : va_G) (hst : l.stackTraces = false)   : CT l D yJ9_length (ws_ yJ9_length cJ9_length 1 (some .int)) (rmD 1 0 0) (0) (0) mdR [.ref (D.2 1001 1)] ([]) exT (pI fun z _ => z = 8) (xN) := by
  refine ct_R (lv := [(0, .ref (D.2 1001 1))]) RJ9 (by decide) rfl rfl hst (Nat.le_of_ble_eq_true rfl) rfl ?_
  intro p e s mm args below meth c A C htab hex
  refine g_aload_n C dJ9_length_0 rfl 0 rfl ?_
  refine g_getf C ((C.hG.2.2.2.2.2.2.1).1 0 (by decide)).2.2.1 q401 rfl dJ9_length_1 ?_
  refine g_tlen C ((C.hG.2.2.2.2.2.2.1).1 0 (by decide)).2.2.2 dJ9_length_4 ?_
  show GO p l e (rmD 1 0 0) s mm args below meth c 1 D A (fun _ => True) 0 0 (MX below D A (pI fun z _ => z = 8) (xN) args s (0) (0)) ([]) 5 [(0, .ref (D.2 1001 1))] [.int (iI 8)]
  refine g_aload_n C dJ9_length_5 rfl 0 rfl ?_
  refine kJ9_sCoder  C  ⟨Nat.le_of_ble_eq_true rfl, Nat.le_of_ble_eq_true rfl⟩ (Nat.le_of_ble_eq_true rfl) ⟨Nat.le_of_ble_eq_true rfl, Nat.le_of_ble_eq_true rfl⟩ (rv := 0) rfl dJ9_length_6 ?_
  refine g_ishr C dJ9_length_9 (z := 8) rfl ?_
  refine g_nilA ?_
  exact g_iret C dJ9_length_10 rfl (Nat.le_of_ble_eq_true rfl) (Nat.le_of_ble_eq_true rfl) ⟨_, rfl, rfl⟩

section MK
variable {p : Program} {l : Launch} {e : Env} {R : Room} {s : State} {mm : MethodId} {args : Array Value} {below : List Frame} {meth : Method} {c : Code} {cc : ByteArray} {nL : Nat} {ret : Option FieldType} {D : va_G} {A B : Nat → Prop} {cells slots : Nat} {Q : State → Prop} {pc : Nat} {lv : List (Nat × Value)} {st : List Value}
theorem kJ9_sLen {ws : va_W}  (C : CX p l s mm args meth c RJ9 cc nL ret D A)  (hR : 1 + 1 ≤ R.frames ∧ 8 + (1 + 11) + 64 * 1 ≤ R.locals) (hcat : (st.map fun v => v.category).sum ≤ 8) (hroom : cells ≤ R.cells ∧ slots ≤ R.slots) {rv : Int} (hr : 8 = rv) (d : decode cc pc = .ok (.invokevirtual 505, 3)) (K : GO p l e R s mm args below meth c nL D A B cells slots Q (ws) (pc + 3) lv (.int (iI rv) :: st)) : GO p l e R s mm args below meth c nL D A B cells slots Q (ws) (pc) lv (.ref (D.2 1001 1) :: st) := by
  refine g_callVR C (c_sLen l D C.hl  ) (As := []) (n := 0) (lw_V q787 q253 q254 q58 q255) (by decide +kernel) rfl rfl hR (rcvS C) rfl rfl hcat ⟨hroom.1, hroom.2⟩ d Sb.nil exT_b hex_t (fun v w hp => ?_) kx_n
  obtain ⟨z, rfl, rfl⟩ := hp
  rw [hr]
  exact K
end MK

set_option maxHeartbeats 4000000 in
set_option maxRecDepth 100000 in
theorem c_ixC (l : Launch) (D : va_G) (hst : l.stackTraces = false) (v : Int) (hc : 0 ≤ v ∧ v < 256) : CT l D yJ15_indexOfChar (ws_ yJ15_indexOfChar cJ15_indexOfChar 6 (some .int)) (rmD 0 0 0) (0) (0) mdR [.ref (D.2 1001 2), .int (iI v), .int (iI 0), .int (iI 8)] ([]) exT (pI fun z _ => z = sgf v) (xN) := by
  refine ct_R (lv := [(0, .ref (D.2 1001 2)), (1, .int (iI v)), (2, .int (iI 0)), (3, .int (iI 8))]) RJ15 (by decide) rfl rfl hst (Nat.le_of_ble_eq_true rfl) rfl ?_
  intro p e s mm args below meth c A C htab hex
  have hi8 := i8_c hc
  have hi8r := i8_rg v
  refine g_iload_n C dJ15_indexOfChar_0 rfl 1 rfl ?_
  refine g_i2b C (z := i8 v) dJ15_indexOfChar_1 (i8_eq v) ?_
  refine g_istore C dJ15_indexOfChar_2 (lv' := [(0, .ref (D.2 1001 2)), (1, .int (iI v)), (2, .int (iI 0)), (3, .int (iI 8)), (4, .int (iI (i8 v)))]) [1, 2, 3, 4, 0] rfl (Nat.le_of_ble_eq_true rfl) ?_
  refine g_iload_n C dJ15_indexOfChar_4 rfl 2 rfl ?_
  refine g_istore C dJ15_indexOfChar_5 (lv' := [(0, .ref (D.2 1001 2)), (1, .int (iI v)), (2, .int (iI 0)), (3, .int (iI 8)), (4, .int (iI (i8 v))), (5, .int (iI 0))]) [1, 2, 3, 4, 5, 0] rfl (Nat.le_of_ble_eq_true rfl) ?_
  have L1 : ∀ (n : Nat) (k : Int), (0 ≤ k ∧ k ≤ 8) → (∀ j, 0 ≤ j → j < k → sgn j ≠ v) → (8 - k).toNat < n → GO p l e (rmD 0 0 0) s mm args below meth c 6 D A (fun _ => True) 0 0 (MX below D A (pI fun z _ => z = sgf v) (xN) args s (0) (0)) ([]) 7 [(0, .ref (D.2 1001 2)), (1, .int (iI v)), (2, .int (iI 0)), (3, .int (iI 8)), (4, .int (iI (i8 v))), (5, .int (iI k))] [] := by
    intro n
    induction n with
    | zero => intro k hk hno hm; exact absurd hm (Nat.not_lt_zero _)
    | succ n ih1 =>
      intro k hk hno hm1
      have hsr := sgn_128 k
      refine g_iload C dJ15_indexOfChar_7 5 rfl ?_
      refine g_iload_n C dJ15_indexOfChar_9 rfl 3 rfl ?_
      refine g_icmp_ge C (tgt := 31) dJ15_indexOfChar_10 (by decide) (by omega) (by omega) (fun hc10_2 => ?_) (fun hc10_2 => ?_)
      ·
        refine g_iconst C dJ15_indexOfChar_31 ?_
        refine g_nilA ?_
        exact g_iret C dJ15_indexOfChar_32 rfl (Nat.le_of_ble_eq_true rfl) (Nat.le_of_ble_eq_true rfl) ⟨_, rfl, (sgf_no (fun j h0 h1 => hno j h0 (by omega))).symm⟩
      ·
        refine g_aload_n C dJ15_indexOfChar_13 rfl 0 rfl ?_
        refine g_iload C dJ15_indexOfChar_14 5 rfl ?_
        refine g_tb C ((C.hG.2.2.2.2.2.2.1).1 0 (by decide)).2.2.2 (i := k) (v := .int (iI (sgn k))) (show _ ∧ _ < ((8 : Nat) : Int) by omega) (by decide) (sgn_T (by omega)) dJ15_indexOfChar_16 ?_
        refine g_iload C dJ15_indexOfChar_17 4 rfl ?_
        refine g_icmp_ne C (tgt := 25) dJ15_indexOfChar_19 (by decide) (by omega) (by omega) (fun hc19_3 => ?_) (fun hc19_3 => ?_)
        ·
          refine g_iinc C dJ15_indexOfChar_25 5 rfl (lv' := [(0, .ref (D.2 1001 2)), (1, .int (iI v)), (2, .int (iI 0)), (3, .int (iI 8)), (4, .int (iI (i8 v))), (5, .int (iI (k + 1)))]) [1, 2, 3, 4, 5, 0] rfl (Nat.le_of_ble_eq_true rfl) ?_
          refine g_goto C (tgt := 7) dJ15_indexOfChar_28 (by decide) ?_
          exact ih1 (k + 1) (by omega) (fun j h0 h1 => by by_cases e9 : j = k; (subst e9; split at hi8 <;> omega); exact hno j h0 (by omega)) (by omega)
        ·
          refine g_iload C dJ15_indexOfChar_22 5 rfl ?_
          refine g_nilA ?_
          exact g_iret C dJ15_indexOfChar_24 rfl (Nat.le_of_ble_eq_true rfl) (Nat.le_of_ble_eq_true rfl) ⟨_, rfl, by rw [show v = sgn k by split at hi8 <;> omega, sgf_s ⟨by omega, by omega⟩]⟩
  exact L1 _ 0 (by omega) (fun j h0 h1 => absurd h1 (by omega)) (Nat.lt_succ_self _)

section MK
variable {p : Program} {l : Launch} {e : Env} {R : Room} {s : State} {mm : MethodId} {args : Array Value} {below : List Frame} {meth : Method} {c : Code} {cc : ByteArray} {nL : Nat} {ret : Option FieldType} {D : va_G} {A B : Nat → Prop} {cells slots : Nat} {Q : State → Prop} {pc : Nat} {lv : List (Nat × Value)} {st : List Value}
theorem kJ15_ixC {ws : va_W} (v : Int) (C : CX p l s mm args meth c RJ15 cc nL ret D A) (hc : 0 ≤ v ∧ v < 256) (hR : 0 + 1 ≤ R.frames ∧ 8 + (6 + 11) + 64 * 0 ≤ R.locals) (hcat : (st.map fun v => v.category).sum ≤ 8) (hroom : cells ≤ R.cells ∧ slots ≤ R.slots) {rv : Int} (hr : sgf v = rv) (d : decode cc pc = .ok (.invokestatic 95, 3)) (K : GO p l e R s mm args below meth c nL D A B cells slots Q (ws) (pc + 3) lv (.int (iI rv) :: st)) : GO p l e R s mm args below meth c nL D A B cells slots Q (ws) (pc) lv (.int (iI 8) :: .int (iI 0) :: .int (iI v) :: .ref (D.2 1001 2) :: st) := by
  refine g_callSR C (c_ixC l D C.hl v hc) (As := [.ref (D.2 1001 2), .int (iI v), .int (iI 0), .int (iI 8)]) (n := 4) (lw_S q796 q797 q65 q798) (by decide +kernel) rfl rfl hR rfl rfl hcat ⟨hroom.1, hroom.2⟩ d Sb.nil exT_b hex_t (fun v w hp => ?_) kx_n
  obtain ⟨z, rfl, rfl⟩ := hp
  rw [hr]
  exact K
end MK

set_option maxHeartbeats 4000000 in
set_option maxRecDepth 100000 in
theorem c_lIx (l : Launch) (D : va_G) (hst : l.stackTraces = false) (v : Int) (hc : 0 ≤ v ∧ v < 256) : CT l D yJ15_indexOf (ws_ yJ15_indexOf cJ15_indexOf 4 (some .int)) (rmD 1 0 0) (0) (0) mdR [.ref (D.2 1001 2), .int (iI v), .int (iI 0), .int (iI 8)] ([]) exT (pI fun z _ => z = sgf v) (xN) := by
  refine ct_R (lv := [(0, .ref (D.2 1001 2)), (1, .int (iI v)), (2, .int (iI 0)), (3, .int (iI 8))]) RJ15 (by decide) rfl rfl hst (Nat.le_of_ble_eq_true rfl) rfl ?_
  intro p e s mm args below meth c A C htab hex
  refine g_iload_n C dJ15_indexOf_0 rfl 1 rfl ?_
  refine kJ15_canE v C (by omega) ⟨Nat.le_of_ble_eq_true rfl, Nat.le_of_ble_eq_true rfl⟩ (Nat.le_of_ble_eq_true rfl) ⟨Nat.le_of_ble_eq_true rfl, Nat.le_of_ble_eq_true rfl⟩ (rv := 1) rfl dJ15_indexOf_1 ?_
  refine g_if_ne C (tgt := 9) dJ15_indexOf_4 (by decide) (by omega) (fun hc4_1 => ?_) (fun hc4_1 => ?_)
  ·
    refine g_iload_n C dJ15_indexOf_9 rfl 2 rfl ?_
    refine g_iconst C dJ15_indexOf_10 ?_
    refine g_mmax C (x := 0) (y := 0) (z := 0) q794 ⟨q198, q61, q199⟩ (by omega) (by omega) rfl (Nat.le_of_ble_eq_true rfl) (Nat.le_of_ble_eq_true rfl) ⟨Nat.le_of_ble_eq_true rfl, Nat.le_of_ble_eq_true rfl⟩ dJ15_indexOf_11 ?_
    refine g_istore_n C dJ15_indexOf_14 rfl (lv' := [(0, .ref (D.2 1001 2)), (1, .int (iI v)), (2, .int (iI 0)), (3, .int (iI 8))]) [1, 2, 0, 3] rfl (Nat.le_of_ble_eq_true rfl) ?_
    refine g_iload_n C dJ15_indexOf_15 rfl 3 rfl ?_
    refine g_aload_n C dJ15_indexOf_16 rfl 0 rfl ?_
    refine g_tlen C ((C.hG.2.2.2.2.2.2.1).1 0 (by decide)).2.2.2 dJ15_indexOf_17 ?_
    show GO p l e (rmD 1 0 0) s mm args below meth c 4 D A (fun _ => True) 0 0 (MX below D A (pI fun z _ => z = sgf v) (xN) args s (0) (0)) ([]) 18 [(0, .ref (D.2 1001 2)), (1, .int (iI v)), (2, .int (iI 0)), (3, .int (iI 8))] [.int (iI 8), .int (iI 8)]
    refine g_mmin C (x := 8) (y := 8) (z := 8) q795 ⟨q216, q61, q217⟩ (by omega) (by omega) rfl (Nat.le_of_ble_eq_true rfl) (Nat.le_of_ble_eq_true rfl) ⟨Nat.le_of_ble_eq_true rfl, Nat.le_of_ble_eq_true rfl⟩ dJ15_indexOf_18 ?_
    refine g_istore_n C dJ15_indexOf_21 rfl (lv' := [(0, .ref (D.2 1001 2)), (1, .int (iI v)), (2, .int (iI 0)), (3, .int (iI 8))]) [1, 2, 3, 0] rfl (Nat.le_of_ble_eq_true rfl) ?_
    refine g_iload_n C dJ15_indexOf_22 rfl 2 rfl ?_
    refine g_iload_n C dJ15_indexOf_23 rfl 3 rfl ?_
    refine g_icmp_lt C (tgt := 29) dJ15_indexOf_24 (by decide) (by omega) (by omega) (fun hc24_2 => ?_) (fun hc24_2 => ?_)
    ·
      refine g_aload_n C dJ15_indexOf_29 rfl 0 rfl ?_
      refine g_iload_n C dJ15_indexOf_30 rfl 1 rfl ?_
      refine g_iload_n C dJ15_indexOf_31 rfl 2 rfl ?_
      refine g_iload_n C dJ15_indexOf_32 rfl 3 rfl ?_
      refine kJ15_ixC v C (by omega) ⟨Nat.le_of_ble_eq_true rfl, Nat.le_of_ble_eq_true rfl⟩ (Nat.le_of_ble_eq_true rfl) ⟨Nat.le_of_ble_eq_true rfl, Nat.le_of_ble_eq_true rfl⟩ (rv := sgf v) rfl dJ15_indexOf_33 ?_
      refine g_nilA ?_
      exact g_iret C dJ15_indexOf_36 rfl (Nat.le_of_ble_eq_true rfl) (Nat.le_of_ble_eq_true rfl) ⟨_, rfl, rfl⟩
    · exact absurd hc24_2 (by decide)
  · exact absurd hc4_1 (by decide)

section MK
variable {p : Program} {l : Launch} {e : Env} {R : Room} {s : State} {mm : MethodId} {args : Array Value} {below : List Frame} {meth : Method} {c : Code} {cc : ByteArray} {nL : Nat} {ret : Option FieldType} {D : va_G} {A B : Nat → Prop} {cells slots : Nat} {Q : State → Prop} {pc : Nat} {lv : List (Nat × Value)} {st : List Value}
theorem kJ9_lIx {ws : va_W} (v : Int) (C : CX p l s mm args meth c RJ9 cc nL ret D A) (hc : 0 ≤ v ∧ v < 256) (hR : 1 + 1 ≤ R.frames ∧ 8 + (4 + 11) + 64 * 1 ≤ R.locals) (hcat : (st.map fun v => v.category).sum ≤ 8) (hroom : cells ≤ R.cells ∧ slots ≤ R.slots) {rv : Int} (hr : sgf v = rv) (d : decode cc pc = .ok (.invokestatic 637, 3)) (K : GO p l e R s mm args below meth c nL D A B cells slots Q (ws) (pc + 3) lv (.int (iI rv) :: st)) : GO p l e R s mm args below meth c nL D A B cells slots Q (ws) (pc) lv (.int (iI 8) :: .int (iI 0) :: .int (iI v) :: .ref (D.2 1001 2) :: st) := by
  refine g_callSR C (c_lIx l D C.hl v hc) (As := [.ref (D.2 1001 2), .int (iI v), .int (iI 0), .int (iI 8)]) (n := 4) (lw_S q788 q789 q65 q790) (by decide +kernel) rfl rfl hR rfl rfl hcat ⟨hroom.1, hroom.2⟩ d Sb.nil exT_b hex_t (fun v w hp => ?_) kx_n
  obtain ⟨z, rfl, rfl⟩ := hp
  rw [hr]
  exact K
end MK

set_option maxHeartbeats 4000000 in
set_option maxRecDepth 100000 in
theorem c_sIx2 (l : Launch) (D : va_G) (hst : l.stackTraces = false) (v : Int) (hc : 0 ≤ v ∧ v < 256) : CT l D yJ9_indexOf_2 (ws_ yJ9_indexOf_2 cJ9_indexOf_2 3 (some .int)) (rmD 2 0 0) (0) (0) mdR [.ref (D.2 1001 1), .int (iI v), .int (iI 0)] ([]) exT (pI fun z _ => z = sgf v) (xN) := by
  refine ct_R (lv := [(0, .ref (D.2 1001 1)), (1, .int (iI v)), (2, .int (iI 0))]) RJ9 (by decide) rfl rfl hst (Nat.le_of_ble_eq_true rfl) rfl ?_
  intro p e s mm args below meth c A C htab hex
  refine g_aload_n C dJ9_indexOf_2_0 rfl 0 rfl ?_
  refine kJ9_isL1  C  ⟨Nat.le_of_ble_eq_true rfl, Nat.le_of_ble_eq_true rfl⟩ (Nat.le_of_ble_eq_true rfl) ⟨Nat.le_of_ble_eq_true rfl, Nat.le_of_ble_eq_true rfl⟩ (rv := 1) rfl dJ9_indexOf_2_1 ?_
  refine g_if_eq C (tgt := 23) dJ9_indexOf_2_4 (by decide) (by omega) (fun hc4_1 => ?_) (fun hc4_1 => ?_)
  · exact absurd hc4_1 (by decide)
  ·
    refine g_aload_n C dJ9_indexOf_2_7 rfl 0 rfl ?_
    refine g_getf C ((C.hG.2.2.2.2.2.2.1).1 0 (by decide)).2.2.1 q401 rfl dJ9_indexOf_2_8 ?_
    refine g_iload_n C dJ9_indexOf_2_11 rfl 1 rfl ?_
    refine g_iload_n C dJ9_indexOf_2_12 rfl 2 rfl ?_
    refine g_aload_n C dJ9_indexOf_2_13 rfl 0 rfl ?_
    refine kJ9_sLen  C  ⟨Nat.le_of_ble_eq_true rfl, Nat.le_of_ble_eq_true rfl⟩ (Nat.le_of_ble_eq_true rfl) ⟨Nat.le_of_ble_eq_true rfl, Nat.le_of_ble_eq_true rfl⟩ (rv := 8) rfl dJ9_indexOf_2_14 ?_
    refine kJ9_lIx v C (by omega) ⟨Nat.le_of_ble_eq_true rfl, Nat.le_of_ble_eq_true rfl⟩ (Nat.le_of_ble_eq_true rfl) ⟨Nat.le_of_ble_eq_true rfl, Nat.le_of_ble_eq_true rfl⟩ (rv := sgf v) rfl dJ9_indexOf_2_17 ?_
    refine g_goto C (tgt := 36) dJ9_indexOf_2_20 (by decide) ?_
    refine g_nilA ?_
    exact g_iret C dJ9_indexOf_2_36 rfl (Nat.le_of_ble_eq_true rfl) (Nat.le_of_ble_eq_true rfl) ⟨_, rfl, rfl⟩

section MK
variable {p : Program} {l : Launch} {e : Env} {R : Room} {s : State} {mm : MethodId} {args : Array Value} {below : List Frame} {meth : Method} {c : Code} {cc : ByteArray} {nL : Nat} {ret : Option FieldType} {D : va_G} {A B : Nat → Prop} {cells slots : Nat} {Q : State → Prop} {pc : Nat} {lv : List (Nat × Value)} {st : List Value}
theorem kJ9_sIx2 {ws : va_W} (v : Int) (C : CX p l s mm args meth c RJ9 cc nL ret D A) (hc : 0 ≤ v ∧ v < 256) (hR : 2 + 1 ≤ R.frames ∧ 8 + (3 + 11) + 64 * 2 ≤ R.locals) (hcat : (st.map fun v => v.category).sum ≤ 8) (hroom : cells ≤ R.cells ∧ slots ≤ R.slots) {rv : Int} (hr : sgf v = rv) (d : decode cc pc = .ok (.invokevirtual 633, 3)) (K : GO p l e R s mm args below meth c nL D A B cells slots Q (ws) (pc + 3) lv (.int (iI rv) :: st)) : GO p l e R s mm args below meth c nL D A B cells slots Q (ws) (pc) lv (.int (iI 0) :: .int (iI v) :: .ref (D.2 1001 1) :: st) := by
  refine g_callVR C (c_sIx2 l D C.hl v hc) (As := [.int (iI v), .int (iI 0)]) (n := 2) (lw_V q779 q780 q781 q58 q782) (by decide +kernel) rfl rfl hR (rcvS C) rfl rfl hcat ⟨hroom.1, hroom.2⟩ d Sb.nil exT_b hex_t (fun v w hp => ?_) kx_n
  obtain ⟨z, rfl, rfl⟩ := hp
  rw [hr]
  exact K
end MK

set_option maxHeartbeats 4000000 in
set_option maxRecDepth 100000 in
theorem c_sIx (l : Launch) (D : va_G) (hst : l.stackTraces = false) (v : Int) (hc : 0 ≤ v ∧ v < 256) : CT l D yJ9_indexOf (ws_ yJ9_indexOf cJ9_indexOf 2 (some .int)) (rmD 3 0 0) (0) (0) mdR [.ref (D.2 1001 1), .int (iI v)] ([]) exT (pI fun z _ => z = sgf v) (xN) := by
  refine ct_R (lv := [(0, .ref (D.2 1001 1)), (1, .int (iI v))]) RJ9 (by decide) rfl rfl hst (Nat.le_of_ble_eq_true rfl) rfl ?_
  intro p e s mm args below meth c A C htab hex
  refine g_aload_n C dJ9_indexOf_0 rfl 0 rfl ?_
  refine g_iload_n C dJ9_indexOf_1 rfl 1 rfl ?_
  refine g_iconst C dJ9_indexOf_2 ?_
  refine kJ9_sIx2 v C (by omega) ⟨Nat.le_of_ble_eq_true rfl, Nat.le_of_ble_eq_true rfl⟩ (Nat.le_of_ble_eq_true rfl) ⟨Nat.le_of_ble_eq_true rfl, Nat.le_of_ble_eq_true rfl⟩ (rv := sgf v) rfl dJ9_indexOf_3 ?_
  refine g_nilA ?_
  exact g_iret C dJ9_indexOf_6 rfl (Nat.le_of_ble_eq_true rfl) (Nat.le_of_ble_eq_true rfl) ⟨_, rfl, rfl⟩

section MK
variable {p : Program} {l : Launch} {e : Env} {R : Room} {s : State} {mm : MethodId} {args : Array Value} {below : List Frame} {meth : Method} {c : Code} {cc : ByteArray} {nL : Nat} {ret : Option FieldType} {D : va_G} {A B : Nat → Prop} {cells slots : Nat} {Q : State → Prop} {pc : Nat} {lv : List (Nat × Value)} {st : List Value}
theorem kX1_sIx {ws : va_W} (v : Int) (C : CX p l s mm args meth c RX1 cc nL ret D A) (hc : 0 ≤ v ∧ v < 256) (hR : 3 + 1 ≤ R.frames ∧ 8 + (2 + 11) + 64 * 3 ≤ R.locals) (hcat : (st.map fun v => v.category).sum ≤ 8) (hroom : cells ≤ R.cells ∧ slots ≤ R.slots) {rv : Int} (hr : sgf v = rv) (d : decode cc pc = .ok (.invokevirtual 168, 3)) (K : GO p l e R s mm args below meth c nL D A B cells slots Q (ws) (pc + 3) lv (.int (iI rv) :: st)) : GO p l e R s mm args below meth c nL D A B cells slots Q (ws) (pc) lv (.int (iI v) :: .ref (D.2 1001 1) :: st) := by
  refine g_callVR C (c_sIx l D C.hl v hc) (As := [.int (iI v)]) (n := 1) (lw_V q775 q776 q777 q58 q778) (by decide +kernel) rfl rfl hR (rcvS C) rfl rfl hcat ⟨hroom.1, hroom.2⟩ d Sb.nil exT_b hex_t (fun v w hp => ?_) kx_n
  obtain ⟨z, rfl, rfl⟩ := hp
  rw [hr]
  exact K
end MK

end JC7
