/-! ===== JDK contracts: checkIndex, String.charAt ===== -/
section JC1
/-- the text's chars -/
def sgn (k : Int) : Int := if k = 0 then 110 else if k = 1 then 117 else if k = 2 then 100 else if k = 3 then 85 else if k = 4 then 68 else if k = 5 then 111 else if k = 6 then 43 else 45
theorem sgn_rg (k : Int) : 0 ≤ sgn k ∧ sgn k < 256 := by unfold sgn; omega
theorem sgn_T {k : Int} (h : 0 ≤ k ∧ k < 8) : (Value.int ((([[110, 117, 100, 85, 68, 111, 43, 45]] : List (List Int32)).getD 0 []).getD k.toNat 0)) = .int (iI (sgn k)) := by
  rcases (show k = 0 ∨ k = 1 ∨ k = 2 ∨ k = 3 ∨ k = 4 ∨ k = 5 ∨ k = 6 ∨ k = 7 by omega) with rfl | rfl | rfl | rfl | rfl | rfl | rfl | rfl <;> rfl
theorem sgn_and {k : Int} (h : 0 ≤ k ∧ k < 8) : iI (sgn k) &&& iI 255 = iI (sgn k) := by
  rcases (show k = 0 ∨ k = 1 ∨ k = 2 ∨ k = 3 ∨ k = 4 ∨ k = 5 ∨ k = 6 ∨ k = 7 by omega) with rfl | rfl | rfl | rfl | rfl | rfl | rfl | rfl <;> rfl
theorem sgn_ch {k : Int} (h : 0 ≤ k ∧ k < 8) : ((iI (sgn k)).toUInt32 % 65536).toInt32 = iI (sgn k) := by
  rcases (show k = 0 ∨ k = 1 ∨ k = 2 ∨ k = 3 ∨ k = 4 ∨ k = 5 ∨ k = 6 ∨ k = 7 by omega) with rfl | rfl | rfl | rfl | rfl | rfl | rfl | rfl <;> rfl
theorem sgn_nar {k : Int} (h : 0 ≤ k ∧ k < 8) : narrow .char (.int (iI (sgn k))) = .int (iI (sgn k)) := by
  rcases (show k = 0 ∨ k = 1 ∨ k = 2 ∨ k = 3 ∨ k = 4 ∨ k = 5 ∨ k = 6 ∨ k = 7 by omega) with rfl | rfl | rfl | rfl | rfl | rfl | rfl | rfl <;> rfl
theorem rcvS {p : Program} {l : Launch} {s : State} {m : MethodId} {args : Array Value} {meth : Method} {c : Code} {own : String} {cc : ByteArray} {nL : Nat} {ret : Option FieldType} {D : va_G} {A : Nat → Prop} {ws : va_W} (C : CX p l s m args meth c own cc nL ret D A) : ∀ (H : Heap) (locs : List Loc), va_P D clX ws H → va_S A s.heap H locs → ∃ cellB : Cell, H[D.2 1001 1]? = some cellB ∧ cellB.vm.isStatics = false ∧ s.vm.findClass "java/lang/String" = some cellB.cls := fun H locs _ hS => vk_recv (i := 0) C.hG.2.2.2.2.2.2.1 (by decide) hS
set_option maxHeartbeats 4000000 in
set_option maxRecDepth 100000 in
theorem c_ckIN (l : Launch) (D : va_G) (hst : l.stackTraces = false) (i n : Int) (hi : 0 ≤ i ∧ i < n ∧ n < 2147483648) : CT l D yJ14_checkIndex (ws_ yJ14_checkIndex cJ14_checkIndex 3 (some .int)) (rmD 0 0 0) (0) (0) mdR [.int (iI i), .int (iI n), .null] ([]) exT (pI fun z _ => z = i) (xN) := by
  refine ct_R (lv := [(0, .int (iI i)), (1, .int (iI n)), (2, .null)]) RJ14 (by decide) rfl rfl hst (Nat.le_of_ble_eq_true rfl) rfl ?_
  intro p e s mm args below meth c A C htab hex
  refine g_iload_n C dJ14_checkIndex_0 rfl 0 rfl ?_
  refine g_if_lt C (tgt := 9) dJ14_checkIndex_1 (by decide) (by omega) (fun hc1_1 => ?_) (fun hc1_1 => ?_)
  · exact absurd hc1_1 (by omega)
  ·
    refine g_iload_n C dJ14_checkIndex_4 rfl 0 rfl ?_
    refine g_iload_n C dJ14_checkIndex_5 rfl 1 rfl ?_
    refine g_icmp_lt C (tgt := 16) dJ14_checkIndex_6 (by decide) (by omega) (by omega) (fun hc6_2 => ?_) (fun hc6_2 => ?_)
    ·
      refine g_iload_n C dJ14_checkIndex_16 rfl 0 rfl ?_
      refine g_nilA ?_
      exact g_iret C dJ14_checkIndex_17 rfl (Nat.le_of_ble_eq_true rfl) (Nat.le_of_ble_eq_true rfl) ⟨_, rfl, rfl⟩
    · exact absurd hc6_2 (by omega)

set_option maxHeartbeats 4000000 in
set_option maxRecDepth 100000 in
theorem c_ckIR (l : Launch) (D : va_G) (hst : l.stackTraces = false) (i n : Int) (fm : Nat) (hi : 0 ≤ i ∧ i < n ∧ n < 2147483648) : CT l D yJ14_checkIndex (ws_ yJ14_checkIndex cJ14_checkIndex 3 (some .int)) (rmD 0 0 0) (0) (0) mdR [.int (iI i), .int (iI n), .ref fm] ([]) exT (pI fun z _ => z = i) (xN) := by
  refine ct_R (lv := [(0, .int (iI i)), (1, .int (iI n)), (2, .ref fm)]) RJ14 (by decide) rfl rfl hst (Nat.le_of_ble_eq_true rfl) rfl ?_
  intro p e s mm args below meth c A C htab hex
  refine g_iload_n C dJ14_checkIndex_0 rfl 0 rfl ?_
  refine g_if_lt C (tgt := 9) dJ14_checkIndex_1 (by decide) (by omega) (fun hc1_1 => ?_) (fun hc1_1 => ?_)
  · exact absurd hc1_1 (by omega)
  ·
    refine g_iload_n C dJ14_checkIndex_4 rfl 0 rfl ?_
    refine g_iload_n C dJ14_checkIndex_5 rfl 1 rfl ?_
    refine g_icmp_lt C (tgt := 16) dJ14_checkIndex_6 (by decide) (by omega) (by omega) (fun hc6_2 => ?_) (fun hc6_2 => ?_)
    ·
      refine g_iload_n C dJ14_checkIndex_16 rfl 0 rfl ?_
      refine g_nilA ?_
      exact g_iret C dJ14_checkIndex_17 rfl (Nat.le_of_ble_eq_true rfl) (Nat.le_of_ble_eq_true rfl) ⟨_, rfl, rfl⟩
    · exact absurd hc6_2 (by omega)

section MK
variable {p : Program} {l : Launch} {e : Env} {R : Room} {s : State} {mm : MethodId} {args : Array Value} {below : List Frame} {meth : Method} {c : Code} {cc : ByteArray} {nL : Nat} {ret : Option FieldType} {D : va_G} {A B : Nat → Prop} {cells slots : Nat} {Q : State → Prop} {pc : Nat} {lv : List (Nat × Value)} {st : List Value}
theorem kJ19_ckIN {ws : va_W} (i n : Int) (C : CX p l s mm args meth c RJ19 cc nL ret D A) (hi : 0 ≤ i ∧ i < n ∧ n < 2147483648) (hR : 0 + 1 ≤ R.frames ∧ 8 + (3 + 11) + 64 * 0 ≤ R.locals) (hcat : (st.map fun v => v.category).sum ≤ 8) (hroom : cells ≤ R.cells ∧ slots ≤ R.slots) {rv : Int} (hr : i = rv) (d : decode cc pc = .ok (.invokestatic 105, 3)) (K : GO p l e R s mm args below meth c nL D A B cells slots Q (ws) (pc + 3) lv (.int (iI rv) :: st)) : GO p l e R s mm args below meth c nL D A B cells slots Q (ws) (pc) lv (.null :: .int (iI n) :: .int (iI i) :: st) := by
  refine g_callSR C (c_ckIN l D C.hl i n hi) (As := [.int (iI i), .int (iI n), .null]) (n := 3) (lw_S q642 q643 q64 q644) (by decide +kernel) rfl rfl hR rfl rfl hcat ⟨hroom.1, hroom.2⟩ d Sb.nil exT_b hex_t (fun v w hp => ?_) kx_n
  obtain ⟨z, rfl, rfl⟩ := hp
  rw [hr]
  exact K
end MK

section MK
variable {p : Program} {l : Launch} {e : Env} {R : Room} {s : State} {mm : MethodId} {args : Array Value} {below : List Frame} {meth : Method} {c : Code} {cc : ByteArray} {nL : Nat} {ret : Option FieldType} {D : va_G} {A B : Nat → Prop} {cells slots : Nat} {Q : State → Prop} {pc : Nat} {lv : List (Nat × Value)} {st : List Value}
theorem kJ9_ckIN {ws : va_W} (i n : Int) (C : CX p l s mm args meth c RJ9 cc nL ret D A) (hi : 0 ≤ i ∧ i < n ∧ n < 2147483648) (hR : 0 + 1 ≤ R.frames ∧ 8 + (3 + 11) + 64 * 0 ≤ R.locals) (hcat : (st.map fun v => v.category).sum ≤ 8) (hroom : cells ≤ R.cells ∧ slots ≤ R.slots) {rv : Int} (hr : i = rv) (d : decode cc pc = .ok (.invokestatic 1059, 3)) (K : GO p l e R s mm args below meth c nL D A B cells slots Q (ws) (pc + 3) lv (.int (iI rv) :: st)) : GO p l e R s mm args below meth c nL D A B cells slots Q (ws) (pc) lv (.null :: .int (iI n) :: .int (iI i) :: st) := by
  refine g_callSR C (c_ckIN l D C.hl i n hi) (As := [.int (iI i), .int (iI n), .null]) (n := 3) (lw_S q1187 q643 q64 q644) (by decide +kernel) rfl rfl hR rfl rfl hcat ⟨hroom.1, hroom.2⟩ d Sb.nil exT_b hex_t (fun v w hp => ?_) kx_n
  obtain ⟨z, rfl, rfl⟩ := hp
  rw [hr]
  exact K
end MK

section MK
variable {p : Program} {l : Launch} {e : Env} {R : Room} {s : State} {mm : MethodId} {args : Array Value} {below : List Frame} {meth : Method} {c : Code} {cc : ByteArray} {nL : Nat} {ret : Option FieldType} {D : va_G} {A B : Nat → Prop} {cells slots : Nat} {Q : State → Prop} {pc : Nat} {lv : List (Nat × Value)} {st : List Value}
theorem kJ9_ckIR {ws : va_W} (i n : Int) (fm : Nat) (C : CX p l s mm args meth c RJ9 cc nL ret D A) (hi : 0 ≤ i ∧ i < n ∧ n < 2147483648) (hR : 0 + 1 ≤ R.frames ∧ 8 + (3 + 11) + 64 * 0 ≤ R.locals) (hcat : (st.map fun v => v.category).sum ≤ 8) (hroom : cells ≤ R.cells ∧ slots ≤ R.slots) {rv : Int} (hr : i = rv) (d : decode cc pc = .ok (.invokestatic 1059, 3)) (K : GO p l e R s mm args below meth c nL D A B cells slots Q (ws) (pc + 3) lv (.int (iI rv) :: st)) : GO p l e R s mm args below meth c nL D A B cells slots Q (ws) (pc) lv (.ref fm :: .int (iI n) :: .int (iI i) :: st) := by
  refine g_callSR C (c_ckIR l D C.hl i n fm hi) (As := [.int (iI i), .int (iI n), .ref fm]) (n := 3) (lw_S q1187 q643 q64 q644) (by decide +kernel) rfl rfl hR rfl rfl hcat ⟨hroom.1, hroom.2⟩ d Sb.nil exT_b hex_t (fun v w hp => ?_) kx_n
  obtain ⟨z, rfl, rfl⟩ := hp
  rw [hr]
  exact K
end MK

set_option maxHeartbeats 4000000 in
set_option maxRecDepth 100000 in
theorem c_ockI (l : Launch) (D : va_G) (hst : l.stackTraces = false) (i n : Int) (hi : 0 ≤ i ∧ i < n ∧ n < 2147483648) : CT l D yJ19_checkIndex (ws_ yJ19_checkIndex cJ19_checkIndex 2 (some .int)) (rmD 1 0 0) (0) (0) mdR [.int (iI i), .int (iI n)] ([]) exT (pI fun z _ => z = i) (xN) := by
  refine ct_R (lv := [(0, .int (iI i)), (1, .int (iI n))]) RJ19 (by decide) rfl rfl hst (Nat.le_of_ble_eq_true rfl) rfl ?_
  intro p e s mm args below meth c A C htab hex
  refine g_iload_n C dJ19_checkIndex_0 rfl 0 rfl ?_
  refine g_iload_n C dJ19_checkIndex_1 rfl 1 rfl ?_
  refine g_null C dJ19_checkIndex_2 ?_
  refine kJ19_ckIN i n C (by omega) ⟨Nat.le_of_ble_eq_true rfl, Nat.le_of_ble_eq_true rfl⟩ (Nat.le_of_ble_eq_true rfl) ⟨Nat.le_of_ble_eq_true rfl, Nat.le_of_ble_eq_true rfl⟩ (rv := i) rfl dJ19_checkIndex_3 ?_
  refine g_nilA ?_
  exact g_iret C dJ19_checkIndex_6 rfl (Nat.le_of_ble_eq_true rfl) (Nat.le_of_ble_eq_true rfl) ⟨_, rfl, rfl⟩

set_option maxHeartbeats 4000000 in
set_option maxRecDepth 100000 in
theorem c_sckI (l : Launch) (D : va_G) (hst : l.stackTraces = false) (i n : Int) (hi : 0 ≤ i ∧ i < n ∧ n < 2147483648) : CT l D yJ9_checkIndex (ws_ yJ9_checkIndex cJ9_checkIndex 2 none) (rmD 1 0 0) (0) (0) mdR [.int (iI i), .int (iI n)] ([]) exT (pV fun _ => True) (xN) := by
  refine ct_R (lv := [(0, .int (iI i)), (1, .int (iI n))]) RJ9 (by decide) rfl rfl hst (Nat.le_of_ble_eq_true rfl) rfl ?_
  intro p e s mm args below meth c A C htab hex
  refine g_iload_n C dJ9_checkIndex_0 rfl 0 rfl ?_
  refine g_iload_n C dJ9_checkIndex_1 rfl 1 rfl ?_
  refine g_getsQ C C.hG.2.2.2.2.2.2.2.2.2.2 q238 rfl dJ9_checkIndex_2 ?_ (fun q1 => ?_)
  ·
    refine kJ9_ckIN i n C (by omega) ⟨Nat.le_of_ble_eq_true rfl, Nat.le_of_ble_eq_true rfl⟩ (Nat.le_of_ble_eq_true rfl) ⟨Nat.le_of_ble_eq_true rfl, Nat.le_of_ble_eq_true rfl⟩ (rv := i) rfl dJ9_checkIndex_5 ?_
    refine g_pop C dJ9_checkIndex_8 rfl ?_
    refine g_nilA ?_
    exact g_vret C dJ9_checkIndex_9 (Nat.le_of_ble_eq_true rfl) (Nat.le_of_ble_eq_true rfl) ⟨rfl, trivial⟩
  ·
    refine kJ9_ckIR i n q1 C (by omega) ⟨Nat.le_of_ble_eq_true rfl, Nat.le_of_ble_eq_true rfl⟩ (Nat.le_of_ble_eq_true rfl) ⟨Nat.le_of_ble_eq_true rfl, Nat.le_of_ble_eq_true rfl⟩ (rv := i) rfl dJ9_checkIndex_5 ?_
    refine g_pop C dJ9_checkIndex_8 rfl ?_
    refine g_nilA ?_
    exact g_vret C dJ9_checkIndex_9 (Nat.le_of_ble_eq_true rfl) (Nat.le_of_ble_eq_true rfl) ⟨rfl, trivial⟩

section MK
variable {p : Program} {l : Launch} {e : Env} {R : Room} {s : State} {mm : MethodId} {args : Array Value} {below : List Frame} {meth : Method} {c : Code} {cc : ByteArray} {nL : Nat} {ret : Option FieldType} {D : va_G} {A B : Nat → Prop} {cells slots : Nat} {Q : State → Prop} {pc : Nat} {lv : List (Nat × Value)} {st : List Value}
theorem kJ15_sckI {ws : va_W} (i n : Int) (C : CX p l s mm args meth c RJ15 cc nL ret D A) (hi : 0 ≤ i ∧ i < n ∧ n < 2147483648) (hR : 1 + 1 ≤ R.frames ∧ 8 + (2 + 11) + 64 * 1 ≤ R.locals) (hcat : (st.map fun v => v.category).sum ≤ 8) (hroom : cells ≤ R.cells ∧ slots ≤ R.slots) (d : decode cc pc = .ok (.invokestatic 9, 3)) (K : GO p l e R s mm args below meth c nL D A B cells slots Q (ws) (pc + 3) lv (st)) : GO p l e R s mm args below meth c nL D A B cells slots Q (ws) (pc) lv (.int (iI n) :: .int (iI i) :: st) := by
  refine g_callSR C (c_sckI l D C.hl i n hi) (As := [.int (iI i), .int (iI n)]) (n := 2) (lw_S q1184 q1185 q58 q1186) (by decide +kernel) rfl rfl hR rfl rfl hcat ⟨hroom.1, hroom.2⟩ d Sb.nil exT_b hex_t (fun v w hp => ?_) kx_n
  obtain ⟨rfl, -⟩ := hp
  exact K
end MK

set_option maxHeartbeats 4000000 in
set_option maxRecDepth 100000 in
theorem c_lchA (l : Launch) (D : va_G) (hst : l.stackTraces = false) (k : Int) (hk : 0 ≤ k ∧ k < 8) : CT l D yJ15_charAt (ws_ yJ15_charAt cJ15_charAt 2 (some .char)) (rmD 2 0 0) (0) (0) mdR [.ref (D.2 1001 2), .int (iI k)] ([]) exT (pI fun z _ => z = sgn k) (xN) := by
  refine ct_R (lv := [(0, .ref (D.2 1001 2)), (1, .int (iI k))]) RJ15 (by decide) rfl rfl hst (Nat.le_of_ble_eq_true rfl) rfl ?_
  intro p e s mm args below meth c A C htab hex
  refine g_iload_n C dJ15_charAt_0 rfl 1 rfl ?_
  refine g_aload_n C dJ15_charAt_1 rfl 0 rfl ?_
  refine g_tlen C ((C.hG.2.2.2.2.2.2.1).1 0 (by decide)).2.2.2 dJ15_charAt_2 ?_
  show GO p l e (rmD 2 0 0) s mm args below meth c 2 D A (fun _ => True) 0 0 (MX below D A (pI fun z _ => z = sgn k) (xN) args s (0) (0)) ([]) 3 [(0, .ref (D.2 1001 2)), (1, .int (iI k))] [.int (iI 8), .int (iI k)]
  refine kJ15_sckI k 8 C (by omega) ⟨Nat.le_of_ble_eq_true rfl, Nat.le_of_ble_eq_true rfl⟩ (Nat.le_of_ble_eq_true rfl) ⟨Nat.le_of_ble_eq_true rfl, Nat.le_of_ble_eq_true rfl⟩ dJ15_charAt_3 ?_
  refine g_aload_n C dJ15_charAt_6 rfl 0 rfl ?_
  refine g_iload_n C dJ15_charAt_7 rfl 1 rfl ?_
  refine g_tb C ((C.hG.2.2.2.2.2.2.1).1 0 (by decide)).2.2.2 (i := k) (v := .int (iI (sgn k))) (show _ ∧ _ < ((8 : Nat) : Int) by omega) (by decide) (sgn_T hk) dJ15_charAt_8 ?_
  refine g_sipush C dJ15_charAt_9 (z := 255) rfl ?_
  refine g_iand C dJ15_charAt_12 (z := sgn k) (sgn_and hk) ?_
  refine g_i2c C (z := sgn k) (sgn_ch hk) dJ15_charAt_13 ?_
  refine g_nilA ?_
  exact g_iret C dJ15_charAt_14 (sgn_nar hk) (Nat.le_of_ble_eq_true rfl) (Nat.le_of_ble_eq_true rfl) ⟨_, rfl, rfl⟩

section MK
variable {p : Program} {l : Launch} {e : Env} {R : Room} {s : State} {mm : MethodId} {args : Array Value} {below : List Frame} {meth : Method} {c : Code} {cc : ByteArray} {nL : Nat} {ret : Option FieldType} {D : va_G} {A B : Nat → Prop} {cells slots : Nat} {Q : State → Prop} {pc : Nat} {lv : List (Nat × Value)} {st : List Value}
theorem kJ9_lchA {ws : va_W} (k : Int) (C : CX p l s mm args meth c RJ9 cc nL ret D A) (hk : 0 ≤ k ∧ k < 8) (hR : 2 + 1 ≤ R.frames ∧ 8 + (2 + 11) + 64 * 2 ≤ R.locals) (hcat : (st.map fun v => v.category).sum ≤ 8) (hroom : cells ≤ R.cells ∧ slots ≤ R.slots) {rv : Int} (hr : sgn k = rv) (d : decode cc pc = .ok (.invokestatic 495, 3)) (K : GO p l e R s mm args below meth c nL D A B cells slots Q (ws) (pc + 3) lv (.int (iI rv) :: st)) : GO p l e R s mm args below meth c nL D A B cells slots Q (ws) (pc) lv (.int (iI k) :: .ref (D.2 1001 2) :: st) := by
  refine g_callSR C (c_lchA l D C.hl k hk) (As := [.ref (D.2 1001 2), .int (iI k)]) (n := 2) (lw_S q1181 q1182 q65 q1183) (by decide +kernel) rfl rfl hR rfl rfl hcat ⟨hroom.1, hroom.2⟩ d Sb.nil exT_b hex_t (fun v w hp => ?_) kx_n
  obtain ⟨z, rfl, rfl⟩ := hp
  rw [hr]
  exact K
end MK

set_option maxHeartbeats 4000000 in
set_option maxRecDepth 100000 in
theorem c_isL1 (l : Launch) (D : va_G) (hst : l.stackTraces = false)   : CT l D yJ9_isLatin1 (ws_ yJ9_isLatin1 cJ9_isLatin1 1 (some .boolean)) (rmD 0 0 0) (0) (0) mdR [.ref (D.2 1001 1)] ([]) exT (pI fun z _ => z = 1) (xN) := by
  refine ct_R (lv := [(0, .ref (D.2 1001 1))]) RJ9 (by decide) rfl rfl hst (Nat.le_of_ble_eq_true rfl) rfl ?_
  intro p e s mm args below meth c A C htab hex
  refine g_gets C C.hG.2.2.2.2.2.2.2.1 q260 rfl dJ9_isLatin1_0 ?_
  show GO p l e (rmD 0 0 0) s mm args below meth c 1 D A (fun _ => True) 0 0 (MX below D A (pI fun z _ => z = 1) (xN) args s (0) (0)) ([]) 3 [(0, .ref (D.2 1001 1))] [.int (iI 1)]
  refine g_if_eq C (tgt := 17) dJ9_isLatin1_3 (by decide) (by omega) (fun hc3_1 => ?_) (fun hc3_1 => ?_)
  · exact absurd hc3_1 (by decide)
  ·
    refine g_aload_n C dJ9_isLatin1_6 rfl 0 rfl ?_
    refine g_getf C ((C.hG.2.2.2.2.2.2.1).1 0 (by decide)).2.1 q402 rfl dJ9_isLatin1_7 ?_
    show GO p l e (rmD 0 0 0) s mm args below meth c 1 D A (fun _ => True) 0 0 (MX below D A (pI fun z _ => z = 1) (xN) args s (0) (0)) ([]) 10 [(0, .ref (D.2 1001 1))] [.int (iI 0)]
    refine g_if_ne C (tgt := 17) dJ9_isLatin1_10 (by decide) (by omega) (fun hc10_2 => ?_) (fun hc10_2 => ?_)
    · exact absurd rfl hc10_2
    ·
      refine g_iconst C dJ9_isLatin1_13 ?_
      refine g_goto C (tgt := 18) dJ9_isLatin1_14 (by decide) ?_
      refine g_nilA ?_
      exact g_iret C dJ9_isLatin1_18 rfl (Nat.le_of_ble_eq_true rfl) (Nat.le_of_ble_eq_true rfl) ⟨_, rfl, rfl⟩

section MK
variable {p : Program} {l : Launch} {e : Env} {R : Room} {s : State} {mm : MethodId} {args : Array Value} {below : List Frame} {meth : Method} {c : Code} {cc : ByteArray} {nL : Nat} {ret : Option FieldType} {D : va_G} {A B : Nat → Prop} {cells slots : Nat} {Q : State → Prop} {pc : Nat} {lv : List (Nat × Value)} {st : List Value}
theorem kJ9_isL1 {ws : va_W}  (C : CX p l s mm args meth c RJ9 cc nL ret D A)  (hR : 0 + 1 ≤ R.frames ∧ 8 + (1 + 11) + 64 * 0 ≤ R.locals) (hcat : (st.map fun v => v.category).sum ≤ 8) (hroom : cells ≤ R.cells ∧ slots ≤ R.slots) {rv : Int} (hr : 1 = rv) (d : decode cc pc = .ok (.invokevirtual 492, 3)) (K : GO p l e R s mm args below meth c nL D A B cells slots Q (ws) (pc + 3) lv (.int (iI rv) :: st)) : GO p l e R s mm args below meth c nL D A B cells slots Q (ws) (pc) lv (.ref (D.2 1001 1) :: st) := by
  refine g_callVR C (c_isL1 l D C.hl  ) (As := []) (n := 0) (lw_V q783 q784 q785 q58 q786) (by decide +kernel) rfl rfl hR (rcvS C) rfl rfl hcat ⟨hroom.1, hroom.2⟩ d Sb.nil exT_b hex_t (fun v w hp => ?_) kx_n
  obtain ⟨z, rfl, rfl⟩ := hp
  rw [hr]
  exact K
end MK

set_option maxHeartbeats 4000000 in
set_option maxRecDepth 100000 in
theorem c_chA (l : Launch) (D : va_G) (hst : l.stackTraces = false) (k : Int) (hk : 0 ≤ k ∧ k < 8) : CT l D yJ9_charAt (ws_ yJ9_charAt cJ9_charAt 2 (some .char)) (rmD 3 0 0) (0) (0) mdR [.ref (D.2 1001 1), .int (iI k)] ([]) exT (pI fun z _ => z = sgn k) (xN) := by
  refine ct_R (lv := [(0, .ref (D.2 1001 1)), (1, .int (iI k))]) RJ9 (by decide) rfl rfl hst (Nat.le_of_ble_eq_true rfl) rfl ?_
  intro p e s mm args below meth c A C htab hex
  refine g_aload_n C dJ9_charAt_0 rfl 0 rfl ?_
  refine kJ9_isL1  C  ⟨Nat.le_of_ble_eq_true rfl, Nat.le_of_ble_eq_true rfl⟩ (Nat.le_of_ble_eq_true rfl) ⟨Nat.le_of_ble_eq_true rfl, Nat.le_of_ble_eq_true rfl⟩ (rv := 1) rfl dJ9_charAt_1 ?_
  refine g_if_eq C (tgt := 16) dJ9_charAt_4 (by decide) (by omega) (fun hc4_1 => ?_) (fun hc4_1 => ?_)
  · exact absurd hc4_1 (by decide)
  ·
    refine g_aload_n C dJ9_charAt_7 rfl 0 rfl ?_
    refine g_getf C ((C.hG.2.2.2.2.2.2.1).1 0 (by decide)).2.2.1 q401 rfl dJ9_charAt_8 ?_
    refine g_iload_n C dJ9_charAt_11 rfl 1 rfl ?_
    refine kJ9_lchA k C (by omega) ⟨Nat.le_of_ble_eq_true rfl, Nat.le_of_ble_eq_true rfl⟩ (Nat.le_of_ble_eq_true rfl) ⟨Nat.le_of_ble_eq_true rfl, Nat.le_of_ble_eq_true rfl⟩ (rv := sgn k) rfl dJ9_charAt_12 ?_
    refine g_nilA ?_
    exact g_iret C dJ9_charAt_15 (sgn_nar hk) (Nat.le_of_ble_eq_true rfl) (Nat.le_of_ble_eq_true rfl) ⟨_, rfl, rfl⟩

section MK
variable {p : Program} {l : Launch} {e : Env} {R : Room} {s : State} {mm : MethodId} {args : Array Value} {below : List Frame} {meth : Method} {c : Code} {cc : ByteArray} {nL : Nat} {ret : Option FieldType} {D : va_G} {A B : Nat → Prop} {cells slots : Nat} {Q : State → Prop} {pc : Nat} {lv : List (Nat × Value)} {st : List Value}
theorem kX3_chA {ws : va_W} (k : Int) (C : CX p l s mm args meth c RX3 cc nL ret D A) (hk : 0 ≤ k ∧ k < 8) (hR : 3 + 1 ≤ R.frames ∧ 8 + (2 + 11) + 64 * 3 ≤ R.locals) (hcat : (st.map fun v => v.category).sum ≤ 8) (hroom : cells ≤ R.cells ∧ slots ≤ R.slots) {rv : Int} (hr : sgn k = rv) (d : decode cc pc = .ok (.invokevirtual 152, 3)) (K : GO p l e R s mm args below meth c nL D A B cells slots Q (ws) (pc + 3) lv (.int (iI rv) :: st)) : GO p l e R s mm args below meth c nL D A B cells slots Q (ws) (pc) lv (.int (iI k) :: .ref (D.2 1001 1) :: st) := by
  refine g_callVR C (c_chA l D C.hl k hk) (As := [.int (iI k)]) (n := 1) (lw_V q1177 q1178 q1179 q58 q1180) (by decide +kernel) rfl rfl hR (rcvS C) rfl rfl hcat ⟨hroom.1, hroom.2⟩ d Sb.nil exT_b hex_t (fun v w hp => ?_) kx_n
  obtain ⟨z, rfl, rfl⟩ := hp
  rw [hr]
  exact K
end MK

end JC1
