/-! ===== contracts of the model: the book ===== -/
section MC3
set_option maxHeartbeats 4000000 in
set_option maxRecDepth 100000 in
theorem c_X3_fail (l : Launch) (D : va_G) (hst : l.stackTraces = false) (h : Nat → Nat) (f : Nat → Int) (g : Nat → Int → Int) (kv : Int)  : CT l D yX3_fail (ws_ yX3_fail cX3_fail 2 (some .int)) (rmD 0 0 0) (0) (0) va_A [.ref (h 36), .int (iI kv)] (mW D h f g) exT (pI fun z w => z = 0 ∧ w = mW D h (up f 1 kv) g) xN := by
  refine ct_U (lv := [(0, .ref (h 36)), (1, .int (iI kv))]) RX3 (by decide) rfl rfl hst (Nat.le_of_ble_eq_true rfl) rfl ?_
  intro p e s mm args below meth c A C htab hex hnm
  refine g_aload_n C dX3_fail_0 rfl 0 rfl ?_
  refine g_iload_n C dX3_fail_1 rfl 1 rfl ?_
  refine gm_put1 C (f' := (up f 1 kv)) rfl dX3_fail_2 ?_
  refine g_iconst C dX3_fail_5 ?_
  exact g_iret C dX3_fail_6 rfl (Nat.le_of_ble_eq_true rfl) (Nat.le_of_ble_eq_true rfl) ⟨_, rfl, rfl, rfl⟩

section MK
variable {p : Program} {l : Launch} {e : Env} {R : Room} {s : State} {mm : MethodId} {args : Array Value} {below : List Frame} {meth : Method} {c : Code} {cc : ByteArray} {nL : Nat} {ret : Option FieldType} {D : va_G} {A B : Nat → Prop} {cells slots : Nat} {Q : State → Prop} {pc : Nat} {lv : List (Nat × Value)} {st : List Value}
theorem kX3_X3_fail {h : Nat → Nat} {f : Nat → Int} {g : Nat → Int → Int} (kv : Int) (C : CX p l s mm args meth c RX3 cc nL ret D A)  (hR : 0 + 1 ≤ R.frames ∧ 8 + (2 + 11) + 64 * 0 ≤ R.locals) (hcat : (st.map fun v => v.category).sum ≤ 8) (hroom : cells ≤ R.cells ∧ slots ≤ R.slots) (d : decode cc pc = .ok (.invokevirtual 136, 3)) (K : GO p l e R s mm args below meth c nL D A A cells slots Q (mW D h (up f 1 kv) g) (pc + 3) lv (.int (iI 0) :: st)) : GO p l e R s mm args below meth c nL D A A cells slots Q (mW D h f g) (pc) lv (.int (iI kv) :: .ref (h 36) :: st) := by
  refine g_callVU C (c_X3_fail l D C.hl h f g kv ) (As := [.int (iI kv)]) (n := 1) (lw_V q1154 q1156 qs34 q69 q1157) (by decide +kernel) rfl rfl hR (rcv C 0 rfl rfl rfl) rfl rfl hcat ⟨hroom.1, hroom.2⟩ d (wr := []) Sb.rf exT_b hex_t (fun v w hp => ?_) kx_nu
  obtain ⟨z, rfl, rfl, rfl⟩ := hp
  exact K 
end MK

set_option maxHeartbeats 4000000 in
set_option maxRecDepth 100000 in
theorem c_X3_refuse (l : Launch) (D : va_G) (hst : l.stackTraces = false) (h : Nat → Nat) (f : Nat → Int) (g : Nat → Int → Int) (kv : Int)  : CT l D yX3_refuse (ws_ yX3_refuse cX3_refuse 2 (some .boolean)) (rmD 0 0 0) (0) (0) va_A [.ref (h 36), .int (iI kv)] (mW D h f g) exT (pI fun z w => z = 0 ∧ w = mW D h (up f 1 kv) g) xN := by
  refine ct_U (lv := [(0, .ref (h 36)), (1, .int (iI kv))]) RX3 (by decide) rfl rfl hst (Nat.le_of_ble_eq_true rfl) rfl ?_
  intro p e s mm args below meth c A C htab hex hnm
  refine g_aload_n C dX3_refuse_0 rfl 0 rfl ?_
  refine g_iload_n C dX3_refuse_1 rfl 1 rfl ?_
  refine gm_put1 C (f' := (up f 1 kv)) rfl dX3_refuse_2 ?_
  refine g_iconst C dX3_refuse_5 ?_
  exact g_iret C dX3_refuse_6 rfl (Nat.le_of_ble_eq_true rfl) (Nat.le_of_ble_eq_true rfl) ⟨_, rfl, rfl, rfl⟩

section MK
variable {p : Program} {l : Launch} {e : Env} {R : Room} {s : State} {mm : MethodId} {args : Array Value} {below : List Frame} {meth : Method} {c : Code} {cc : ByteArray} {nL : Nat} {ret : Option FieldType} {D : va_G} {A B : Nat → Prop} {cells slots : Nat} {Q : State → Prop} {pc : Nat} {lv : List (Nat × Value)} {st : List Value}
theorem kX3_X3_refuse {h : Nat → Nat} {f : Nat → Int} {g : Nat → Int → Int} (kv : Int) (C : CX p l s mm args meth c RX3 cc nL ret D A)  (hR : 0 + 1 ≤ R.frames ∧ 8 + (2 + 11) + 64 * 0 ≤ R.locals) (hcat : (st.map fun v => v.category).sum ≤ 8) (hroom : cells ≤ R.cells ∧ slots ≤ R.slots) (d : decode cc pc = .ok (.invokevirtual 127, 3)) (K : GO p l e R s mm args below meth c nL D A A cells slots Q (mW D h (up f 1 kv) g) (pc + 3) lv (.int (iI 0) :: st)) : GO p l e R s mm args below meth c nL D A A cells slots Q (mW D h f g) (pc) lv (.int (iI kv) :: .ref (h 36) :: st) := by
  refine g_callVU C (c_X3_refuse l D C.hl h f g kv ) (As := [.int (iI kv)]) (n := 1) (lw_V q1122 q1124 qs31 q69 q1125) (by decide +kernel) rfl rfl hR (rcv C 0 rfl rfl rfl) rfl rfl hcat ⟨hroom.1, hroom.2⟩ d (wr := []) Sb.rf exT_b hex_t (fun v w hp => ?_) kx_nu
  obtain ⟨z, rfl, rfl, rfl⟩ := hp
  exact K 
end MK

set_option maxHeartbeats 4000000 in
set_option maxRecDepth 100000 in
theorem c_X3_isFold (l : Launch) (D : va_G) (hst : l.stackTraces = false) (h : Nat → Nat) (f : Nat → Int) (g : Nat → Int → Int) (a : Int) (hF : 1 ≤ f 2 ∧ f 2 ≤ 5) (ha : -2147483648 ≤ a ∧ a < 2147483648) : CT l D yX3_isFold (ws_ yX3_isFold cX3_isFold 2 (some .boolean)) (rmD 0 0 0) (0) (0) mdR [.ref (h 36), .int (iI a)] (mW D h f g) exT (pI fun z _ => z = bI (decide (0 ≤ a ∧ a < f 2))) xN := by
  refine ct_R (lv := [(0, .ref (h 36)), (1, .int (iI a))]) RX3 (by decide) rfl rfl hst (Nat.le_of_ble_eq_true rfl) rfl ?_
  intro p e s mm args below meth c A C htab hex
  refine g_iload_n C dX3_isFold_0 rfl 1 rfl ?_
  refine g_if_lt C (tgt := 16) dX3_isFold_1 (by decide) (by omega) (fun hc1_1 => ?_) (fun hc1_1 => ?_)
  ·
    refine g_iconst C dX3_isFold_16 ?_
    refine g_nilA ?_
    exact g_iret C dX3_isFold_17 rfl (Nat.le_of_ble_eq_true rfl) (Nat.le_of_ble_eq_true rfl) ⟨_, rfl, by rw [decide_eq_false (by omega : ¬ (0 ≤ a ∧ a < f 2))]; rfl⟩
  ·
    refine g_iload_n C dX3_isFold_4 rfl 1 rfl ?_
    refine g_aload_n C dX3_isFold_5 rfl 0 rfl ?_
    refine gm_get2 C (v := f 2) rfl dX3_isFold_6 ?_
    refine g_icmp_ge C (tgt := 16) dX3_isFold_9 (by decide) (by omega) (by omega) (fun hc9_2 => ?_) (fun hc9_2 => ?_)
    ·
      refine g_iconst C dX3_isFold_16 ?_
      refine g_nilA ?_
      exact g_iret C dX3_isFold_17 rfl (Nat.le_of_ble_eq_true rfl) (Nat.le_of_ble_eq_true rfl) ⟨_, rfl, by rw [decide_eq_false (by omega : ¬ (0 ≤ a ∧ a < f 2))]; rfl⟩
    ·
      refine g_iconst C dX3_isFold_12 ?_
      refine g_goto C (tgt := 17) dX3_isFold_13 (by decide) ?_
      refine g_nilA ?_
      exact g_iret C dX3_isFold_17 rfl (Nat.le_of_ble_eq_true rfl) (Nat.le_of_ble_eq_true rfl) ⟨_, rfl, by rw [decide_eq_true (by omega : 0 ≤ a ∧ a < f 2)]; rfl⟩

section MK
variable {p : Program} {l : Launch} {e : Env} {R : Room} {s : State} {mm : MethodId} {args : Array Value} {below : List Frame} {meth : Method} {c : Code} {cc : ByteArray} {nL : Nat} {ret : Option FieldType} {D : va_G} {A B : Nat → Prop} {cells slots : Nat} {Q : State → Prop} {pc : Nat} {lv : List (Nat × Value)} {st : List Value}
theorem kX3_X3_isFold {h : Nat → Nat} {f : Nat → Int} {g : Nat → Int → Int} (a : Int) (C : CX p l s mm args meth c RX3 cc nL ret D A) (hF : 1 ≤ f 2 ∧ f 2 ≤ 5) (ha : -2147483648 ≤ a ∧ a < 2147483648) (hR : 0 + 1 ≤ R.frames ∧ 8 + (2 + 11) + 64 * 0 ≤ R.locals) (hcat : (st.map fun v => v.category).sum ≤ 8) (hroom : cells ≤ R.cells ∧ slots ≤ R.slots) {rv : Int} (hr : bI (decide (0 ≤ a ∧ a < f 2)) = rv) (d : decode cc pc = .ok (.invokevirtual 123, 3)) (K : GO p l e R s mm args below meth c nL D A B cells slots Q (mW D h f g) (pc + 3) lv (.int (iI rv) :: st)) : GO p l e R s mm args below meth c nL D A B cells slots Q (mW D h f g) (pc) lv (.int (iI a) :: .ref (h 36) :: st) := by
  refine g_callVR C (c_X3_isFold l D C.hl h f g a hF ha) (As := [.int (iI a)]) (n := 1) (lw_V q1118 q1120 qs30 q69 q1121) (by decide +kernel) rfl rfl hR (rcv C 0 rfl rfl rfl) rfl rfl hcat ⟨hroom.1, hroom.2⟩ d Sb.rf exT_b hex_t (fun v w hp => ?_) kx_n
  obtain ⟨z, rfl, rfl⟩ := hp
  rw [hr]
  exact K
end MK
set_option maxHeartbeats 4000000 in
set_option maxRecDepth 100000 in
theorem c_X3_isStation (l : Launch) (D : va_G) (hst : l.stackTraces = false) (h : Nat → Nat) (f : Nat → Int) (g : Nat → Int → Int) (a : Int) (hS : 2 ≤ f 3 ∧ f 3 ≤ 6) (ha : -2147483648 ≤ a ∧ a < 2147483648) : CT l D yX3_isStation (ws_ yX3_isStation cX3_isStation 2 (some .boolean)) (rmD 0 0 0) (0) (0) mdR [.ref (h 36), .int (iI a)] (mW D h f g) exT (pI fun z _ => z = bI (decide (0 ≤ a ∧ a < f 3))) xN := by
  refine ct_R (lv := [(0, .ref (h 36)), (1, .int (iI a))]) RX3 (by decide) rfl rfl hst (Nat.le_of_ble_eq_true rfl) rfl ?_
  intro p e s mm args below meth c A C htab hex
  refine g_iload_n C dX3_isStation_0 rfl 1 rfl ?_
  refine g_if_lt C (tgt := 16) dX3_isStation_1 (by decide) (by omega) (fun hc1_1 => ?_) (fun hc1_1 => ?_)
  ·
    refine g_iconst C dX3_isStation_16 ?_
    refine g_nilA ?_
    exact g_iret C dX3_isStation_17 rfl (Nat.le_of_ble_eq_true rfl) (Nat.le_of_ble_eq_true rfl) ⟨_, rfl, by rw [decide_eq_false (by omega : ¬ (0 ≤ a ∧ a < f 3))]; rfl⟩
  ·
    refine g_iload_n C dX3_isStation_4 rfl 1 rfl ?_
    refine g_aload_n C dX3_isStation_5 rfl 0 rfl ?_
    refine gm_get3 C (v := f 3) rfl dX3_isStation_6 ?_
    refine g_icmp_ge C (tgt := 16) dX3_isStation_9 (by decide) (by omega) (by omega) (fun hc9_2 => ?_) (fun hc9_2 => ?_)
    ·
      refine g_iconst C dX3_isStation_16 ?_
      refine g_nilA ?_
      exact g_iret C dX3_isStation_17 rfl (Nat.le_of_ble_eq_true rfl) (Nat.le_of_ble_eq_true rfl) ⟨_, rfl, by rw [decide_eq_false (by omega : ¬ (0 ≤ a ∧ a < f 3))]; rfl⟩
    ·
      refine g_iconst C dX3_isStation_12 ?_
      refine g_goto C (tgt := 17) dX3_isStation_13 (by decide) ?_
      refine g_nilA ?_
      exact g_iret C dX3_isStation_17 rfl (Nat.le_of_ble_eq_true rfl) (Nat.le_of_ble_eq_true rfl) ⟨_, rfl, by rw [decide_eq_true (by omega : 0 ≤ a ∧ a < f 3)]; rfl⟩

section MK
variable {p : Program} {l : Launch} {e : Env} {R : Room} {s : State} {mm : MethodId} {args : Array Value} {below : List Frame} {meth : Method} {c : Code} {cc : ByteArray} {nL : Nat} {ret : Option FieldType} {D : va_G} {A B : Nat → Prop} {cells slots : Nat} {Q : State → Prop} {pc : Nat} {lv : List (Nat × Value)} {st : List Value}
theorem kX3_X3_isStation {h : Nat → Nat} {f : Nat → Int} {g : Nat → Int → Int} (a : Int) (C : CX p l s mm args meth c RX3 cc nL ret D A) (hS : 2 ≤ f 3 ∧ f 3 ≤ 6) (ha : -2147483648 ≤ a ∧ a < 2147483648) (hR : 0 + 1 ≤ R.frames ∧ 8 + (2 + 11) + 64 * 0 ≤ R.locals) (hcat : (st.map fun v => v.category).sum ≤ 8) (hroom : cells ≤ R.cells ∧ slots ≤ R.slots) {rv : Int} (hr : bI (decide (0 ≤ a ∧ a < f 3)) = rv) (d : decode cc pc = .ok (.invokevirtual 130, 3)) (K : GO p l e R s mm args below meth c nL D A B cells slots Q (mW D h f g) (pc + 3) lv (.int (iI rv) :: st)) : GO p l e R s mm args below meth c nL D A B cells slots Q (mW D h f g) (pc) lv (.int (iI a) :: .ref (h 36) :: st) := by
  refine g_callVR C (c_X3_isStation l D C.hl h f g a hS ha) (As := [.int (iI a)]) (n := 1) (lw_V q1138 q1140 qs32 q69 q1141) (by decide +kernel) rfl rfl hR (rcv C 0 rfl rfl rfl) rfl rfl hcat ⟨hroom.1, hroom.2⟩ d Sb.rf exT_b hex_t (fun v w hp => ?_) kx_n
  obtain ⟨z, rfl, rfl⟩ := hp
  rw [hr]
  exact K
end MK
set_option maxHeartbeats 4000000 in
set_option maxRecDepth 100000 in
theorem c_X3_isPart (l : Launch) (D : va_G) (hst : l.stackTraces = false) (h : Nat → Nat) (f : Nat → Int) (g : Nat → Int → Int) (a : Int) (hnp : 0 ≤ f 8 ∧ f 8 ≤ 55) (ha : -2147483648 ≤ a ∧ a < 2147483648) : CT l D yX3_isPart (ws_ yX3_isPart cX3_isPart 2 (some .boolean)) (rmD 0 0 0) (0) (0) mdR [.ref (h 36), .int (iI a)] (mW D h f g) exT (pI fun z _ => z = bI (decide (0 ≤ a ∧ a < f 8))) xN := by
  refine ct_R (lv := [(0, .ref (h 36)), (1, .int (iI a))]) RX3 (by decide) rfl rfl hst (Nat.le_of_ble_eq_true rfl) rfl ?_
  intro p e s mm args below meth c A C htab hex
  refine g_iload_n C dX3_isPart_0 rfl 1 rfl ?_
  refine g_if_lt C (tgt := 16) dX3_isPart_1 (by decide) (by omega) (fun hc1_1 => ?_) (fun hc1_1 => ?_)
  ·
    refine g_iconst C dX3_isPart_16 ?_
    refine g_nilA ?_
    exact g_iret C dX3_isPart_17 rfl (Nat.le_of_ble_eq_true rfl) (Nat.le_of_ble_eq_true rfl) ⟨_, rfl, by rw [decide_eq_false (by omega : ¬ (0 ≤ a ∧ a < f 8))]; rfl⟩
  ·
    refine g_iload_n C dX3_isPart_4 rfl 1 rfl ?_
    refine g_aload_n C dX3_isPart_5 rfl 0 rfl ?_
    refine gm_get8 C (v := f 8) rfl dX3_isPart_6 ?_
    refine g_icmp_ge C (tgt := 16) dX3_isPart_9 (by decide) (by omega) (by omega) (fun hc9_2 => ?_) (fun hc9_2 => ?_)
    ·
      refine g_iconst C dX3_isPart_16 ?_
      refine g_nilA ?_
      exact g_iret C dX3_isPart_17 rfl (Nat.le_of_ble_eq_true rfl) (Nat.le_of_ble_eq_true rfl) ⟨_, rfl, by rw [decide_eq_false (by omega : ¬ (0 ≤ a ∧ a < f 8))]; rfl⟩
    ·
      refine g_iconst C dX3_isPart_12 ?_
      refine g_goto C (tgt := 17) dX3_isPart_13 (by decide) ?_
      refine g_nilA ?_
      exact g_iret C dX3_isPart_17 rfl (Nat.le_of_ble_eq_true rfl) (Nat.le_of_ble_eq_true rfl) ⟨_, rfl, by rw [decide_eq_true (by omega : 0 ≤ a ∧ a < f 8)]; rfl⟩

section MK
variable {p : Program} {l : Launch} {e : Env} {R : Room} {s : State} {mm : MethodId} {args : Array Value} {below : List Frame} {meth : Method} {c : Code} {cc : ByteArray} {nL : Nat} {ret : Option FieldType} {D : va_G} {A B : Nat → Prop} {cells slots : Nat} {Q : State → Prop} {pc : Nat} {lv : List (Nat × Value)} {st : List Value}
theorem kX3_X3_isPart {h : Nat → Nat} {f : Nat → Int} {g : Nat → Int → Int} (a : Int) (C : CX p l s mm args meth c RX3 cc nL ret D A) (hnp : 0 ≤ f 8 ∧ f 8 ≤ 55) (ha : -2147483648 ≤ a ∧ a < 2147483648) (hR : 0 + 1 ≤ R.frames ∧ 8 + (2 + 11) + 64 * 0 ≤ R.locals) (hcat : (st.map fun v => v.category).sum ≤ 8) (hroom : cells ≤ R.cells ∧ slots ≤ R.slots) {rv : Int} (hr : bI (decide (0 ≤ a ∧ a < f 8)) = rv) (d : decode cc pc = .ok (.invokevirtual 133, 3)) (K : GO p l e R s mm args below meth c nL D A B cells slots Q (mW D h f g) (pc + 3) lv (.int (iI rv) :: st)) : GO p l e R s mm args below meth c nL D A B cells slots Q (mW D h f g) (pc) lv (.int (iI a) :: .ref (h 36) :: st) := by
  refine g_callVR C (c_X3_isPart l D C.hl h f g a hnp ha) (As := [.int (iI a)]) (n := 1) (lw_V q1150 q1152 qs33 q69 q1153) (by decide +kernel) rfl rfl hR (rcv C 0 rfl rfl rfl) rfl rfl hcat ⟨hroom.1, hroom.2⟩ d Sb.rf exT_b hex_t (fun v w hp => ?_) kx_n
  obtain ⟨z, rfl, rfl⟩ := hp
  rw [hr]
  exact K
end MK
set_option maxHeartbeats 4000000 in
set_option maxRecDepth 100000 in
theorem c_X3_isPlan (l : Launch) (D : va_G) (hst : l.stackTraces = false) (h : Nat → Nat) (f : Nat → Int) (g : Nat → Int → Int) (a : Int) (hpl : 0 ≤ f 7 ∧ f 7 ≤ 8) (ha : -2147483648 ≤ a ∧ a < 2147483648) : CT l D yX3_isPlan (ws_ yX3_isPlan cX3_isPlan 2 (some .boolean)) (rmD 0 0 0) (0) (0) mdR [.ref (h 36), .int (iI a)] (mW D h f g) exT (pI fun z _ => z = bI (decide (0 ≤ a ∧ a < f 7))) xN := by
  refine ct_R (lv := [(0, .ref (h 36)), (1, .int (iI a))]) RX3 (by decide) rfl rfl hst (Nat.le_of_ble_eq_true rfl) rfl ?_
  intro p e s mm args below meth c A C htab hex
  refine g_iload_n C dX3_isPlan_0 rfl 1 rfl ?_
  refine g_if_lt C (tgt := 16) dX3_isPlan_1 (by decide) (by omega) (fun hc1_1 => ?_) (fun hc1_1 => ?_)
  ·
    refine g_iconst C dX3_isPlan_16 ?_
    refine g_nilA ?_
    exact g_iret C dX3_isPlan_17 rfl (Nat.le_of_ble_eq_true rfl) (Nat.le_of_ble_eq_true rfl) ⟨_, rfl, by rw [decide_eq_false (by omega : ¬ (0 ≤ a ∧ a < f 7))]; rfl⟩
  ·
    refine g_iload_n C dX3_isPlan_4 rfl 1 rfl ?_
    refine g_aload_n C dX3_isPlan_5 rfl 0 rfl ?_
    refine gm_get7 C (v := f 7) rfl dX3_isPlan_6 ?_
    refine g_icmp_ge C (tgt := 16) dX3_isPlan_9 (by decide) (by omega) (by omega) (fun hc9_2 => ?_) (fun hc9_2 => ?_)
    ·
      refine g_iconst C dX3_isPlan_16 ?_
      refine g_nilA ?_
      exact g_iret C dX3_isPlan_17 rfl (Nat.le_of_ble_eq_true rfl) (Nat.le_of_ble_eq_true rfl) ⟨_, rfl, by rw [decide_eq_false (by omega : ¬ (0 ≤ a ∧ a < f 7))]; rfl⟩
    ·
      refine g_iconst C dX3_isPlan_12 ?_
      refine g_goto C (tgt := 17) dX3_isPlan_13 (by decide) ?_
      refine g_nilA ?_
      exact g_iret C dX3_isPlan_17 rfl (Nat.le_of_ble_eq_true rfl) (Nat.le_of_ble_eq_true rfl) ⟨_, rfl, by rw [decide_eq_true (by omega : 0 ≤ a ∧ a < f 7)]; rfl⟩

section MK
variable {p : Program} {l : Launch} {e : Env} {R : Room} {s : State} {mm : MethodId} {args : Array Value} {below : List Frame} {meth : Method} {c : Code} {cc : ByteArray} {nL : Nat} {ret : Option FieldType} {D : va_G} {A B : Nat → Prop} {cells slots : Nat} {Q : State → Prop} {pc : Nat} {lv : List (Nat × Value)} {st : List Value}
theorem kX3_X3_isPlan {h : Nat → Nat} {f : Nat → Int} {g : Nat → Int → Int} (a : Int) (C : CX p l s mm args meth c RX3 cc nL ret D A) (hpl : 0 ≤ f 7 ∧ f 7 ≤ 8) (ha : -2147483648 ≤ a ∧ a < 2147483648) (hR : 0 + 1 ≤ R.frames ∧ 8 + (2 + 11) + 64 * 0 ≤ R.locals) (hcat : (st.map fun v => v.category).sum ≤ 8) (hroom : cells ≤ R.cells ∧ slots ≤ R.slots) {rv : Int} (hr : bI (decide (0 ≤ a ∧ a < f 7)) = rv) (d : decode cc pc = .ok (.invokevirtual 181, 3)) (K : GO p l e R s mm args below meth c nL D A B cells slots Q (mW D h f g) (pc + 3) lv (.int (iI rv) :: st)) : GO p l e R s mm args below meth c nL D A B cells slots Q (mW D h f g) (pc) lv (.int (iI a) :: .ref (h 36) :: st) := by
  refine g_callVR C (c_X3_isPlan l D C.hl h f g a hpl ha) (As := [.int (iI a)]) (n := 1) (lw_V q1216 q1218 qs37 q69 q1219) (by decide +kernel) rfl rfl hR (rcv C 0 rfl rfl rfl) rfl rfl hcat ⟨hroom.1, hroom.2⟩ d Sb.rf exT_b hex_t (fun v w hp => ?_) kx_n
  obtain ⟨z, rfl, rfl⟩ := hp
  rw [hr]
  exact K
end MK
set_option maxHeartbeats 4000000 in
set_option maxRecDepth 100000 in
theorem c_X3_thrown (l : Launch) (D : va_G) (hst : l.stackTraces = false) (h : Nat → Nat) (f : Nat → Int) (g : Nat → Int → Int)   : CT l D yX3_thrown (ws_ yX3_thrown cX3_thrown 1 (some .int)) (rmD 0 0 0) (0) (0) mdR [.ref (h 36)] (mW D h f g) exT (pI fun z _ => z = f 1) xN := by
  refine ct_R (lv := [(0, .ref (h 36))]) RX3 (by decide) rfl rfl hst (Nat.le_of_ble_eq_true rfl) rfl ?_
  intro p e s mm args below meth c A C htab hex
  refine g_aload_n C dX3_thrown_0 rfl 0 rfl ?_
  refine gm_get1 C (v := f 1) rfl dX3_thrown_1 ?_
  refine g_nilA ?_
  exact g_iret C dX3_thrown_4 rfl (Nat.le_of_ble_eq_true rfl) (Nat.le_of_ble_eq_true rfl) ⟨_, rfl, rfl⟩

set_option maxHeartbeats 4000000 in
set_option maxRecDepth 100000 in
theorem c_X3_parts (l : Launch) (D : va_G) (hst : l.stackTraces = false) (h : Nat → Nat) (f : Nat → Int) (g : Nat → Int → Int)   : CT l D yX3_parts (ws_ yX3_parts cX3_parts 1 (some .int)) (rmD 0 0 0) (0) (0) va_A [.ref (h 36)] (mW D h f g) exT (pI fun z w => z = f 8 ∧ w = mW D h (up f 1 0) g) xN := by
  refine ct_U (lv := [(0, .ref (h 36))]) RX3 (by decide) rfl rfl hst (Nat.le_of_ble_eq_true rfl) rfl ?_
  intro p e s mm args below meth c A C htab hex hnm
  refine g_aload_n C dX3_parts_0 rfl 0 rfl ?_
  refine g_iconst C dX3_parts_1 ?_
  refine gm_put1 C (f' := (up f 1 0)) rfl dX3_parts_2 ?_
  refine g_aload_n C dX3_parts_5 rfl 0 rfl ?_
  refine gm_get8 C (v := f 8) rfl dX3_parts_6 ?_
  exact g_iret C dX3_parts_9 rfl (Nat.le_of_ble_eq_true rfl) (Nat.le_of_ble_eq_true rfl) ⟨_, rfl, rfl, rfl⟩

set_option maxHeartbeats 4000000 in
set_option maxRecDepth 100000 in
theorem c_X3_fault (l : Launch) (D : va_G) (hst : l.stackTraces = false) (h : Nat → Nat) (f : Nat → Int) (g : Nat → Int → Int)   : CT l D yX3_fault (ws_ yX3_fault cX3_fault 1 (some .int)) (rmD 0 0 0) (0) (0) va_A [.ref (h 36)] (mW D h f g) exT (pI fun z w => z = f 6 ∧ w = mW D h (up f 1 0) g) xN := by
  refine ct_U (lv := [(0, .ref (h 36))]) RX3 (by decide) rfl rfl hst (Nat.le_of_ble_eq_true rfl) rfl ?_
  intro p e s mm args below meth c A C htab hex hnm
  refine g_aload_n C dX3_fault_0 rfl 0 rfl ?_
  refine g_iconst C dX3_fault_1 ?_
  refine gm_put1 C (f' := (up f 1 0)) rfl dX3_fault_2 ?_
  refine g_aload_n C dX3_fault_5 rfl 0 rfl ?_
  refine gm_get6 C (v := f 6) rfl dX3_fault_6 ?_
  exact g_iret C dX3_fault_9 rfl (Nat.le_of_ble_eq_true rfl) (Nat.le_of_ble_eq_true rfl) ⟨_, rfl, rfl, rfl⟩

set_option maxHeartbeats 4000000 in
set_option maxRecDepth 100000 in
theorem c_X3_part (l : Launch) (D : va_G) (hst : l.stackTraces = false) (h : Nat → Nat) (f : Nat → Int) (g : Nat → Int → Int) (pf_ ps_ pk_ : Int) (hr8 : 0 ≤ f 8 ∧ f 8 < 55) : CT l D yX3_part (ws_ yX3_part cX3_part 4 none) (rmD 0 0 0) (0) (0) va_A [.ref (h 36), .int (iI pf_), .int (iI ps_), .int (iI pk_)] (mW D h f g) exT (pV fun w => w = mW D h (up f 8 (f 8 + 1)) (ug (ug (ug (ug g 14 (uI (g 14) (f 8) pf_)) 15 (uI (g 15) (f 8) ps_)) 16 (uI (g 16) (f 8) pk_)) 17 (uI (g 17) (f 8) 1))) xN := by
  refine ct_U (lv := [(0, .ref (h 36)), (1, .int (iI pf_)), (2, .int (iI ps_)), (3, .int (iI pk_))]) RX3 (by decide) rfl rfl hst (Nat.le_of_ble_eq_true rfl) rfl ?_
  intro p e s mm args below meth c A C htab hex hnm
  refine g_aload_n C dX3_part_0 rfl 0 rfl ?_
  refine gm_get14 C dX3_part_1 ?_
  refine g_aload_n C dX3_part_4 rfl 0 rfl ?_
  refine gm_get8 C (v := f 8) rfl dX3_part_5 ?_
  refine g_iload_n C dX3_part_8 rfl 1 rfl ?_
  refine gm_ast14 C (g' := (ug g 14 (uI (g 14) (f 8) pf_))) rfl dX3_part_9 (by omega) ?_
  refine g_aload_n C dX3_part_10 rfl 0 rfl ?_
  refine gm_get15 C dX3_part_11 ?_
  refine g_aload_n C dX3_part_14 rfl 0 rfl ?_
  refine gm_get8 C (v := f 8) rfl dX3_part_15 ?_
  refine g_iload_n C dX3_part_18 rfl 2 rfl ?_
  refine gm_ast15 C (g' := (ug (ug g 14 (uI (g 14) (f 8) pf_)) 15 (uI (g 15) (f 8) ps_))) rfl dX3_part_19 (by omega) ?_
  refine g_aload_n C dX3_part_20 rfl 0 rfl ?_
  refine gm_get16 C dX3_part_21 ?_
  refine g_aload_n C dX3_part_24 rfl 0 rfl ?_
  refine gm_get8 C (v := f 8) rfl dX3_part_25 ?_
  refine g_iload_n C dX3_part_28 rfl 3 rfl ?_
  refine gm_ast16 C (g' := (ug (ug (ug g 14 (uI (g 14) (f 8) pf_)) 15 (uI (g 15) (f 8) ps_)) 16 (uI (g 16) (f 8) pk_))) rfl dX3_part_29 (by omega) ?_
  refine g_aload_n C dX3_part_30 rfl 0 rfl ?_
  refine gm_get17 C dX3_part_31 ?_
  refine g_aload_n C dX3_part_34 rfl 0 rfl ?_
  refine gm_get8 C (v := f 8) rfl dX3_part_35 ?_
  refine g_iconst C dX3_part_38 ?_
  refine gm_ast17 C (g' := (ug (ug (ug (ug g 14 (uI (g 14) (f 8) pf_)) 15 (uI (g 15) (f 8) ps_)) 16 (uI (g 16) (f 8) pk_)) 17 (uI (g 17) (f 8) 1))) rfl dX3_part_39 (by omega) rfl ?_
  refine g_aload_n C dX3_part_40 rfl 0 rfl ?_
  refine g_dup C dX3_part_41 rfl ?_
  refine gm_get8 C (v := f 8) rfl dX3_part_42 ?_
  refine g_iconst C dX3_part_45 ?_
  refine g_iadd C dX3_part_46 ?_
  refine gm_put8 C (f' := (up f 8 ((f 8) + 1))) rfl dX3_part_47 ?_
  exact g_vret C dX3_part_50 (Nat.le_of_ble_eq_true rfl) (Nat.le_of_ble_eq_true rfl) ⟨rfl, rfl⟩

section MK
variable {p : Program} {l : Launch} {e : Env} {R : Room} {s : State} {mm : MethodId} {args : Array Value} {below : List Frame} {meth : Method} {c : Code} {cc : ByteArray} {nL : Nat} {ret : Option FieldType} {D : va_G} {A B : Nat → Prop} {cells slots : Nat} {Q : State → Prop} {pc : Nat} {lv : List (Nat × Value)} {st : List Value}
theorem kX3_X3_part {h : Nat → Nat} {f : Nat → Int} {g : Nat → Int → Int} (pf_ ps_ pk_ : Int) (C : CX p l s mm args meth c RX3 cc nL ret D A) (hr8 : 0 ≤ f 8 ∧ f 8 < 55) (hR : 0 + 1 ≤ R.frames ∧ 8 + (4 + 11) + 64 * 0 ≤ R.locals) (hcat : (st.map fun v => v.category).sum ≤ 8) (hroom : cells ≤ R.cells ∧ slots ≤ R.slots) (d : decode cc pc = .ok (.invokevirtual 119, 3)) (K : GO p l e R s mm args below meth c nL D A A cells slots Q (mW D h (up f 8 (f 8 + 1)) (ug (ug (ug (ug g 14 (uI (g 14) (f 8) pf_)) 15 (uI (g 15) (f 8) ps_)) 16 (uI (g 16) (f 8) pk_)) 17 (uI (g 17) (f 8) 1))) (pc + 3) lv (st)) : GO p l e R s mm args below meth c nL D A A cells slots Q (mW D h f g) (pc) lv (.int (iI pk_) :: .int (iI ps_) :: .int (iI pf_) :: .ref (h 36) :: st) := by
  refine g_callVU C (c_X3_part l D C.hl h f g pf_ ps_ pk_ hr8) (As := [.int (iI pf_), .int (iI ps_), .int (iI pk_)]) (n := 3) (lw_V q993 q995 qs29 q69 q996) (by decide +kernel) rfl rfl hR (rcv C 0 rfl rfl rfl) rfl rfl hcat ⟨hroom.1, hroom.2⟩ d (wr := []) Sb.rf exT_b hex_t (fun v w hp => ?_) kx_nu
  obtain ⟨rfl, rfl⟩ := hp
  exact K 
end MK

set_option maxHeartbeats 4000000 in
set_option maxRecDepth 100000 in
theorem c_X3_lay (l : Launch) (D : va_G) (hst : l.stackTraces = false) (h : Nat → Nat) (f : Nat → Int) (g : Nat → Int → Int)  (hF : 1 ≤ f 2 ∧ f 2 ≤ 5) (hS : 2 ≤ f 3 ∧ f 3 ≤ 6) (hkd : ∀ j, 0 ≤ j → j < 6 → 0 ≤ g 12 j ∧ g 12 j ≤ 3) : CT l D yX3_lay (ws_ yX3_lay cX3_lay 3 none) (rmD 1 0 0) (0) (0) va_A [.ref (h 36)] (mW D h f g) exT (pV fun w => ∃ np : Int, ∃ x14 : Int → Int, ∃ x15 : Int → Int, ∃ x16 : Int → Int, ∃ x17 : Int → Int, (PA (paL (f 3).toNat (g 12) (f 2).toNat) np x14 x15 x16 x17) ∧ w = mW D h (up f 8 np) (ug (ug (ug (ug g 14 x14) 15 x15) 16 x16) 17 x17)) xN := by
  refine ct_U (lv := [(0, .ref (h 36))]) RX3 (by decide) rfl rfl hst (Nat.le_of_ble_eq_true rfl) rfl ?_
  intro p e s mm args below meth c A C htab hex hnm
  refine g_aload_n C dX3_lay_0 rfl 0 rfl ?_
  refine g_iconst C dX3_lay_1 ?_
  refine gm_put8 C (f' := (up f 8 0)) rfl dX3_lay_2 ?_
  refine g_iconst C dX3_lay_5 ?_
  refine g_istore_n C dX3_lay_6 rfl (lv' := [(0, .ref (h 36)), (1, .int (iI 0))]) [1, 0] rfl (Nat.le_of_ble_eq_true rfl) ?_
  have L1 : ∀ (n : Nat) (i : Int) (np : Int) (x14 : Int → Int) (x15 : Int → Int) (x16 : Int → Int) (x17 : Int → Int), (0 ≤ i ∧ i ≤ f 2) → (PA (paL (f 3).toNat (g 12) i.toNat) np x14 x15 x16 x17) → (f 2 - i).toNat < n → GO p l e (rmD 1 0 0) s mm args below meth c 3 D A A 0 0 (MX below D A (pV fun w => ∃ np : Int, ∃ x14 : Int → Int, ∃ x15 : Int → Int, ∃ x16 : Int → Int, ∃ x17 : Int → Int, (PA (paL (f 3).toNat (g 12) (f 2).toNat) np x14 x15 x16 x17) ∧ w = mW D h (up f 8 np) (ug (ug (ug (ug g 14 x14) 15 x15) 16 x16) 17 x17)) xN args s (0) (0)) (mW D h (up f 8 np) (ug (ug (ug (ug g 14 x14) 15 x15) 16 x16) 17 x17)) 7 [(0, .ref (h 36)), (1, .int (iI i))] [] := by
    intro n
    induction n with
    | zero => intro i np x14 x15 x16 x17 hi hPA hm; exact absurd hm (Nat.not_lt_zero _)
    | succ n ih1 =>
      intro i np x14 x15 x16 x17 hi hPA hm1
      refine g_iload_n C dX3_lay_7 rfl 1 rfl ?_
      refine g_aload_n C dX3_lay_8 rfl 0 rfl ?_
      refine gm_get2 C (v := f 2) rfl dX3_lay_9 ?_
      refine g_icmp_ge C (tgt := 114) dX3_lay_12 (by decide) (by omega) (by omega) (fun hc12_2 => ?_) (fun hc12_2 => ?_)
      ·
        exact g_vret C dX3_lay_114 (Nat.le_of_ble_eq_true rfl) (Nat.le_of_ble_eq_true rfl) ⟨rfl, np, x14, x15, x16, x17, (hPA.to (by rw [show i = f 2 by omega])), rfl⟩
      ·
        refine g_iconst C dX3_lay_15 ?_
        refine g_istore_n C dX3_lay_16 rfl (lv' := [(0, .ref (h 36)), (1, .int (iI i)), (2, .int (iI 0))]) [1, 2, 0] rfl (Nat.le_of_ble_eq_true rfl) ?_
        have L3 : ∀ (n : Nat) (k : Int) (np : Int) (x14 : Int → Int) (x15 : Int → Int) (x16 : Int → Int) (x17 : Int → Int), (0 ≤ k ∧ k ≤ f 3 - 1) → (PA (paL (f 3).toNat (g 12) i.toNat ++ rnL i k.toNat) np x14 x15 x16 x17) → (f 3 - k).toNat < n → GO p l e (rmD 1 0 0) s mm args below meth c 3 D A A 0 0 (MX below D A (pV fun w => ∃ np : Int, ∃ x14 : Int → Int, ∃ x15 : Int → Int, ∃ x16 : Int → Int, ∃ x17 : Int → Int, (PA (paL (f 3).toNat (g 12) (f 2).toNat) np x14 x15 x16 x17) ∧ w = mW D h (up f 8 np) (ug (ug (ug (ug g 14 x14) 15 x15) 16 x16) 17 x17)) xN args s (0) (0)) (mW D h (up f 8 np) (ug (ug (ug (ug g 14 x14) 15 x15) 16 x16) 17 x17)) 17 [(0, .ref (h 36)), (1, .int (iI i)), (2, .int (iI k))] [] := by
          intro n
          induction n with
          | zero => intro k np x14 x15 x16 x17 hk hPA1 hm; exact absurd hm (Nat.not_lt_zero _)
          | succ n ih3 =>
            intro k np x14 x15 x16 x17 hk hPA1 hm3
            have hb0 := paL_55 (S := (f 3).toNat) (F := i.toNat) (kd := g 12) (by omega) (by omega)
            have hlen := hPA1.1
            simp only [List.length_append, rnL_l] at hlen
            have hr8 : 0 ≤ np ∧ np < 55 := by omega
            refine g_iload_n C dX3_lay_17 rfl 2 rfl ?_
            refine g_iconst C dX3_lay_18 ?_
            refine g_iadd C dX3_lay_19 ?_
            refine g_aload_n C dX3_lay_20 rfl 0 rfl ?_
            refine gm_get3 C (v := f 3) rfl dX3_lay_21 ?_
            refine g_icmp_ge C (tgt := 40) dX3_lay_24 (by decide) (by omega) (by omega) (fun hc24_4 => ?_) (fun hc24_4 => ?_)
            ·
              refine g_iconst C dX3_lay_40 ?_
              refine g_istore_n C dX3_lay_41 rfl (lv' := [(0, .ref (h 36)), (1, .int (iI i)), (2, .int (iI 0))]) [1, 2, 0] rfl (Nat.le_of_ble_eq_true rfl) ?_
              have L5 : ∀ (n : Nat) (k : Int) (np : Int) (x14 : Int → Int) (x15 : Int → Int) (x16 : Int → Int) (x17 : Int → Int), (0 ≤ k ∧ k ≤ f 3) → (PA (paL (f 3).toNat (g 12) i.toNat ++ rnL i ((f 3).toNat - 1) ++ ppL i (f 3).toNat (g 12) k.toNat 2 1) np x14 x15 x16 x17) → (f 3 - k).toNat < n → GO p l e (rmD 1 0 0) s mm args below meth c 3 D A A 0 0 (MX below D A (pV fun w => ∃ np : Int, ∃ x14 : Int → Int, ∃ x15 : Int → Int, ∃ x16 : Int → Int, ∃ x17 : Int → Int, (PA (paL (f 3).toNat (g 12) (f 2).toNat) np x14 x15 x16 x17) ∧ w = mW D h (up f 8 np) (ug (ug (ug (ug g 14 x14) 15 x15) 16 x16) 17 x17)) xN args s (0) (0)) (mW D h (up f 8 np) (ug (ug (ug (ug g 14 x14) 15 x15) 16 x16) 17 x17)) 42 [(0, .ref (h 36)), (1, .int (iI i)), (2, .int (iI k))] [] := by
                intro n
                induction n with
                | zero => intro k np x14 x15 x16 x17 hk hPA2 hm; exact absurd hm (Nat.not_lt_zero _)
                | succ n ih5 =>
                  intro k np x14 x15 x16 x17 hk hPA2 hm5
                  have hb0 := paL_55 (S := (f 3).toNat) (F := i.toNat) (kd := g 12) (by omega) (by omega)
                  have hb2 := ppL_le i (f 3).toNat (g 12) 2 1 k.toNat
                  have hlen := hPA2.1
                  simp only [List.length_append, rnL_l] at hlen
                  have hr8 : 0 ≤ np ∧ (k < f 3 → np < 55) := by omega
                  refine g_iload_n C dX3_lay_42 rfl 2 rfl ?_
                  refine g_aload_n C dX3_lay_43 rfl 0 rfl ?_
                  refine gm_get3 C (v := f 3) rfl dX3_lay_44 ?_
                  refine g_icmp_ge C (tgt := 73) dX3_lay_47 (by decide) (by omega) (by omega) (fun hc47_6 => ?_) (fun hc47_6 => ?_)
                  ·
                    refine g_iconst C dX3_lay_73 ?_
                    refine g_istore_n C dX3_lay_74 rfl (lv' := [(0, .ref (h 36)), (1, .int (iI i)), (2, .int (iI 0))]) [1, 2, 0] rfl (Nat.le_of_ble_eq_true rfl) ?_
                    have L7 : ∀ (n : Nat) (k : Int) (np : Int) (x14 : Int → Int) (x15 : Int → Int) (x16 : Int → Int) (x17 : Int → Int), (0 ≤ k ∧ k ≤ f 3 - 1) → (PA (paL (f 3).toNat (g 12) i.toNat ++ rnL i ((f 3).toNat - 1) ++ ppL i (f 3).toNat (g 12) (f 3).toNat 2 1 ++ ppL i (f 3).toNat (g 12) k.toNat 3 2) np x14 x15 x16 x17) → (f 3 - k).toNat < n → GO p l e (rmD 1 0 0) s mm args below meth c 3 D A A 0 0 (MX below D A (pV fun w => ∃ np : Int, ∃ x14 : Int → Int, ∃ x15 : Int → Int, ∃ x16 : Int → Int, ∃ x17 : Int → Int, (PA (paL (f 3).toNat (g 12) (f 2).toNat) np x14 x15 x16 x17) ∧ w = mW D h (up f 8 np) (ug (ug (ug (ug g 14 x14) 15 x15) 16 x16) 17 x17)) xN args s (0) (0)) (mW D h (up f 8 np) (ug (ug (ug (ug g 14 x14) 15 x15) 16 x16) 17 x17)) 75 [(0, .ref (h 36)), (1, .int (iI i)), (2, .int (iI k))] [] := by
                      intro n
                      induction n with
                      | zero => intro k np x14 x15 x16 x17 hk hPA3 hm; exact absurd hm (Nat.not_lt_zero _)
                      | succ n ih7 =>
                        intro k np x14 x15 x16 x17 hk hPA3 hm7
                        have hb0 := paL_55 (S := (f 3).toNat) (F := i.toNat) (kd := g 12) (by omega) (by omega)
                        have hb3 := ppL_tw (f := i) (S := (f 3).toNat) (kd := g 12) (k := k.toNat) (by omega)
                        have hlen := hPA3.1
                        simp only [List.length_append, rnL_l] at hlen
                        refine g_iload_n C dX3_lay_75 rfl 2 rfl ?_
                        refine g_iconst C dX3_lay_76 ?_
                        refine g_iadd C dX3_lay_77 ?_
                        refine g_aload_n C dX3_lay_78 rfl 0 rfl ?_
                        refine gm_get3 C (v := f 3) rfl dX3_lay_79 ?_
                        refine g_icmp_ge C (tgt := 108) dX3_lay_82 (by decide) (by omega) (by omega) (fun hc82_8 => ?_) (fun hc82_8 => ?_)
                        ·
                          refine g_iinc C dX3_lay_108 1 rfl (lv' := [(0, .ref (h 36)), (1, .int (iI (i + 1))), (2, .int (iI k))]) [1, 0, 2] rfl (Nat.le_of_ble_eq_true rfl) ?_
                          refine g_goto C (tgt := 7) dX3_lay_111 (by decide) ?_
                          refine g_lv [0, 1] rfl ?_
                          exact ih1 (i + 1) np x14 x15 x16 x17 (by omega) (hPA3.to (by rw [paL_t hi.1, show k = f 3 - 1 by omega, show (f 3 - 1).toNat = (f 3).toNat - 1 by omega])) (by omega)
                        ·
                          refine g_aload_n C dX3_lay_85 rfl 0 rfl ?_
                          refine gm_get12 C dX3_lay_86 ?_
                          refine g_iload_n C dX3_lay_89 rfl 2 rfl ?_
                          refine gm_ald12 C (v := (g 12) k) rfl dX3_lay_90 (by omega) ?_
                          have hf9 := hkd (k) (by omega) (by omega)
                          refine g_iconst C dX3_lay_91 ?_
                          refine g_icmp_ne C (tgt := 102) dX3_lay_92 (by decide) (by omega) (by omega) (fun hc92_10 => ?_) (fun hc92_10 => ?_)
                          ·
                            refine g_iinc C dX3_lay_102 2 rfl (lv' := [(0, .ref (h 36)), (1, .int (iI i)), (2, .int (iI (k + 1)))]) [1, 2, 0] rfl (Nat.le_of_ble_eq_true rfl) ?_
                            refine g_goto C (tgt := 75) dX3_lay_105 (by decide) ?_
                            exact ih7 (k + 1) np x14 x15 x16 x17 (by omega) (hPA3.to (by rw [ppL_tn hk.1 (by omega)])) (by omega)
                          ·
                            have hb4 := ppL_tw (f := i) (S := (f 3).toNat) (kd := g 12) (k := (k + 1).toNat) (by omega)
                            rw [ppL_ty hk.1 (by omega), List.length_append] at hb4
                            have hb5 : ([(i, k, (2 : Int))]).length = 1 := rfl
                            have hr8 : 0 ≤ np ∧ np < 55 := by omega
                            refine g_aload_n C dX3_lay_95 rfl 0 rfl ?_
                            refine g_iload_n C dX3_lay_96 rfl 1 rfl ?_
                            refine g_iload_n C dX3_lay_97 rfl 2 rfl ?_
                            refine g_iconst C dX3_lay_98 ?_
                            refine kX3_X3_part i k 2 C hr8 ⟨Nat.le_of_ble_eq_true rfl, Nat.le_of_ble_eq_true rfl⟩ (Nat.le_of_ble_eq_true rfl) ⟨Nat.le_of_ble_eq_true rfl, Nat.le_of_ble_eq_true rfl⟩ dX3_lay_99 ?_
                            refine g_ws (ws' := mW D h (up f 8 (np + 1)) (ug (ug (ug (ug g 14 (uI (x14) (np) i)) 15 (uI (x15) (np) k)) 16 (uI (x16) (np) 2)) 17 (uI (x17) (np) 1))) rfl ?_
                            refine g_iinc C dX3_lay_102 2 rfl (lv' := [(0, .ref (h 36)), (1, .int (iI i)), (2, .int (iI (k + 1)))]) [1, 2, 0] rfl (Nat.le_of_ble_eq_true rfl) ?_
                            refine g_goto C (tgt := 75) dX3_lay_105 (by decide) ?_
                            exact ih7 (k + 1) (np + 1) (uI (x14) (np) i) (uI (x15) (np) k) (uI (x16) (np) 2) (uI (x17) (np) 1) (by omega) ((hPA3.push i k 2).to (by rw [ppL_ty hk.1 (by omega), List.append_assoc])) (by omega)
                    exact L7 _ 0 np x14 x15 x16 x17 (by omega) (hPA2.to (by rw [show k = f 3 by omega]; show _ = _ ++ ppL i _ _ 0 3 2; rw [ppL_0, List.append_nil])) (Nat.lt_succ_self _)
                  ·
                    refine g_aload_n C dX3_lay_50 rfl 0 rfl ?_
                    refine gm_get12 C dX3_lay_51 ?_
                    refine g_iload_n C dX3_lay_54 rfl 2 rfl ?_
                    refine gm_ald12 C (v := (g 12) k) rfl dX3_lay_55 (by omega) ?_
                    have hf11 := hkd (k) (by omega) (by omega)
                    refine g_iconst C dX3_lay_56 ?_
                    refine g_icmp_ne C (tgt := 67) dX3_lay_57 (by decide) (by omega) (by omega) (fun hc57_12 => ?_) (fun hc57_12 => ?_)
                    ·
                      refine g_iinc C dX3_lay_67 2 rfl (lv' := [(0, .ref (h 36)), (1, .int (iI i)), (2, .int (iI (k + 1)))]) [1, 2, 0] rfl (Nat.le_of_ble_eq_true rfl) ?_
                      refine g_goto C (tgt := 42) dX3_lay_70 (by decide) ?_
                      exact ih5 (k + 1) np x14 x15 x16 x17 (by omega) (hPA2.to (by rw [ppL_tn hk.1 (by omega)])) (by omega)
                    ·
                      have hr8 : 0 ≤ np ∧ np < 55 := by omega
                      refine g_aload_n C dX3_lay_60 rfl 0 rfl ?_
                      refine g_iload_n C dX3_lay_61 rfl 1 rfl ?_
                      refine g_iload_n C dX3_lay_62 rfl 2 rfl ?_
                      refine g_iconst C dX3_lay_63 ?_
                      refine kX3_X3_part i k 1 C hr8 ⟨Nat.le_of_ble_eq_true rfl, Nat.le_of_ble_eq_true rfl⟩ (Nat.le_of_ble_eq_true rfl) ⟨Nat.le_of_ble_eq_true rfl, Nat.le_of_ble_eq_true rfl⟩ dX3_lay_64 ?_
                      refine g_ws (ws' := mW D h (up f 8 (np + 1)) (ug (ug (ug (ug g 14 (uI (x14) (np) i)) 15 (uI (x15) (np) k)) 16 (uI (x16) (np) 1)) 17 (uI (x17) (np) 1))) rfl ?_
                      refine g_iinc C dX3_lay_67 2 rfl (lv' := [(0, .ref (h 36)), (1, .int (iI i)), (2, .int (iI (k + 1)))]) [1, 2, 0] rfl (Nat.le_of_ble_eq_true rfl) ?_
                      refine g_goto C (tgt := 42) dX3_lay_70 (by decide) ?_
                      exact ih5 (k + 1) (np + 1) (uI (x14) (np) i) (uI (x15) (np) k) (uI (x16) (np) 1) (uI (x17) (np) 1) (by omega) ((hPA2.push i k 1).to (by rw [ppL_ty hk.1 (by omega), List.append_assoc])) (by omega)
              exact L5 _ 0 np x14 x15 x16 x17 (by omega) (hPA1.to (by rw [show k.toNat = (f 3).toNat - 1 by omega]; show _ = _ ++ ppL i _ _ 0 2 1; rw [ppL_0, List.append_nil])) (Nat.lt_succ_self _)
            ·
              refine g_aload_n C dX3_lay_27 rfl 0 rfl ?_
              refine g_iload_n C dX3_lay_28 rfl 1 rfl ?_
              refine g_iload_n C dX3_lay_29 rfl 2 rfl ?_
              refine g_iconst C dX3_lay_30 ?_
              refine kX3_X3_part i k 0 C hr8 ⟨Nat.le_of_ble_eq_true rfl, Nat.le_of_ble_eq_true rfl⟩ (Nat.le_of_ble_eq_true rfl) ⟨Nat.le_of_ble_eq_true rfl, Nat.le_of_ble_eq_true rfl⟩ dX3_lay_31 ?_
              refine g_ws (ws' := mW D h (up f 8 (np + 1)) (ug (ug (ug (ug g 14 (uI (x14) (np) i)) 15 (uI (x15) (np) k)) 16 (uI (x16) (np) 0)) 17 (uI (x17) (np) 1))) rfl ?_
              refine g_iinc C dX3_lay_34 2 rfl (lv' := [(0, .ref (h 36)), (1, .int (iI i)), (2, .int (iI (k + 1)))]) [1, 2, 0] rfl (Nat.le_of_ble_eq_true rfl) ?_
              refine g_goto C (tgt := 17) dX3_lay_37 (by decide) ?_
              exact ih3 (k + 1) (np + 1) (uI (x14) (np) i) (uI (x15) (np) k) (uI (x16) (np) 0) (uI (x17) (np) 1) (by omega) ((hPA1.push i k 0).to (by rw [rnL_t hk.1, List.append_assoc])) (by omega)
        exact L3 _ 0 np x14 x15 x16 x17 (by omega) (hPA.to (by show _ = _ ++ rnL i 0; simp [rnL])) (Nat.lt_succ_self _)
  exact L1 _ 0 0 (g 14) (g 15) (g 16) (g 17) (by omega) (PA.nil _ _ _ _) (Nat.lt_succ_self _)

section MK
variable {p : Program} {l : Launch} {e : Env} {R : Room} {s : State} {mm : MethodId} {args : Array Value} {below : List Frame} {meth : Method} {c : Code} {cc : ByteArray} {nL : Nat} {ret : Option FieldType} {D : va_G} {A B : Nat → Prop} {cells slots : Nat} {Q : State → Prop} {pc : Nat} {lv : List (Nat × Value)} {st : List Value}
theorem kX3_X3_lay {h : Nat → Nat} {f : Nat → Int} {g : Nat → Int → Int}  (C : CX p l s mm args meth c RX3 cc nL ret D A) (hF : 1 ≤ f 2 ∧ f 2 ≤ 5) (hS : 2 ≤ f 3 ∧ f 3 ≤ 6) (hkd : ∀ j, 0 ≤ j → j < 6 → 0 ≤ g 12 j ∧ g 12 j ≤ 3) (hR : 1 + 1 ≤ R.frames ∧ 8 + (3 + 11) + 64 * 1 ≤ R.locals) (hcat : (st.map fun v => v.category).sum ≤ 8) (hroom : cells ≤ R.cells ∧ slots ≤ R.slots) (d : decode cc pc = .ok (.invokevirtual 113, 3)) (K : ∀ (np : Int) (x14 : Int → Int) (x15 : Int → Int) (x16 : Int → Int) (x17 : Int → Int) , (PA (paL (f 3).toNat (g 12) (f 2).toNat) np x14 x15 x16 x17) → GO p l e R s mm args below meth c nL D A A cells slots Q (mW D h (up f 8 np) (ug (ug (ug (ug g 14 x14) 15 x15) 16 x16) 17 x17)) (pc + 3) lv (st)) : GO p l e R s mm args below meth c nL D A A cells slots Q (mW D h f g) (pc) lv (.ref (h 36) :: st) := by
  refine g_callVU C (c_X3_lay l D C.hl h f g  hF hS hkd) (As := []) (n := 0) (lw_V q989 q991 qs28 q69 q992) (by decide +kernel) rfl rfl hR (rcv C 0 rfl rfl rfl) rfl rfl hcat ⟨hroom.1, hroom.2⟩ d (wr := []) Sb.rf exT_b hex_t (fun v w hp => ?_) kx_nu
  obtain ⟨rfl, np, x14, x15, x16, x17, h0_, rfl⟩ := hp
  exact K np x14 x15 x16 x17 h0_
end MK

set_option maxHeartbeats 4000000 in
set_option maxRecDepth 100000 in
theorem c_X3_begin (l : Launch) (D : va_G) (hst : l.stackTraces = false) (h : Nat → Nat) (f : Nat → Int) (g : Nat → Int → Int) (bf bs : Int) (hbf : 1 ≤ bf ∧ bf ≤ 5) (hbs : 2 ≤ bs ∧ bs ≤ 6) : CT l D yX3_begin (ws_ yX3_begin cX3_begin 4 none) (rmD 2 0 0) (0) (0) va_A [.ref (h 36), .int (iI bf), .int (iI bs)] (mW D h f g) exT (pV fun w => ∃ np : Int, ∃ x14 : Int → Int, ∃ x15 : Int → Int, ∃ x16 : Int → Int, ∃ x17 : Int → Int, (PA (paL bs.toNat (fun _ => 0) bf.toNat) np x14 x15 x16 x17) ∧ w = mW D h (up (up (up (up (up (up f 2 bf) 3 bs) 4 1) 7 0) 8 np) 9 0) (ug (ug (ug (ug (ug (ug (ug g 10 (fun _ => 10)) 11 (fun j => 20 * j)) 12 (fun _ => 0)) 14 x14) 15 x15) 16 x16) 17 x17)) xN := by
  refine ct_U (lv := [(0, .ref (h 36)), (1, .int (iI bf)), (2, .int (iI bs))]) RX3 (by decide) rfl rfl hst (Nat.le_of_ble_eq_true rfl) rfl ?_
  intro p e s mm args below meth c A C htab hex hnm
  refine g_aload_n C dX3_begin_0 rfl 0 rfl ?_
  refine g_iload_n C dX3_begin_1 rfl 1 rfl ?_
  refine gm_put2 C (f' := (up f 2 bf)) rfl dX3_begin_2 ?_
  refine g_aload_n C dX3_begin_5 rfl 0 rfl ?_
  refine g_iload_n C dX3_begin_6 rfl 2 rfl ?_
  refine gm_put3 C (f' := (up (up f 2 bf) 3 bs)) rfl dX3_begin_7 ?_
  refine g_aload_n C dX3_begin_10 rfl 0 rfl ?_
  refine g_iconst C dX3_begin_11 ?_
  refine gm_put4 C (f' := (up (up (up f 2 bf) 3 bs) 4 1)) rfl dX3_begin_12 ?_
  refine g_aload_n C dX3_begin_15 rfl 0 rfl ?_
  refine g_iconst C dX3_begin_16 ?_
  refine gm_put7 C (f' := (up (up (up (up f 2 bf) 3 bs) 4 1) 7 0)) rfl dX3_begin_17 ?_
  refine g_aload_n C dX3_begin_20 rfl 0 rfl ?_
  refine g_iconst C dX3_begin_21 ?_
  refine gm_put9 C (f' := (up (up (up (up (up f 2 bf) 3 bs) 4 1) 7 0) 9 0)) rfl dX3_begin_22 ?_
  refine g_iconst C dX3_begin_25 ?_
  refine g_istore_n C dX3_begin_26 rfl (lv' := [(0, .ref (h 36)), (1, .int (iI bf)), (2, .int (iI bs)), (3, .int (iI 0))]) [1, 2, 3, 0] rfl (Nat.le_of_ble_eq_true rfl) ?_
  have L1 : ∀ (n : Nat) (k : Int) (y10 : Int → Int), (0 ≤ k ∧ k ≤ 5) → (∀ j, 0 ≤ j → j < k → y10 j = 10) → (5 - k).toNat < n → GO p l e (rmD 2 0 0) s mm args below meth c 4 D A A 0 0 (MX below D A (pV fun w => ∃ np : Int, ∃ x14 : Int → Int, ∃ x15 : Int → Int, ∃ x16 : Int → Int, ∃ x17 : Int → Int, (PA (paL bs.toNat (fun _ => 0) bf.toNat) np x14 x15 x16 x17) ∧ w = mW D h (up (up (up (up (up (up f 2 bf) 3 bs) 4 1) 7 0) 8 np) 9 0) (ug (ug (ug (ug (ug (ug (ug g 10 (fun _ => 10)) 11 (fun j => 20 * j)) 12 (fun _ => 0)) 14 x14) 15 x15) 16 x16) 17 x17)) xN args s (0) (0)) (mW D h (up (up (up (up (up f 2 bf) 3 bs) 4 1) 7 0) 9 0) (ug g 10 y10)) 27 [(0, .ref (h 36)), (1, .int (iI bf)), (2, .int (iI bs)), (3, .int (iI k))] [] := by
    intro n
    induction n with
    | zero => intro k y10 hk h10 hm; exact absurd hm (Nat.not_lt_zero _)
    | succ n ih1 =>
      intro k y10 hk h10 hm1
      refine g_iload_n C dX3_begin_27 rfl 3 rfl ?_
      refine g_iconst C dX3_begin_28 ?_
      refine g_icmp_ge C (tgt := 46) dX3_begin_29 (by decide) (by omega) (by omega) (fun hc29_2 => ?_) (fun hc29_2 => ?_)
      ·
        refine gm_con10 (x := fun _ => 10) (g' := (ug g 10 (fun _ => 10))) (fun j h0 h1 => h10 j h0 (by omega)) rfl ?_
        refine g_iconst C dX3_begin_46 ?_
        refine g_istore_n C dX3_begin_47 rfl (lv' := [(0, .ref (h 36)), (1, .int (iI bf)), (2, .int (iI bs)), (3, .int (iI 0))]) [1, 2, 3, 0] rfl (Nat.le_of_ble_eq_true rfl) ?_
        have L3 : ∀ (n : Nat) (k : Int) (y11 : Int → Int) (y12 : Int → Int), (0 ≤ k ∧ k ≤ 6) → (∀ j, 0 ≤ j → j < k → y11 j = 20 * j) → (∀ j, 0 ≤ j → j < k → y12 j = 0) → (6 - k).toNat < n → GO p l e (rmD 2 0 0) s mm args below meth c 4 D A A 0 0 (MX below D A (pV fun w => ∃ np : Int, ∃ x14 : Int → Int, ∃ x15 : Int → Int, ∃ x16 : Int → Int, ∃ x17 : Int → Int, (PA (paL bs.toNat (fun _ => 0) bf.toNat) np x14 x15 x16 x17) ∧ w = mW D h (up (up (up (up (up (up f 2 bf) 3 bs) 4 1) 7 0) 8 np) 9 0) (ug (ug (ug (ug (ug (ug (ug g 10 (fun _ => 10)) 11 (fun j => 20 * j)) 12 (fun _ => 0)) 14 x14) 15 x15) 16 x16) 17 x17)) xN args s (0) (0)) (mW D h (up (up (up (up (up f 2 bf) 3 bs) 4 1) 7 0) 9 0) (ug (ug (ug g 10 (fun _ => 10)) 11 y11) 12 y12)) 48 [(0, .ref (h 36)), (1, .int (iI bf)), (2, .int (iI bs)), (3, .int (iI k))] [] := by
          intro n
          induction n with
          | zero => intro k y11 y12 hk h11 h12 hm; exact absurd hm (Nat.not_lt_zero _)
          | succ n ih3 =>
            intro k y11 y12 hk h11 h12 hm3
            refine g_iload_n C dX3_begin_48 rfl 3 rfl ?_
            refine g_bipush C dX3_begin_49 (z := 6) rfl ?_
            refine g_icmp_ge C (tgt := 77) dX3_begin_51 (by decide) (by omega) (by omega) (fun hc51_4 => ?_) (fun hc51_4 => ?_)
            ·
              refine gm_con11 (x := fun j => 20 * j) (g' := (ug (ug (ug g 10 (fun _ => 10)) 11 (fun j => 20 * j)) 12 y12)) (fun j h0 h1 => h11 j h0 (by omega)) rfl ?_
              refine gm_con12 (x := fun _ => 0) (g' := (ug (ug (ug g 10 (fun _ => 10)) 11 (fun j => 20 * j)) 12 (fun _ => 0))) (fun j h0 h1 => h12 j h0 (by omega)) rfl ?_
              refine g_aload_n C dX3_begin_77 rfl 0 rfl ?_
              refine kX3_X3_lay  C hbf hbs (fun _ _ _ => (⟨by decide, by decide⟩ : (0 : Int) ≤ 0 ∧ (0 : Int) ≤ 3)) ⟨Nat.le_of_ble_eq_true rfl, Nat.le_of_ble_eq_true rfl⟩ (Nat.le_of_ble_eq_true rfl) ⟨Nat.le_of_ble_eq_true rfl, Nat.le_of_ble_eq_true rfl⟩ dX3_begin_78 ?_
              intro np_5 x14_6 x15_7 x16_8 x17_9 hPA_10
              refine g_ws (ws' := mW D h (up (up (up (up (up (up f 2 bf) 3 bs) 4 1) 7 0) 8 np_5) 9 0) (ug (ug (ug (ug (ug (ug (ug g 10 (fun _ => 10)) 11 (fun j => 20 * j)) 12 (fun _ => 0)) 14 x14_6) 15 x15_7) 16 x16_8) 17 x17_9)) rfl ?_
              have hPA_10 : PA (paL (bs).toNat ((fun _ => 0)) (bf).toNat) np_5 x14_6 x15_7 x16_8 x17_9 := hPA_10
              exact g_vret C dX3_begin_81 (Nat.le_of_ble_eq_true rfl) (Nat.le_of_ble_eq_true rfl) ⟨rfl, np_5, x14_6, x15_7, x16_8, x17_9, hPA_10, rfl⟩
            ·
              refine g_aload_n C dX3_begin_54 rfl 0 rfl ?_
              refine gm_get11 C dX3_begin_55 ?_
              refine g_iload_n C dX3_begin_58 rfl 3 rfl ?_
              refine g_bipush C dX3_begin_59 (z := 20) rfl ?_
              refine g_iload_n C dX3_begin_61 rfl 3 rfl ?_
              refine g_imul C dX3_begin_62 ?_
              refine gm_ast11 C (g' := (ug (ug (ug g 10 (fun _ => 10)) 11 (uI y11 k (20 * k))) 12 y12)) rfl dX3_begin_63 (by omega) ?_
              refine g_aload_n C dX3_begin_64 rfl 0 rfl ?_
              refine gm_get12 C dX3_begin_65 ?_
              refine g_iload_n C dX3_begin_68 rfl 3 rfl ?_
              refine g_iconst C dX3_begin_69 ?_
              refine gm_ast12 C (g' := (ug (ug (ug g 10 (fun _ => 10)) 11 (uI y11 k (20 * k))) 12 (uI y12 k 0))) rfl dX3_begin_70 (by omega) ?_
              refine g_iinc C dX3_begin_71 3 rfl (lv' := [(0, .ref (h 36)), (1, .int (iI bf)), (2, .int (iI bs)), (3, .int (iI (k + 1)))]) [1, 2, 3, 0] rfl (Nat.le_of_ble_eq_true rfl) ?_
              refine g_goto C (tgt := 48) dX3_begin_74 (by decide) ?_
              exact ih3 (k + 1) (uI y11 k (20 * k)) (uI y12 k 0) (by omega) (uI_all (P := fun j y => y = 20 * j) h11 rfl) (uI_all (P := fun j y => y = 0) h12 rfl) (by omega)
        exact L3 _ 0 (g 11) (g 12) (by omega) (fun j h0 h1 => absurd h1 (by omega)) (fun j h0 h1 => absurd h1 (by omega)) (Nat.lt_succ_self _)
      ·
        refine g_aload_n C dX3_begin_32 rfl 0 rfl ?_
        refine gm_get10 C dX3_begin_33 ?_
        refine g_iload_n C dX3_begin_36 rfl 3 rfl ?_
        refine g_bipush C dX3_begin_37 (z := 10) rfl ?_
        refine gm_ast10 C (g' := (ug g 10 (uI y10 k 10))) rfl dX3_begin_39 (by omega) ?_
        refine g_iinc C dX3_begin_40 3 rfl (lv' := [(0, .ref (h 36)), (1, .int (iI bf)), (2, .int (iI bs)), (3, .int (iI (k + 1)))]) [1, 2, 3, 0] rfl (Nat.le_of_ble_eq_true rfl) ?_
        refine g_goto C (tgt := 27) dX3_begin_43 (by decide) ?_
        exact ih1 (k + 1) (uI y10 k 10) (by omega) (uI_all (P := fun j y => y = 10) h10 rfl) (by omega)
  exact L1 _ 0 (g 10) (by omega) (fun j h0 h1 => absurd h1 (by omega)) (Nat.lt_succ_self _)

section MK
variable {p : Program} {l : Launch} {e : Env} {R : Room} {s : State} {mm : MethodId} {args : Array Value} {below : List Frame} {meth : Method} {c : Code} {cc : ByteArray} {nL : Nat} {ret : Option FieldType} {D : va_G} {A B : Nat → Prop} {cells slots : Nat} {Q : State → Prop} {pc : Nat} {lv : List (Nat × Value)} {st : List Value}
theorem kX3_X3_begin {h : Nat → Nat} {f : Nat → Int} {g : Nat → Int → Int} (bf bs : Int) (C : CX p l s mm args meth c RX3 cc nL ret D A) (hbf : 1 ≤ bf ∧ bf ≤ 5) (hbs : 2 ≤ bs ∧ bs ≤ 6) (hR : 2 + 1 ≤ R.frames ∧ 8 + (4 + 11) + 64 * 2 ≤ R.locals) (hcat : (st.map fun v => v.category).sum ≤ 8) (hroom : cells ≤ R.cells ∧ slots ≤ R.slots) (d : decode cc pc = .ok (.invokevirtual 100, 3)) (K : ∀ (np : Int) (x14 : Int → Int) (x15 : Int → Int) (x16 : Int → Int) (x17 : Int → Int) , (PA (paL bs.toNat (fun _ => 0) bf.toNat) np x14 x15 x16 x17) → GO p l e R s mm args below meth c nL D A A cells slots Q (mW D h (up (up (up (up (up (up f 2 bf) 3 bs) 4 1) 7 0) 8 np) 9 0) (ug (ug (ug (ug (ug (ug (ug g 10 (fun _ => 10)) 11 (fun j => 20 * j)) 12 (fun _ => 0)) 14 x14) 15 x15) 16 x16) 17 x17)) (pc + 3) lv (st)) : GO p l e R s mm args below meth c nL D A A cells slots Q (mW D h f g) (pc) lv (.int (iI bs) :: .int (iI bf) :: .ref (h 36) :: st) := by
  refine g_callVU C (c_X3_begin l D C.hl h f g bf bs hbf hbs) (As := [.int (iI bf), .int (iI bs)]) (n := 2) (lw_V q985 q987 qs27 q69 q988) (by decide +kernel) rfl rfl hR (rcv C 0 rfl rfl rfl) rfl rfl hcat ⟨hroom.1, hroom.2⟩ d (wr := []) Sb.rf exT_b hex_t (fun v w hp => ?_) kx_nu
  obtain ⟨rfl, np, x14, x15, x16, x17, h0_, rfl⟩ := hp
  exact K np x14 x15 x16 x17 h0_
end MK

end MC3
