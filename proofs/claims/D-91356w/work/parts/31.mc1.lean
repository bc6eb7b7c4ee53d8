/-! ===== contracts of the model: moves ===== -/
section MC1
set_option maxHeartbeats 4000000 in
set_option maxRecDepth 100000 in
theorem c_X3_place (l : Launch) (D : va_G) (hst : l.stackTraces = false) (pf ps pd : Int) (h1 : 0 ≤ pf ∧ pf < 10) (h2 : 0 ≤ ps ∧ ps < 10) (h3 : 0 ≤ pd ∧ pd < 2) : CT l D yX3_place (ws_ yX3_place cX3_place 3 (some .int)) (rmD 0 0 0) (0) (0) mdR [.int (iI pf), .int (iI ps), .int (iI pd)] ([]) exT (pI fun z _ => z = 2 * (6 * pf + ps) + pd) xN := by
  refine ct_R (lv := [(0, .int (iI pf)), (1, .int (iI ps)), (2, .int (iI pd))]) RX3 (by decide) rfl rfl hst (Nat.le_of_ble_eq_true rfl) rfl ?_
  intro p e s mm args below meth c A C htab hex
  refine g_iconst C dX3_place_0 ?_
  refine g_bipush C dX3_place_1 (z := 6) rfl ?_
  refine g_iload_n C dX3_place_3 rfl 0 rfl ?_
  refine g_imul C dX3_place_4 ?_
  refine g_iload_n C dX3_place_5 rfl 1 rfl ?_
  refine g_iadd C dX3_place_6 ?_
  refine g_imul C dX3_place_7 ?_
  refine g_iload_n C dX3_place_8 rfl 2 rfl ?_
  refine g_iadd C dX3_place_9 ?_
  refine g_nilA ?_
  exact g_iret C dX3_place_10 rfl (Nat.le_of_ble_eq_true rfl) (Nat.le_of_ble_eq_true rfl) ⟨_, rfl, by omega⟩

section MK
variable {p : Program} {l : Launch} {e : Env} {R : Room} {s : State} {mm : MethodId} {args : Array Value} {below : List Frame} {meth : Method} {c : Code} {cc : ByteArray} {nL : Nat} {ret : Option FieldType} {D : va_G} {A B : Nat → Prop} {cells slots : Nat} {Q : State → Prop} {pc : Nat} {lv : List (Nat × Value)} {st : List Value}
theorem kX3_X3_place {ws : va_W} (pf ps pd : Int) (C : CX p l s mm args meth c RX3 cc nL ret D A) (h1 : 0 ≤ pf ∧ pf < 10) (h2 : 0 ≤ ps ∧ ps < 10) (h3 : 0 ≤ pd ∧ pd < 2) (hR : 0 + 1 ≤ R.frames ∧ 8 + (3 + 11) + 64 * 0 ≤ R.locals) (hcat : (st.map fun v => v.category).sum ≤ 8) (hroom : cells ≤ R.cells ∧ slots ≤ R.slots) {rv : Int} (hr : 2 * (6 * pf + ps) + pd = rv) (d : decode cc pc = .ok (.invokestatic 158, 3)) (K : GO p l e R s mm args below meth c nL D A B cells slots Q (ws) (pc + 3) lv (.int (iI rv) :: st)) : GO p l e R s mm args below meth c nL D A B cells slots Q (ws) (pc) lv (.int (iI pd) :: .int (iI ps) :: .int (iI pf) :: st) := by
  refine g_callSR C (c_X3_place l D C.hl pf ps pd h1 h2 h3) (As := [.int (iI pf), .int (iI ps), .int (iI pd)]) (n := 3) (lw_S q1170 q1171 q69 q1172) (by decide +kernel) rfl rfl hR rfl rfl hcat ⟨hroom.1, hroom.2⟩ d Sb.nil exT_b hex_t (fun v w hp => ?_) kx_n
  obtain ⟨z, rfl, rfl⟩ := hp
  rw [hr]
  exact K
end MK
set_option maxHeartbeats 4000000 in
set_option maxRecDepth 100000 in
theorem c_X3_sideOf (l : Launch) (D : va_G) (hst : l.stackTraces = false) (at_ : Int) (hat : 0 ≤ at_ ∧ at_ < 60) : CT l D yX3_sideOf (ws_ yX3_sideOf cX3_sideOf 1 (some .int)) (rmD 0 0 0) (0) (0) mdR [.int (iI at_)] ([]) exT (pI fun z _ => z = at_ % 2) xN := by
  refine ct_R (lv := [(0, .int (iI at_))]) RX3 (by decide) rfl rfl hst (Nat.le_of_ble_eq_true rfl) rfl ?_
  intro p e s mm args below meth c A C htab hex
  refine g_iload_n C dX3_sideOf_0 rfl 0 rfl ?_
  refine g_iconst C dX3_sideOf_1 ?_
  refine g_irem C dX3_sideOf_2 (by omega) (by omega) ?_
  refine g_nilA ?_
  exact g_iret C dX3_sideOf_3 rfl (Nat.le_of_ble_eq_true rfl) (Nat.le_of_ble_eq_true rfl) ⟨_, rfl, rfl⟩

section MK
variable {p : Program} {l : Launch} {e : Env} {R : Room} {s : State} {mm : MethodId} {args : Array Value} {below : List Frame} {meth : Method} {c : Code} {cc : ByteArray} {nL : Nat} {ret : Option FieldType} {D : va_G} {A B : Nat → Prop} {cells slots : Nat} {Q : State → Prop} {pc : Nat} {lv : List (Nat × Value)} {st : List Value}
theorem kX3_X3_sideOf {ws : va_W} (at_ : Int) (C : CX p l s mm args meth c RX3 cc nL ret D A) (hat : 0 ≤ at_ ∧ at_ < 60) (hR : 0 + 1 ≤ R.frames ∧ 8 + (1 + 11) + 64 * 0 ≤ R.locals) (hcat : (st.map fun v => v.category).sum ≤ 8) (hroom : cells ≤ R.cells ∧ slots ≤ R.slots) {rv : Int} (hr : at_ % 2 = rv) (d : decode cc pc = .ok (.invokestatic 146, 3)) (K : GO p l e R s mm args below meth c nL D A B cells slots Q (ws) (pc + 3) lv (.int (iI rv) :: st)) : GO p l e R s mm args below meth c nL D A B cells slots Q (ws) (pc) lv (.int (iI at_) :: st) := by
  refine g_callSR C (c_X3_sideOf l D C.hl at_ hat) (As := [.int (iI at_)]) (n := 1) (lw_S q1205 q1206 q69 q1207) (by decide +kernel) rfl rfl hR rfl rfl hcat ⟨hroom.1, hroom.2⟩ d Sb.nil exT_b hex_t (fun v w hp => ?_) kx_n
  obtain ⟨z, rfl, rfl⟩ := hp
  rw [hr]
  exact K
end MK
set_option maxHeartbeats 4000000 in
set_option maxRecDepth 100000 in
theorem c_X3_stationOf (l : Launch) (D : va_G) (hst : l.stackTraces = false) (at_ : Int) (hat : 0 ≤ at_ ∧ at_ < 60) : CT l D yX3_stationOf (ws_ yX3_stationOf cX3_stationOf 1 (some .int)) (rmD 0 0 0) (0) (0) mdR [.int (iI at_)] ([]) exT (pI fun z _ => z = at_ / 2 % 6) xN := by
  refine ct_R (lv := [(0, .int (iI at_))]) RX3 (by decide) rfl rfl hst (Nat.le_of_ble_eq_true rfl) rfl ?_
  intro p e s mm args below meth c A C htab hex
  refine g_iload_n C dX3_stationOf_0 rfl 0 rfl ?_
  refine g_iconst C dX3_stationOf_1 ?_
  refine g_idiv C dX3_stationOf_2 (by omega) (by omega) ?_
  refine g_bipush C dX3_stationOf_3 (z := 6) rfl ?_
  refine g_irem C dX3_stationOf_5 (by omega) (by omega) ?_
  refine g_nilA ?_
  exact g_iret C dX3_stationOf_6 rfl (Nat.le_of_ble_eq_true rfl) (Nat.le_of_ble_eq_true rfl) ⟨_, rfl, rfl⟩

section MK
variable {p : Program} {l : Launch} {e : Env} {R : Room} {s : State} {mm : MethodId} {args : Array Value} {below : List Frame} {meth : Method} {c : Code} {cc : ByteArray} {nL : Nat} {ret : Option FieldType} {D : va_G} {A B : Nat → Prop} {cells slots : Nat} {Q : State → Prop} {pc : Nat} {lv : List (Nat × Value)} {st : List Value}
theorem kX3_X3_stationOf {ws : va_W} (at_ : Int) (C : CX p l s mm args meth c RX3 cc nL ret D A) (hat : 0 ≤ at_ ∧ at_ < 60) (hR : 0 + 1 ≤ R.frames ∧ 8 + (1 + 11) + 64 * 0 ≤ R.locals) (hcat : (st.map fun v => v.category).sum ≤ 8) (hroom : cells ≤ R.cells ∧ slots ≤ R.slots) {rv : Int} (hr : at_ / 2 % 6 = rv) (d : decode cc pc = .ok (.invokestatic 140, 3)) (K : GO p l e R s mm args below meth c nL D A B cells slots Q (ws) (pc + 3) lv (.int (iI rv) :: st)) : GO p l e R s mm args below meth c nL D A B cells slots Q (ws) (pc) lv (.int (iI at_) :: st) := by
  refine g_callSR C (c_X3_stationOf l D C.hl at_ hat) (As := [.int (iI at_)]) (n := 1) (lw_S q1199 q1200 q69 q1201) (by decide +kernel) rfl rfl hR rfl rfl hcat ⟨hroom.1, hroom.2⟩ d Sb.nil exT_b hex_t (fun v w hp => ?_) kx_n
  obtain ⟨z, rfl, rfl⟩ := hp
  rw [hr]
  exact K
end MK
set_option maxHeartbeats 4000000 in
set_option maxRecDepth 100000 in
theorem c_X3_foldOf (l : Launch) (D : va_G) (hst : l.stackTraces = false) (at_ : Int) (hat : 0 ≤ at_ ∧ at_ < 60) : CT l D yX3_foldOf (ws_ yX3_foldOf cX3_foldOf 1 (some .int)) (rmD 0 0 0) (0) (0) mdR [.int (iI at_)] ([]) exT (pI fun z _ => z = at_ / 2 / 6) xN := by
  refine ct_R (lv := [(0, .int (iI at_))]) RX3 (by decide) rfl rfl hst (Nat.le_of_ble_eq_true rfl) rfl ?_
  intro p e s mm args below meth c A C htab hex
  refine g_iload_n C dX3_foldOf_0 rfl 0 rfl ?_
  refine g_iconst C dX3_foldOf_1 ?_
  refine g_idiv C dX3_foldOf_2 (by omega) (by omega) ?_
  refine g_bipush C dX3_foldOf_3 (z := 6) rfl ?_
  refine g_idiv C dX3_foldOf_5 (by omega) (by omega) ?_
  refine g_nilA ?_
  exact g_iret C dX3_foldOf_6 rfl (Nat.le_of_ble_eq_true rfl) (Nat.le_of_ble_eq_true rfl) ⟨_, rfl, rfl⟩

section MK
variable {p : Program} {l : Launch} {e : Env} {R : Room} {s : State} {mm : MethodId} {args : Array Value} {below : List Frame} {meth : Method} {c : Code} {cc : ByteArray} {nL : Nat} {ret : Option FieldType} {D : va_G} {A B : Nat → Prop} {cells slots : Nat} {Q : State → Prop} {pc : Nat} {lv : List (Nat × Value)} {st : List Value}
theorem kX3_X3_foldOf {ws : va_W} (at_ : Int) (C : CX p l s mm args meth c RX3 cc nL ret D A) (hat : 0 ≤ at_ ∧ at_ < 60) (hR : 0 + 1 ≤ R.frames ∧ 8 + (1 + 11) + 64 * 0 ≤ R.locals) (hcat : (st.map fun v => v.category).sum ≤ 8) (hroom : cells ≤ R.cells ∧ slots ≤ R.slots) {rv : Int} (hr : at_ / 2 / 6 = rv) (d : decode cc pc = .ok (.invokestatic 143, 3)) (K : GO p l e R s mm args below meth c nL D A B cells slots Q (ws) (pc + 3) lv (.int (iI rv) :: st)) : GO p l e R s mm args below meth c nL D A B cells slots Q (ws) (pc) lv (.int (iI at_) :: st) := by
  refine g_callSR C (c_X3_foldOf l D C.hl at_ hat) (As := [.int (iI at_)]) (n := 1) (lw_S q1202 q1203 q69 q1204) (by decide +kernel) rfl rfl hR rfl rfl hcat ⟨hroom.1, hroom.2⟩ d Sb.nil exT_b hex_t (fun v w hp => ?_) kx_n
  obtain ⟨z, rfl, rfl⟩ := hp
  rw [hr]
  exact K
end MK
set_option maxHeartbeats 4000000 in
set_option maxRecDepth 100000 in
theorem c_X3_moved (l : Launch) (D : va_G) (hst : l.stackTraces = false) (h : Nat → Nat) (f : Nat → Int) (g : Nat → Int → Int) (at_ mv : Int) (hF : 1 ≤ f 2 ∧ f 2 ≤ 5) (hS : 2 ≤ f 3 ∧ f 3 ≤ 6) (hkd : ∀ j, 0 ≤ j → j < 6 → 0 ≤ g 12 j ∧ g 12 j ≤ 3) (hat : 0 ≤ at_ ∧ at_ < 60) (hm : 0 ≤ mv ∧ mv < 8) : CT l D yX3_moved (ws_ yX3_moved cX3_moved 6 (some .int)) (rmD 2 0 0) (0) (0) mdR [.ref (h 36), .int (iI at_), .int (iI mv)] (mW D h f g) exT (pI fun z _ => z = lead (f 2) (f 3) (g 12) at_ mv) xN := by
  refine ct_R (lv := [(0, .ref (h 36)), (1, .int (iI at_)), (2, .int (iI mv))]) RX3 (by decide) rfl rfl hst (Nat.le_of_ble_eq_true rfl) rfl ?_
  intro p e s mm args below meth c A C htab hex
  refine g_iload_n C dX3_moved_0 rfl 1 rfl ?_
  refine kX3_X3_stationOf at_ C (by omega) ⟨Nat.le_of_ble_eq_true rfl, Nat.le_of_ble_eq_true rfl⟩ (Nat.le_of_ble_eq_true rfl) ⟨Nat.le_of_ble_eq_true rfl, Nat.le_of_ble_eq_true rfl⟩ (rv := at_ / 2 % 6) rfl dX3_moved_1 ?_
  refine g_istore_n C dX3_moved_4 rfl (lv' := [(0, .ref (h 36)), (1, .int (iI at_)), (2, .int (iI mv)), (3, .int (iI (at_ / 2 % 6)))]) [1, 2, 3, 0] rfl (Nat.le_of_ble_eq_true rfl) ?_
  refine g_iload_n C dX3_moved_5 rfl 1 rfl ?_
  refine kX3_X3_foldOf at_ C (by omega) ⟨Nat.le_of_ble_eq_true rfl, Nat.le_of_ble_eq_true rfl⟩ (Nat.le_of_ble_eq_true rfl) ⟨Nat.le_of_ble_eq_true rfl, Nat.le_of_ble_eq_true rfl⟩ (rv := at_ / 2 / 6) rfl dX3_moved_6 ?_
  refine g_istore C dX3_moved_9 (lv' := [(0, .ref (h 36)), (1, .int (iI at_)), (2, .int (iI mv)), (3, .int (iI (at_ / 2 % 6))), (4, .int (iI (at_ / 2 / 6)))]) [1, 2, 3, 4, 0] rfl (Nat.le_of_ble_eq_true rfl) ?_
  refine g_iload_n C dX3_moved_11 rfl 1 rfl ?_
  refine kX3_X3_sideOf at_ C (by omega) ⟨Nat.le_of_ble_eq_true rfl, Nat.le_of_ble_eq_true rfl⟩ (Nat.le_of_ble_eq_true rfl) ⟨Nat.le_of_ble_eq_true rfl, Nat.le_of_ble_eq_true rfl⟩ (rv := at_ % 2) rfl dX3_moved_12 ?_
  refine g_iconst C dX3_moved_15 ?_
  have J1 : ∀ (bin : Int), ((bin = 1 ∧ at_ % 2 = 1) ∨ (bin = 0 ∧ at_ % 2 ≠ 1)) → GO p l e (rmD 2 0 0) s mm args below meth c 6 D A (fun _ => True) 0 0 (MX below D A (pI fun z _ => z = lead (f 2) (f 3) (g 12) at_ mv) xN args s (0) (0)) (mW D h f g) 24 [(0, .ref (h 36)), (1, .int (iI at_)), (2, .int (iI mv)), (3, .int (iI (at_ / 2 % 6))), (4, .int (iI (at_ / 2 / 6)))] [.int (iI bin)] := by
    intro bin hbin
    refine g_istore C dX3_moved_24 (lv' := [(0, .ref (h 36)), (1, .int (iI at_)), (2, .int (iI mv)), (3, .int (iI (at_ / 2 % 6))), (4, .int (iI (at_ / 2 / 6))), (5, .int (iI bin))]) [1, 2, 3, 4, 5, 0] rfl (Nat.le_of_ble_eq_true rfl) ?_
    refine g_iload_n C dX3_moved_26 rfl 2 rfl ?_
    rcases (show mv = 0 ∨ mv = 1 ∨ mv = 2 ∨ mv = 3 ∨ mv = 4 ∨ mv = 5 ∨ mv = 6 ∨ mv = 7 by omega) with rfl | rfl | rfl | rfl | rfl | rfl | rfl | rfl
    ·
      refine g_table C (tgt := 68) dX3_moved_27 (by omega) (by omega) rfl (by decide) ?_
      refine g_iload_n C dX3_moved_68 rfl 1 rfl ?_
      refine g_iconst C dX3_moved_69 ?_
      refine g_ixor C dX3_moved_70 (z := if at_ % 2 = 1 then at_ - 1 else at_ + 1) (xor1 (by omega)) ?_
      refine g_nilA ?_
      exact g_iret C dX3_moved_71 rfl (Nat.le_of_ble_eq_true rfl) (Nat.le_of_ble_eq_true rfl) ⟨_, rfl, by rw [lead_0] <;> (try split) <;> omega⟩
    ·
      refine g_table C (tgt := 72) dX3_moved_27 (by omega) (by omega) rfl (by decide) ?_
      refine g_iload C dX3_moved_72 5 rfl ?_
      refine g_if_eq C (tgt := 93) dX3_moved_74 (by decide) (by omega) (fun hc74_2 => ?_) (fun hc74_2 => ?_)
      ·
        refine g_iconst C dX3_moved_93 ?_
        refine g_nilA ?_
        exact g_iret C dX3_moved_94 rfl (Nat.le_of_ble_eq_true rfl) (Nat.le_of_ble_eq_true rfl) ⟨_, rfl, by rw [lead_1] <;> (try split) <;> omega⟩
      ·
        refine g_iload_n C dX3_moved_77 rfl 3 rfl ?_
        refine g_iconst C dX3_moved_78 ?_
        refine g_iadd C dX3_moved_79 ?_
        refine g_aload_n C dX3_moved_80 rfl 0 rfl ?_
        refine gm_get3 C (v := f 3) rfl dX3_moved_81 ?_
        refine g_icmp_ge C (tgt := 93) dX3_moved_84 (by decide) (by omega) (by omega) (fun hc84_3 => ?_) (fun hc84_3 => ?_)
        ·
          refine g_iconst C dX3_moved_93 ?_
          refine g_nilA ?_
          exact g_iret C dX3_moved_94 rfl (Nat.le_of_ble_eq_true rfl) (Nat.le_of_ble_eq_true rfl) ⟨_, rfl, by rw [lead_1] <;> (try split) <;> omega⟩
        ·
          refine g_iload_n C dX3_moved_87 rfl 1 rfl ?_
          refine g_iconst C dX3_moved_88 ?_
          refine g_iadd C dX3_moved_89 ?_
          refine g_goto C (tgt := 94) dX3_moved_90 (by decide) ?_
          refine g_nilA ?_
          exact g_iret C dX3_moved_94 rfl (Nat.le_of_ble_eq_true rfl) (Nat.le_of_ble_eq_true rfl) ⟨_, rfl, by rw [lead_1] <;> (try split) <;> omega⟩
    ·
      refine g_table C (tgt := 95) dX3_moved_27 (by omega) (by omega) rfl (by decide) ?_
      refine g_iload C dX3_moved_95 5 rfl ?_
      refine g_if_eq C (tgt := 110) dX3_moved_97 (by decide) (by omega) (fun hc97_4 => ?_) (fun hc97_4 => ?_)
      ·
        refine g_iconst C dX3_moved_110 ?_
        refine g_nilA ?_
        exact g_iret C dX3_moved_111 rfl (Nat.le_of_ble_eq_true rfl) (Nat.le_of_ble_eq_true rfl) ⟨_, rfl, by rw [lead_2] <;> (try split) <;> omega⟩
      ·
        refine g_iload_n C dX3_moved_100 rfl 3 rfl ?_
        refine g_if_le C (tgt := 110) dX3_moved_101 (by decide) (by omega) (fun hc101_5 => ?_) (fun hc101_5 => ?_)
        ·
          refine g_iconst C dX3_moved_110 ?_
          refine g_nilA ?_
          exact g_iret C dX3_moved_111 rfl (Nat.le_of_ble_eq_true rfl) (Nat.le_of_ble_eq_true rfl) ⟨_, rfl, by rw [lead_2] <;> (try split) <;> omega⟩
        ·
          refine g_iload_n C dX3_moved_104 rfl 1 rfl ?_
          refine g_iconst C dX3_moved_105 ?_
          refine g_isub C dX3_moved_106 ?_
          refine g_goto C (tgt := 111) dX3_moved_107 (by decide) ?_
          refine g_nilA ?_
          exact g_iret C dX3_moved_111 rfl (Nat.le_of_ble_eq_true rfl) (Nat.le_of_ble_eq_true rfl) ⟨_, rfl, by rw [lead_2] <;> (try split) <;> omega⟩
    ·
      refine g_table C (tgt := 112) dX3_moved_27 (by omega) (by omega) rfl (by decide) ?_
      refine g_iload C dX3_moved_112 5 rfl ?_
      refine g_if_ne C (tgt := 143) dX3_moved_114 (by decide) (by omega) (fun hc114_6 => ?_) (fun hc114_6 => ?_)
      ·
        refine g_iconst C dX3_moved_143 ?_
        refine g_nilA ?_
        exact g_iret C dX3_moved_144 rfl (Nat.le_of_ble_eq_true rfl) (Nat.le_of_ble_eq_true rfl) ⟨_, rfl, by rw [lead_3] <;> (try split) <;> omega⟩
      ·
        refine g_iload_n C dX3_moved_117 rfl 3 rfl ?_
        refine g_iconst C dX3_moved_118 ?_
        refine g_iadd C dX3_moved_119 ?_
        refine g_aload_n C dX3_moved_120 rfl 0 rfl ?_
        refine gm_get3 C (v := f 3) rfl dX3_moved_121 ?_
        refine g_icmp_ge C (tgt := 143) dX3_moved_124 (by decide) (by omega) (by omega) (fun hc124_7 => ?_) (fun hc124_7 => ?_)
        ·
          refine g_iconst C dX3_moved_143 ?_
          refine g_nilA ?_
          exact g_iret C dX3_moved_144 rfl (Nat.le_of_ble_eq_true rfl) (Nat.le_of_ble_eq_true rfl) ⟨_, rfl, by rw [lead_3] <;> (try split) <;> omega⟩
        ·
          refine g_aload_n C dX3_moved_127 rfl 0 rfl ?_
          refine gm_get12 C dX3_moved_128 ?_
          refine g_iload_n C dX3_moved_131 rfl 3 rfl ?_
          refine gm_ald12 C (v := (g 12) (at_ / 2 % 6)) rfl dX3_moved_132 (by omega) ?_
          have hf8 := hkd (at_ / 2 % 6) (by omega) (by omega)
          refine g_iconst C dX3_moved_133 ?_
          refine g_icmp_ne C (tgt := 143) dX3_moved_134 (by decide) (by omega) (by omega) (fun hc134_9 => ?_) (fun hc134_9 => ?_)
          ·
            refine g_iconst C dX3_moved_143 ?_
            refine g_nilA ?_
            exact g_iret C dX3_moved_144 rfl (Nat.le_of_ble_eq_true rfl) (Nat.le_of_ble_eq_true rfl) ⟨_, rfl, by rw [lead_3] <;> (try split) <;> omega⟩
          ·
            refine g_iload_n C dX3_moved_137 rfl 1 rfl ?_
            refine g_iconst C dX3_moved_138 ?_
            refine g_iadd C dX3_moved_139 ?_
            refine g_goto C (tgt := 144) dX3_moved_140 (by decide) ?_
            refine g_nilA ?_
            exact g_iret C dX3_moved_144 rfl (Nat.le_of_ble_eq_true rfl) (Nat.le_of_ble_eq_true rfl) ⟨_, rfl, by rw [lead_3] <;> (try split) <;> omega⟩
    ·
      refine g_table C (tgt := 145) dX3_moved_27 (by omega) (by omega) rfl (by decide) ?_
      refine g_iload C dX3_moved_145 5 rfl ?_
      refine g_if_ne C (tgt := 172) dX3_moved_147 (by decide) (by omega) (fun hc147_10 => ?_) (fun hc147_10 => ?_)
      ·
        refine g_iconst C dX3_moved_172 ?_
        refine g_nilA ?_
        exact g_iret C dX3_moved_173 rfl (Nat.le_of_ble_eq_true rfl) (Nat.le_of_ble_eq_true rfl) ⟨_, rfl, by rw [lead_4] <;> (try split) <;> omega⟩
      ·
        refine g_iload_n C dX3_moved_150 rfl 3 rfl ?_
        refine g_if_le C (tgt := 172) dX3_moved_151 (by decide) (by omega) (fun hc151_11 => ?_) (fun hc151_11 => ?_)
        ·
          refine g_iconst C dX3_moved_172 ?_
          refine g_nilA ?_
          exact g_iret C dX3_moved_173 rfl (Nat.le_of_ble_eq_true rfl) (Nat.le_of_ble_eq_true rfl) ⟨_, rfl, by rw [lead_4] <;> (try split) <;> omega⟩
        ·
          refine g_aload_n C dX3_moved_154 rfl 0 rfl ?_
          refine gm_get12 C dX3_moved_155 ?_
          refine g_iload_n C dX3_moved_158 rfl 3 rfl ?_
          refine g_iconst C dX3_moved_159 ?_
          refine g_isub C dX3_moved_160 ?_
          refine gm_ald12 C (v := (g 12) ((at_ / 2 % 6) - 1)) rfl dX3_moved_161 (by omega) ?_
          have hf12 := hkd ((at_ / 2 % 6) - 1) (by omega) (by omega)
          refine g_iconst C dX3_moved_162 ?_
          refine g_icmp_ne C (tgt := 172) dX3_moved_163 (by decide) (by omega) (by omega) (fun hc163_13 => ?_) (fun hc163_13 => ?_)
          ·
            refine g_iconst C dX3_moved_172 ?_
            refine g_nilA ?_
            exact g_iret C dX3_moved_173 rfl (Nat.le_of_ble_eq_true rfl) (Nat.le_of_ble_eq_true rfl) ⟨_, rfl, by rw [lead_4] <;> (try split) <;> omega⟩
          ·
            refine g_iload_n C dX3_moved_166 rfl 1 rfl ?_
            refine g_iconst C dX3_moved_167 ?_
            refine g_isub C dX3_moved_168 ?_
            refine g_goto C (tgt := 173) dX3_moved_169 (by decide) ?_
            refine g_nilA ?_
            exact g_iret C dX3_moved_173 rfl (Nat.le_of_ble_eq_true rfl) (Nat.le_of_ble_eq_true rfl) ⟨_, rfl, by rw [lead_4] <;> (try split) <;> omega⟩
    ·
      refine g_table C (tgt := 174) dX3_moved_27 (by omega) (by omega) rfl (by decide) ?_
      refine g_iload C dX3_moved_174 5 rfl ?_
      refine g_if_ne C (tgt := 193) dX3_moved_176 (by decide) (by omega) (fun hc176_14 => ?_) (fun hc176_14 => ?_)
      ·
        refine g_iconst C dX3_moved_193 ?_
        refine g_nilA ?_
        exact g_iret C dX3_moved_194 rfl (Nat.le_of_ble_eq_true rfl) (Nat.le_of_ble_eq_true rfl) ⟨_, rfl, by rw [lead_5] <;> (try split) <;> omega⟩
      ·
        refine g_aload_n C dX3_moved_179 rfl 0 rfl ?_
        refine gm_get12 C dX3_moved_180 ?_
        refine g_iload_n C dX3_moved_183 rfl 3 rfl ?_
        refine gm_ald12 C (v := (g 12) (at_ / 2 % 6)) rfl dX3_moved_184 (by omega) ?_
        have hf15 := hkd (at_ / 2 % 6) (by omega) (by omega)
        refine g_iconst C dX3_moved_185 ?_
        refine g_icmp_ne C (tgt := 193) dX3_moved_186 (by decide) (by omega) (by omega) (fun hc186_16 => ?_) (fun hc186_16 => ?_)
        ·
          refine g_iconst C dX3_moved_193 ?_
          refine g_nilA ?_
          exact g_iret C dX3_moved_194 rfl (Nat.le_of_ble_eq_true rfl) (Nat.le_of_ble_eq_true rfl) ⟨_, rfl, by rw [lead_5] <;> (try split) <;> omega⟩
        ·
          refine g_iload_n C dX3_moved_189 rfl 1 rfl ?_
          refine g_goto C (tgt := 194) dX3_moved_190 (by decide) ?_
          refine g_nilA ?_
          exact g_iret C dX3_moved_194 rfl (Nat.le_of_ble_eq_true rfl) (Nat.le_of_ble_eq_true rfl) ⟨_, rfl, by rw [lead_5] <;> (try split) <;> omega⟩
    ·
      refine g_table C (tgt := 195) dX3_moved_27 (by omega) (by omega) rfl (by decide) ?_
      refine g_iload C dX3_moved_195 5 rfl ?_
      refine g_if_ne C (tgt := 228) dX3_moved_197 (by decide) (by omega) (fun hc197_17 => ?_) (fun hc197_17 => ?_)
      ·
        refine g_iconst C dX3_moved_228 ?_
        refine g_nilA ?_
        exact g_iret C dX3_moved_229 rfl (Nat.le_of_ble_eq_true rfl) (Nat.le_of_ble_eq_true rfl) ⟨_, rfl, by rw [lead_6] <;> (try split) <;> omega⟩
      ·
        refine g_aload_n C dX3_moved_200 rfl 0 rfl ?_
        refine gm_get12 C dX3_moved_201 ?_
        refine g_iload_n C dX3_moved_204 rfl 3 rfl ?_
        refine gm_ald12 C (v := (g 12) (at_ / 2 % 6)) rfl dX3_moved_205 (by omega) ?_
        have hf18 := hkd (at_ / 2 % 6) (by omega) (by omega)
        refine g_iconst C dX3_moved_206 ?_
        refine g_icmp_ne C (tgt := 228) dX3_moved_207 (by decide) (by omega) (by omega) (fun hc207_19 => ?_) (fun hc207_19 => ?_)
        ·
          refine g_iconst C dX3_moved_228 ?_
          refine g_nilA ?_
          exact g_iret C dX3_moved_229 rfl (Nat.le_of_ble_eq_true rfl) (Nat.le_of_ble_eq_true rfl) ⟨_, rfl, by rw [lead_6] <;> (try split) <;> omega⟩
        ·
          refine g_iload C dX3_moved_210 4 rfl ?_
          refine g_iconst C dX3_moved_212 ?_
          refine g_iadd C dX3_moved_213 ?_
          refine g_aload_n C dX3_moved_214 rfl 0 rfl ?_
          refine gm_get2 C (v := f 2) rfl dX3_moved_215 ?_
          refine g_icmp_ge C (tgt := 228) dX3_moved_218 (by decide) (by omega) (by omega) (fun hc218_20 => ?_) (fun hc218_20 => ?_)
          ·
            refine g_iconst C dX3_moved_228 ?_
            refine g_nilA ?_
            exact g_iret C dX3_moved_229 rfl (Nat.le_of_ble_eq_true rfl) (Nat.le_of_ble_eq_true rfl) ⟨_, rfl, by rw [lead_6] <;> (try split) <;> omega⟩
          ·
            refine g_iload_n C dX3_moved_221 rfl 1 rfl ?_
            refine g_bipush C dX3_moved_222 (z := 12) rfl ?_
            refine g_iadd C dX3_moved_224 ?_
            refine g_goto C (tgt := 229) dX3_moved_225 (by decide) ?_
            refine g_nilA ?_
            exact g_iret C dX3_moved_229 rfl (Nat.le_of_ble_eq_true rfl) (Nat.le_of_ble_eq_true rfl) ⟨_, rfl, by rw [lead_6] <;> (try split) <;> omega⟩
    ·
      refine g_tableD C (tgt := 230) dX3_moved_27 (by omega) (by omega) (by decide) ?_
      refine g_iload C dX3_moved_230 5 rfl ?_
      refine g_if_ne C (tgt := 257) dX3_moved_232 (by decide) (by omega) (fun hc232_21 => ?_) (fun hc232_21 => ?_)
      ·
        refine g_iconst C dX3_moved_257 ?_
        refine g_nilA ?_
        exact g_iret C dX3_moved_258 rfl (Nat.le_of_ble_eq_true rfl) (Nat.le_of_ble_eq_true rfl) ⟨_, rfl, by rw [lead_7] <;> (try split) <;> omega⟩
      ·
        refine g_aload_n C dX3_moved_235 rfl 0 rfl ?_
        refine gm_get12 C dX3_moved_236 ?_
        refine g_iload_n C dX3_moved_239 rfl 3 rfl ?_
        refine gm_ald12 C (v := (g 12) (at_ / 2 % 6)) rfl dX3_moved_240 (by omega) ?_
        have hf22 := hkd (at_ / 2 % 6) (by omega) (by omega)
        refine g_iconst C dX3_moved_241 ?_
        refine g_icmp_ne C (tgt := 257) dX3_moved_242 (by decide) (by omega) (by omega) (fun hc242_23 => ?_) (fun hc242_23 => ?_)
        ·
          refine g_iconst C dX3_moved_257 ?_
          refine g_nilA ?_
          exact g_iret C dX3_moved_258 rfl (Nat.le_of_ble_eq_true rfl) (Nat.le_of_ble_eq_true rfl) ⟨_, rfl, by rw [lead_7] <;> (try split) <;> omega⟩
        ·
          refine g_iload C dX3_moved_245 4 rfl ?_
          refine g_if_le C (tgt := 257) dX3_moved_247 (by decide) (by omega) (fun hc247_24 => ?_) (fun hc247_24 => ?_)
          ·
            refine g_iconst C dX3_moved_257 ?_
            refine g_nilA ?_
            exact g_iret C dX3_moved_258 rfl (Nat.le_of_ble_eq_true rfl) (Nat.le_of_ble_eq_true rfl) ⟨_, rfl, by rw [lead_7] <;> (try split) <;> omega⟩
          ·
            refine g_iload_n C dX3_moved_250 rfl 1 rfl ?_
            refine g_bipush C dX3_moved_251 (z := 12) rfl ?_
            refine g_isub C dX3_moved_253 ?_
            refine g_goto C (tgt := 258) dX3_moved_254 (by decide) ?_
            refine g_nilA ?_
            exact g_iret C dX3_moved_258 rfl (Nat.le_of_ble_eq_true rfl) (Nat.le_of_ble_eq_true rfl) ⟨_, rfl, by rw [lead_7] <;> (try split) <;> omega⟩
  refine g_icmp_ne C (tgt := 23) dX3_moved_16 (by decide) (by omega) (by omega) (fun hc16_25 => ?_) (fun hc16_25 => ?_)
  ·
    refine g_iconst C dX3_moved_23 ?_
    exact J1 0 (by omega)
  ·
    refine g_iconst C dX3_moved_19 ?_
    refine g_goto C (tgt := 24) dX3_moved_20 (by decide) ?_
    exact J1 1 (by omega)

section MK
variable {p : Program} {l : Launch} {e : Env} {R : Room} {s : State} {mm : MethodId} {args : Array Value} {below : List Frame} {meth : Method} {c : Code} {cc : ByteArray} {nL : Nat} {ret : Option FieldType} {D : va_G} {A B : Nat → Prop} {cells slots : Nat} {Q : State → Prop} {pc : Nat} {lv : List (Nat × Value)} {st : List Value}
theorem kX3_X3_moved {h : Nat → Nat} {f : Nat → Int} {g : Nat → Int → Int} (at_ mv : Int) (C : CX p l s mm args meth c RX3 cc nL ret D A) (hF : 1 ≤ f 2 ∧ f 2 ≤ 5) (hS : 2 ≤ f 3 ∧ f 3 ≤ 6) (hkd : ∀ j, 0 ≤ j → j < 6 → 0 ≤ g 12 j ∧ g 12 j ≤ 3) (hat : 0 ≤ at_ ∧ at_ < 60) (hm : 0 ≤ mv ∧ mv < 8) (hR : 2 + 1 ≤ R.frames ∧ 8 + (6 + 11) + 64 * 2 ≤ R.locals) (hcat : (st.map fun v => v.category).sum ≤ 8) (hroom : cells ≤ R.cells ∧ slots ≤ R.slots) {rv : Int} (hr : lead (f 2) (f 3) (g 12) at_ mv = rv) (d : decode cc pc = .ok (.invokevirtual 165, 3)) (K : GO p l e R s mm args below meth c nL D A B cells slots Q (mW D h f g) (pc + 3) lv (.int (iI rv) :: st)) : GO p l e R s mm args below meth c nL D A B cells slots Q (mW D h f g) (pc) lv (.int (iI mv) :: .int (iI at_) :: .ref (h 36) :: st) := by
  refine g_callVR C (c_X3_moved l D C.hl h f g at_ mv hF hS hkd hat hm) (As := [.int (iI at_), .int (iI mv)]) (n := 2) (lw_V q1195 q1197 qs36 q69 q1198) (by decide +kernel) rfl rfl hR (rcv C 0 rfl rfl rfl) rfl rfl hcat ⟨hroom.1, hroom.2⟩ d Sb.rf exT_b hex_t (fun v w hp => ?_) kx_n
  obtain ⟨z, rfl, rfl⟩ := hp
  rw [hr]
  exact K
end MK
end MC1
