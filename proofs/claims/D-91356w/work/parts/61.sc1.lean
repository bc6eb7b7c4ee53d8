/-! ===== contracts of the class: moves ===== -/
section SC1
set_option maxHeartbeats 4000000 in
set_option maxRecDepth 100000 in
theorem c_X1_place (l : Launch) (D : va_G) (hst : l.stackTraces = false) (pf ps pd : Int) (h1 : -10 ≤ pf ∧ pf < 10) (h2 : -10 ≤ ps ∧ ps < 10) (h3 : 0 ≤ pd ∧ pd < 2) : CT l D yX1_place (ws_ yX1_place cX1_place 3 (some .int)) (rmD 0 0 0) (0) (0) mdR [.int (iI pf), .int (iI ps), .int (iI pd)] ([]) exT (pI fun z _ => z = 2 * (6 * pf + ps) + pd) (xN) := by
  refine ct_R (lv := [(0, .int (iI pf)), (1, .int (iI ps)), (2, .int (iI pd))]) RX1 (by decide) rfl rfl hst (Nat.le_of_ble_eq_true rfl) rfl ?_
  intro p e s mm args below meth c A C htab hex
  refine g_iconst C dX1_place_0 ?_
  refine g_bipush C dX1_place_1 (z := 6) rfl ?_
  refine g_iload_n C dX1_place_3 rfl 0 rfl ?_
  refine g_imul C dX1_place_4 ?_
  refine g_iload_n C dX1_place_5 rfl 1 rfl ?_
  refine g_iadd C dX1_place_6 ?_
  refine g_imul C dX1_place_7 ?_
  refine g_iload_n C dX1_place_8 rfl 2 rfl ?_
  refine g_if_eq C (tgt := 16) dX1_place_9 (by decide) (by omega) (fun hc9_1 => ?_) (fun hc9_1 => ?_)
  ·
    refine g_iconst C dX1_place_16 ?_
    refine g_iadd C dX1_place_17 ?_
    refine g_nilA ?_
    exact g_iret C dX1_place_18 rfl (Nat.le_of_ble_eq_true rfl) (Nat.le_of_ble_eq_true rfl) ⟨_, rfl, by omega⟩
  ·
    refine g_iconst C dX1_place_12 ?_
    refine g_goto C (tgt := 17) dX1_place_13 (by decide) ?_
    refine g_iadd C dX1_place_17 ?_
    refine g_nilA ?_
    exact g_iret C dX1_place_18 rfl (Nat.le_of_ble_eq_true rfl) (Nat.le_of_ble_eq_true rfl) ⟨_, rfl, by omega⟩

section MK
variable {p : Program} {l : Launch} {e : Env} {R : Room} {s : State} {mm : MethodId} {args : Array Value} {below : List Frame} {meth : Method} {c : Code} {cc : ByteArray} {nL : Nat} {ret : Option FieldType} {D : va_G} {A B : Nat → Prop} {cells slots : Nat} {Q : State → Prop} {pc : Nat} {lv : List (Nat × Value)} {st : List Value}
theorem kX1_X1_place {ws : va_W} (pf ps pd : Int) (C : CX p l s mm args meth c RX1 cc nL ret D A) (h1 : -10 ≤ pf ∧ pf < 10) (h2 : -10 ≤ ps ∧ ps < 10) (h3 : 0 ≤ pd ∧ pd < 2) (hR : 0 + 1 ≤ R.frames ∧ 8 + (3 + 11) + 64 * 0 ≤ R.locals) (hcat : (st.map fun v => v.category).sum ≤ 8) (hroom : cells ≤ R.cells ∧ slots ≤ R.slots) {rv : Int} (hr : 2 * (6 * pf + ps) + pd = rv) (d : decode cc pc = .ok (.invokestatic 151, 3)) (K : GO p l e R s mm args below meth c nL D A B cells slots Q (ws) (pc + 3) lv (.int (iI rv) :: st)) : GO p l e R s mm args below meth c nL D A B cells slots Q (ws) (pc) lv (.int (iI pd) :: .int (iI ps) :: .int (iI pf) :: st) := by
  refine g_callSR C (c_X1_place l D C.hl pf ps pd h1 h2 h3) (As := [.int (iI pf), .int (iI ps), .int (iI pd)]) (n := 3) (lw_S q620 q621 q48 q622) (by decide +kernel) rfl rfl hR rfl rfl hcat ⟨hroom.1, hroom.2⟩ d Sb.nil exT_b hex_t (fun v w hp => ?_) kx_n
  obtain ⟨z, rfl, rfl⟩ := hp
  rw [hr]
  exact K
end MK

set_option maxHeartbeats 4000000 in
set_option maxRecDepth 100000 in
theorem c_X1_fold (l : Launch) (D : va_G) (hst : l.stackTraces = false) (at_ : Int) (hat : 0 ≤ at_ ∧ at_ < 60) : CT l D yX1_fold (ws_ yX1_fold cX1_fold 1 (some .int)) (rmD 0 0 0) (0) (0) mdR [.int (iI at_)] ([]) exT (pI fun z _ => z = at_ / 2 / 6) (xN) := by
  refine ct_R (lv := [(0, .int (iI at_))]) RX1 (by decide) rfl rfl hst (Nat.le_of_ble_eq_true rfl) rfl ?_
  intro p e s mm args below meth c A C htab hex
  refine g_iload_n C dX1_fold_0 rfl 0 rfl ?_
  refine g_iconst C dX1_fold_1 ?_
  refine g_idiv C dX1_fold_2 (by omega) (by omega) ?_
  refine g_bipush C dX1_fold_3 (z := 6) rfl ?_
  refine g_idiv C dX1_fold_5 (by omega) (by omega) ?_
  refine g_nilA ?_
  exact g_iret C dX1_fold_6 rfl (Nat.le_of_ble_eq_true rfl) (Nat.le_of_ble_eq_true rfl) ⟨_, rfl, by omega⟩

section MK
variable {p : Program} {l : Launch} {e : Env} {R : Room} {s : State} {mm : MethodId} {args : Array Value} {below : List Frame} {meth : Method} {c : Code} {cc : ByteArray} {nL : Nat} {ret : Option FieldType} {D : va_G} {A B : Nat → Prop} {cells slots : Nat} {Q : State → Prop} {pc : Nat} {lv : List (Nat × Value)} {st : List Value}
theorem kX1_X1_fold {ws : va_W} (at_ : Int) (C : CX p l s mm args meth c RX1 cc nL ret D A) (hat : 0 ≤ at_ ∧ at_ < 60) (hR : 0 + 1 ≤ R.frames ∧ 8 + (1 + 11) + 64 * 0 ≤ R.locals) (hcat : (st.map fun v => v.category).sum ≤ 8) (hroom : cells ≤ R.cells ∧ slots ≤ R.slots) {rv : Int} (hr : at_ / 2 / 6 = rv) (d : decode cc pc = .ok (.invokestatic 142, 3)) (K : GO p l e R s mm args below meth c nL D A B cells slots Q (ws) (pc + 3) lv (.int (iI rv) :: st)) : GO p l e R s mm args below meth c nL D A B cells slots Q (ws) (pc) lv (.int (iI at_) :: st) := by
  refine g_callSR C (c_X1_fold l D C.hl at_ hat) (As := [.int (iI at_)]) (n := 1) (lw_S q607 q608 q48 q609) (by decide +kernel) rfl rfl hR rfl rfl hcat ⟨hroom.1, hroom.2⟩ d Sb.nil exT_b hex_t (fun v w hp => ?_) kx_n
  obtain ⟨z, rfl, rfl⟩ := hp
  rw [hr]
  exact K
end MK

set_option maxHeartbeats 4000000 in
set_option maxRecDepth 100000 in
theorem c_X1_station (l : Launch) (D : va_G) (hst : l.stackTraces = false) (at_ : Int) (hat : 0 ≤ at_ ∧ at_ < 60) : CT l D yX1_station (ws_ yX1_station cX1_station 1 (some .int)) (rmD 0 0 0) (0) (0) mdR [.int (iI at_)] ([]) exT (pI fun z _ => z = at_ / 2 % 6) (xN) := by
  refine ct_R (lv := [(0, .int (iI at_))]) RX1 (by decide) rfl rfl hst (Nat.le_of_ble_eq_true rfl) rfl ?_
  intro p e s mm args below meth c A C htab hex
  refine g_iload_n C dX1_station_0 rfl 0 rfl ?_
  refine g_iconst C dX1_station_1 ?_
  refine g_idiv C dX1_station_2 (by omega) (by omega) ?_
  refine g_bipush C dX1_station_3 (z := 6) rfl ?_
  refine g_irem C dX1_station_5 (by omega) (by omega) ?_
  refine g_nilA ?_
  exact g_iret C dX1_station_6 rfl (Nat.le_of_ble_eq_true rfl) (Nat.le_of_ble_eq_true rfl) ⟨_, rfl, by omega⟩

section MK
variable {p : Program} {l : Launch} {e : Env} {R : Room} {s : State} {mm : MethodId} {args : Array Value} {below : List Frame} {meth : Method} {c : Code} {cc : ByteArray} {nL : Nat} {ret : Option FieldType} {D : va_G} {A B : Nat → Prop} {cells slots : Nat} {Q : State → Prop} {pc : Nat} {lv : List (Nat × Value)} {st : List Value}
theorem kX1_X1_station {ws : va_W} (at_ : Int) (C : CX p l s mm args meth c RX1 cc nL ret D A) (hat : 0 ≤ at_ ∧ at_ < 60) (hR : 0 + 1 ≤ R.frames ∧ 8 + (1 + 11) + 64 * 0 ≤ R.locals) (hcat : (st.map fun v => v.category).sum ≤ 8) (hroom : cells ≤ R.cells ∧ slots ≤ R.slots) {rv : Int} (hr : at_ / 2 % 6 = rv) (d : decode cc pc = .ok (.invokestatic 145, 3)) (K : GO p l e R s mm args below meth c nL D A B cells slots Q (ws) (pc + 3) lv (.int (iI rv) :: st)) : GO p l e R s mm args below meth c nL D A B cells slots Q (ws) (pc) lv (.int (iI at_) :: st) := by
  refine g_callSR C (c_X1_station l D C.hl at_ hat) (As := [.int (iI at_)]) (n := 1) (lw_S q610 q611 q48 q612) (by decide +kernel) rfl rfl hR rfl rfl hcat ⟨hroom.1, hroom.2⟩ d Sb.nil exT_b hex_t (fun v w hp => ?_) kx_n
  obtain ⟨z, rfl, rfl⟩ := hp
  rw [hr]
  exact K
end MK

set_option maxHeartbeats 4000000 in
set_option maxRecDepth 100000 in
theorem c_X1_isInside (l : Launch) (D : va_G) (hst : l.stackTraces = false) (at_ : Int) (hat : 0 ≤ at_ ∧ at_ < 60) : CT l D yX1_isInside (ws_ yX1_isInside cX1_isInside 1 (some .boolean)) (rmD 0 0 0) (0) (0) mdR [.int (iI at_)] ([]) exT (pI fun z _ => z = at_ % 2) (xN) := by
  refine ct_R (lv := [(0, .int (iI at_))]) RX1 (by decide) rfl rfl hst (Nat.le_of_ble_eq_true rfl) rfl ?_
  intro p e s mm args below meth c A C htab hex
  refine g_iload_n C dX1_isInside_0 rfl 0 rfl ?_
  refine g_iconst C dX1_isInside_1 ?_
  refine g_irem C dX1_isInside_2 (by omega) (by omega) ?_
  refine g_iconst C dX1_isInside_3 ?_
  refine g_icmp_ne C (tgt := 11) dX1_isInside_4 (by decide) (by omega) (by omega) (fun hc4_1 => ?_) (fun hc4_1 => ?_)
  ·
    refine g_iconst C dX1_isInside_11 ?_
    refine g_nilA ?_
    exact g_iret C dX1_isInside_12 rfl (Nat.le_of_ble_eq_true rfl) (Nat.le_of_ble_eq_true rfl) ⟨_, rfl, by omega⟩
  ·
    refine g_iconst C dX1_isInside_7 ?_
    refine g_goto C (tgt := 12) dX1_isInside_8 (by decide) ?_
    refine g_nilA ?_
    exact g_iret C dX1_isInside_12 rfl (Nat.le_of_ble_eq_true rfl) (Nat.le_of_ble_eq_true rfl) ⟨_, rfl, by omega⟩

section MK
variable {p : Program} {l : Launch} {e : Env} {R : Room} {s : State} {mm : MethodId} {args : Array Value} {below : List Frame} {meth : Method} {c : Code} {cc : ByteArray} {nL : Nat} {ret : Option FieldType} {D : va_G} {A B : Nat → Prop} {cells slots : Nat} {Q : State → Prop} {pc : Nat} {lv : List (Nat × Value)} {st : List Value}
theorem kX1_X1_isInside {ws : va_W} (at_ : Int) (C : CX p l s mm args meth c RX1 cc nL ret D A) (hat : 0 ≤ at_ ∧ at_ < 60) (hR : 0 + 1 ≤ R.frames ∧ 8 + (1 + 11) + 64 * 0 ≤ R.locals) (hcat : (st.map fun v => v.category).sum ≤ 8) (hroom : cells ≤ R.cells ∧ slots ≤ R.slots) {rv : Int} (hr : at_ % 2 = rv) (d : decode cc pc = .ok (.invokestatic 147, 3)) (K : GO p l e R s mm args below meth c nL D A B cells slots Q (ws) (pc + 3) lv (.int (iI rv) :: st)) : GO p l e R s mm args below meth c nL D A B cells slots Q (ws) (pc) lv (.int (iI at_) :: st) := by
  refine g_callSR C (c_X1_isInside l D C.hl at_ hat) (As := [.int (iI at_)]) (n := 1) (lw_S q617 q618 q48 q619) (by decide +kernel) rfl rfl hR rfl rfl hcat ⟨hroom.1, hroom.2⟩ d Sb.nil exT_b hex_t (fun v w hp => ?_) kx_n
  obtain ⟨z, rfl, rfl⟩ := hp
  rw [hr]
  exact K
end MK

set_option maxHeartbeats 4000000 in
set_option maxRecDepth 100000 in
theorem c_X1_leads (l : Launch) (D : va_G) (hst : l.stackTraces = false) (h : Nat → Nat) (f : Nat → Int) (g : Nat → Int → Int) (N : Nat → Nat) (M : Nat → Nat → Nat) (T : va_W) (at_ mv : Int) (hF : 1 ≤ f 0 ∧ f 0 ≤ 5) (hS : 2 ≤ f 1 ∧ f 1 ≤ 6) (hkd : ∀ j, 0 ≤ j → j < 6 → 0 ≤ g 5 j ∧ g 5 j ≤ 3) (hat : 0 ≤ at_ ∧ at_ < 60) (hm : 0 ≤ mv ∧ mv < 8) : CT l D yX1_leads (ws_ yX1_leads cX1_leads 6 (some .int)) (rmD 1 0 0) (0) (0) mdR [.ref (h 0), .int (iI at_), .int (iI mv)] (sW D h f g N M T) exT (pI fun z _ => z = lead (f 0) (f 1) (g 5) at_ mv) (xN) := by
  refine ct_R (lv := [(0, .ref (h 0)), (1, .int (iI at_)), (2, .int (iI mv))]) RX1 (by decide) rfl rfl hst (Nat.le_of_ble_eq_true rfl) rfl ?_
  intro p e s mm args below meth c A C htab hex
  refine g_iload_n C dX1_leads_0 rfl 1 rfl ?_
  refine kX1_X1_fold at_ C (by omega) ⟨Nat.le_of_ble_eq_true rfl, Nat.le_of_ble_eq_true rfl⟩ (Nat.le_of_ble_eq_true rfl) ⟨Nat.le_of_ble_eq_true rfl, Nat.le_of_ble_eq_true rfl⟩ (rv := at_ / 2 / 6) rfl dX1_leads_1 ?_
  refine g_istore_n C dX1_leads_4 rfl (lv' := [(0, .ref (h 0)), (1, .int (iI at_)), (2, .int (iI mv)), (3, .int (iI (at_ / 2 / 6)))]) [1, 2, 3, 0] rfl (Nat.le_of_ble_eq_true rfl) ?_
  refine g_iload_n C dX1_leads_5 rfl 1 rfl ?_
  refine kX1_X1_station at_ C (by omega) ⟨Nat.le_of_ble_eq_true rfl, Nat.le_of_ble_eq_true rfl⟩ (Nat.le_of_ble_eq_true rfl) ⟨Nat.le_of_ble_eq_true rfl, Nat.le_of_ble_eq_true rfl⟩ (rv := at_ / 2 % 6) rfl dX1_leads_6 ?_
  refine g_istore C dX1_leads_9 (lv' := [(0, .ref (h 0)), (1, .int (iI at_)), (2, .int (iI mv)), (3, .int (iI (at_ / 2 / 6))), (4, .int (iI (at_ / 2 % 6)))]) [1, 2, 3, 4, 0] rfl (Nat.le_of_ble_eq_true rfl) ?_
  refine g_iload_n C dX1_leads_11 rfl 1 rfl ?_
  refine kX1_X1_isInside at_ C (by omega) ⟨Nat.le_of_ble_eq_true rfl, Nat.le_of_ble_eq_true rfl⟩ (Nat.le_of_ble_eq_true rfl) ⟨Nat.le_of_ble_eq_true rfl, Nat.le_of_ble_eq_true rfl⟩ (rv := at_ % 2) rfl dX1_leads_12 ?_
  refine g_istore C dX1_leads_15 (lv' := [(0, .ref (h 0)), (1, .int (iI at_)), (2, .int (iI mv)), (3, .int (iI (at_ / 2 / 6))), (4, .int (iI (at_ / 2 % 6))), (5, .int (iI (at_ % 2)))]) [1, 2, 3, 4, 5, 0] rfl (Nat.le_of_ble_eq_true rfl) ?_
  refine g_iload_n C dX1_leads_17 rfl 2 rfl ?_
  rcases (show mv = 0 ∨ mv = 1 ∨ mv = 2 ∨ mv = 3 ∨ mv = 4 ∨ mv = 5 ∨ mv = 6 ∨ mv = 7 by omega) with rfl | rfl | rfl | rfl | rfl | rfl | rfl | rfl
  ·
    refine g_table C (tgt := 60) dX1_leads_18 (by omega) (by omega) rfl (by decide) ?_
    refine g_iload_n C dX1_leads_60 rfl 3 rfl ?_
    refine g_iload C dX1_leads_61 4 rfl ?_
    refine g_iload C dX1_leads_63 5 rfl ?_
    refine g_if_ne C (tgt := 72) dX1_leads_65 (by decide) (by omega) (fun hc65_1 => ?_) (fun hc65_1 => ?_)
    ·
      refine g_iconst C dX1_leads_72 ?_
      refine kX1_X1_place (at_ / 2 / 6) (at_ / 2 % 6) 0 C (by omega) (by omega) (by omega) ⟨Nat.le_of_ble_eq_true rfl, Nat.le_of_ble_eq_true rfl⟩ (Nat.le_of_ble_eq_true rfl) ⟨Nat.le_of_ble_eq_true rfl, Nat.le_of_ble_eq_true rfl⟩ (rv := 2 * (6 * (at_ / 2 / 6) + (at_ / 2 % 6)) + 0) rfl dX1_leads_73 ?_
      refine g_nilA ?_
      exact g_iret C dX1_leads_76 rfl (Nat.le_of_ble_eq_true rfl) (Nat.le_of_ble_eq_true rfl) ⟨_, rfl, by rw [lead_0] <;> (try split) <;> omega⟩
    ·
      refine g_iconst C dX1_leads_68 ?_
      refine g_goto C (tgt := 73) dX1_leads_69 (by decide) ?_
      refine kX1_X1_place (at_ / 2 / 6) (at_ / 2 % 6) 1 C (by omega) (by omega) (by omega) ⟨Nat.le_of_ble_eq_true rfl, Nat.le_of_ble_eq_true rfl⟩ (Nat.le_of_ble_eq_true rfl) ⟨Nat.le_of_ble_eq_true rfl, Nat.le_of_ble_eq_true rfl⟩ (rv := 2 * (6 * (at_ / 2 / 6) + (at_ / 2 % 6)) + 1) rfl dX1_leads_73 ?_
      refine g_nilA ?_
      exact g_iret C dX1_leads_76 rfl (Nat.le_of_ble_eq_true rfl) (Nat.le_of_ble_eq_true rfl) ⟨_, rfl, by rw [lead_0] <;> (try split) <;> omega⟩
  ·
    refine g_table C (tgt := 77) dX1_leads_18 (by omega) (by omega) rfl (by decide) ?_
    refine g_iload C dX1_leads_77 5 rfl ?_
    refine g_if_eq C (tgt := 105) dX1_leads_79 (by decide) (by omega) (fun hc79_2 => ?_) (fun hc79_2 => ?_)
    ·
      refine g_iconst C dX1_leads_105 ?_
      refine g_nilA ?_
      exact g_iret C dX1_leads_106 rfl (Nat.le_of_ble_eq_true rfl) (Nat.le_of_ble_eq_true rfl) ⟨_, rfl, by rw [lead_1] <;> (try split) <;> omega⟩
    ·
      refine g_iload C dX1_leads_82 4 rfl ?_
      refine g_iconst C dX1_leads_84 ?_
      refine g_iadd C dX1_leads_85 ?_
      refine g_aload_n C dX1_leads_86 rfl 0 rfl ?_
      refine gs_get1 C (v := f 1) rfl dX1_leads_87 ?_
      refine g_icmp_ge C (tgt := 105) dX1_leads_90 (by decide) (by omega) (by omega) (fun hc90_3 => ?_) (fun hc90_3 => ?_)
      ·
        refine g_iconst C dX1_leads_105 ?_
        refine g_nilA ?_
        exact g_iret C dX1_leads_106 rfl (Nat.le_of_ble_eq_true rfl) (Nat.le_of_ble_eq_true rfl) ⟨_, rfl, by rw [lead_1] <;> (try split) <;> omega⟩
      ·
        refine g_iload_n C dX1_leads_93 rfl 3 rfl ?_
        refine g_iload C dX1_leads_94 4 rfl ?_
        refine g_iconst C dX1_leads_96 ?_
        refine g_iadd C dX1_leads_97 ?_
        refine g_iconst C dX1_leads_98 ?_
        refine kX1_X1_place (at_ / 2 / 6) ((at_ / 2 % 6) + 1) 1 C (by omega) (by omega) (by omega) ⟨Nat.le_of_ble_eq_true rfl, Nat.le_of_ble_eq_true rfl⟩ (Nat.le_of_ble_eq_true rfl) ⟨Nat.le_of_ble_eq_true rfl, Nat.le_of_ble_eq_true rfl⟩ (rv := 2 * (6 * (at_ / 2 / 6) + ((at_ / 2 % 6) + 1)) + 1) rfl dX1_leads_99 ?_
        refine g_goto C (tgt := 106) dX1_leads_102 (by decide) ?_
        refine g_nilA ?_
        exact g_iret C dX1_leads_106 rfl (Nat.le_of_ble_eq_true rfl) (Nat.le_of_ble_eq_true rfl) ⟨_, rfl, by rw [lead_1] <;> (try split) <;> omega⟩
  ·
    refine g_table C (tgt := 107) dX1_leads_18 (by omega) (by omega) rfl (by decide) ?_
    refine g_iload C dX1_leads_107 5 rfl ?_
    refine g_if_eq C (tgt := 129) dX1_leads_109 (by decide) (by omega) (fun hc109_4 => ?_) (fun hc109_4 => ?_)
    ·
      refine g_iconst C dX1_leads_129 ?_
      refine g_nilA ?_
      exact g_iret C dX1_leads_130 rfl (Nat.le_of_ble_eq_true rfl) (Nat.le_of_ble_eq_true rfl) ⟨_, rfl, by rw [lead_2] <;> (try split) <;> omega⟩
    ·
      refine g_iload C dX1_leads_112 4 rfl ?_
      refine g_if_le C (tgt := 129) dX1_leads_114 (by decide) (by omega) (fun hc114_5 => ?_) (fun hc114_5 => ?_)
      ·
        refine g_iconst C dX1_leads_129 ?_
        refine g_nilA ?_
        exact g_iret C dX1_leads_130 rfl (Nat.le_of_ble_eq_true rfl) (Nat.le_of_ble_eq_true rfl) ⟨_, rfl, by rw [lead_2] <;> (try split) <;> omega⟩
      ·
        refine g_iload_n C dX1_leads_117 rfl 3 rfl ?_
        refine g_iload C dX1_leads_118 4 rfl ?_
        refine g_iconst C dX1_leads_120 ?_
        refine g_isub C dX1_leads_121 ?_
        refine g_iconst C dX1_leads_122 ?_
        refine kX1_X1_place (at_ / 2 / 6) ((at_ / 2 % 6) - 1) 1 C (by omega) (by omega) (by omega) ⟨Nat.le_of_ble_eq_true rfl, Nat.le_of_ble_eq_true rfl⟩ (Nat.le_of_ble_eq_true rfl) ⟨Nat.le_of_ble_eq_true rfl, Nat.le_of_ble_eq_true rfl⟩ (rv := 2 * (6 * (at_ / 2 / 6) + ((at_ / 2 % 6) - 1)) + 1) rfl dX1_leads_123 ?_
        refine g_goto C (tgt := 130) dX1_leads_126 (by decide) ?_
        refine g_nilA ?_
        exact g_iret C dX1_leads_130 rfl (Nat.le_of_ble_eq_true rfl) (Nat.le_of_ble_eq_true rfl) ⟨_, rfl, by rw [lead_2] <;> (try split) <;> omega⟩
  ·
    refine g_table C (tgt := 131) dX1_leads_18 (by omega) (by omega) rfl (by decide) ?_
    refine g_iload C dX1_leads_131 5 rfl ?_
    refine g_if_ne C (tgt := 170) dX1_leads_133 (by decide) (by omega) (fun hc133_6 => ?_) (fun hc133_6 => ?_)
    ·
      refine g_iconst C dX1_leads_170 ?_
      refine g_nilA ?_
      exact g_iret C dX1_leads_171 rfl (Nat.le_of_ble_eq_true rfl) (Nat.le_of_ble_eq_true rfl) ⟨_, rfl, by rw [lead_3] <;> (try split) <;> omega⟩
    ·
      refine g_iload C dX1_leads_136 4 rfl ?_
      refine g_iconst C dX1_leads_138 ?_
      refine g_iadd C dX1_leads_139 ?_
      refine g_aload_n C dX1_leads_140 rfl 0 rfl ?_
      refine gs_get1 C (v := f 1) rfl dX1_leads_141 ?_
      refine g_icmp_ge C (tgt := 170) dX1_leads_144 (by decide) (by omega) (by omega) (fun hc144_7 => ?_) (fun hc144_7 => ?_)
      ·
        refine g_iconst C dX1_leads_170 ?_
        refine g_nilA ?_
        exact g_iret C dX1_leads_171 rfl (Nat.le_of_ble_eq_true rfl) (Nat.le_of_ble_eq_true rfl) ⟨_, rfl, by rw [lead_3] <;> (try split) <;> omega⟩
      ·
        refine g_aload_n C dX1_leads_147 rfl 0 rfl ?_
        refine gs_get5 C dX1_leads_148 ?_
        refine g_iload C dX1_leads_151 4 rfl ?_
        refine gs_ald5 C (v := (g 5) (at_ / 2 % 6)) rfl dX1_leads_153 (by omega) ?_
        have hf8 := hkd (at_ / 2 % 6) (by omega) (by omega)
        refine g_iconst C dX1_leads_154 ?_
        refine g_icmp_ne C (tgt := 170) dX1_leads_155 (by decide) (by omega) (by omega) (fun hc155_9 => ?_) (fun hc155_9 => ?_)
        ·
          refine g_iconst C dX1_leads_170 ?_
          refine g_nilA ?_
          exact g_iret C dX1_leads_171 rfl (Nat.le_of_ble_eq_true rfl) (Nat.le_of_ble_eq_true rfl) ⟨_, rfl, by rw [lead_3] <;> (try split) <;> omega⟩
        ·
          refine g_iload_n C dX1_leads_158 rfl 3 rfl ?_
          refine g_iload C dX1_leads_159 4 rfl ?_
          refine g_iconst C dX1_leads_161 ?_
          refine g_iadd C dX1_leads_162 ?_
          refine g_iconst C dX1_leads_163 ?_
          refine kX1_X1_place (at_ / 2 / 6) ((at_ / 2 % 6) + 1) 0 C (by omega) (by omega) (by omega) ⟨Nat.le_of_ble_eq_true rfl, Nat.le_of_ble_eq_true rfl⟩ (Nat.le_of_ble_eq_true rfl) ⟨Nat.le_of_ble_eq_true rfl, Nat.le_of_ble_eq_true rfl⟩ (rv := 2 * (6 * (at_ / 2 / 6) + ((at_ / 2 % 6) + 1)) + 0) rfl dX1_leads_164 ?_
          refine g_goto C (tgt := 171) dX1_leads_167 (by decide) ?_
          refine g_nilA ?_
          exact g_iret C dX1_leads_171 rfl (Nat.le_of_ble_eq_true rfl) (Nat.le_of_ble_eq_true rfl) ⟨_, rfl, by rw [lead_3] <;> (try split) <;> omega⟩
  ·
    refine g_table C (tgt := 172) dX1_leads_18 (by omega) (by omega) rfl (by decide) ?_
    refine g_iload C dX1_leads_172 5 rfl ?_
    refine g_if_ne C (tgt := 207) dX1_leads_174 (by decide) (by omega) (fun hc174_10 => ?_) (fun hc174_10 => ?_)
    ·
      refine g_iconst C dX1_leads_207 ?_
      refine g_nilA ?_
      exact g_iret C dX1_leads_208 rfl (Nat.le_of_ble_eq_true rfl) (Nat.le_of_ble_eq_true rfl) ⟨_, rfl, by rw [lead_4] <;> (try split) <;> omega⟩
    ·
      refine g_iload C dX1_leads_177 4 rfl ?_
      refine g_if_le C (tgt := 207) dX1_leads_179 (by decide) (by omega) (fun hc179_11 => ?_) (fun hc179_11 => ?_)
      ·
        refine g_iconst C dX1_leads_207 ?_
        refine g_nilA ?_
        exact g_iret C dX1_leads_208 rfl (Nat.le_of_ble_eq_true rfl) (Nat.le_of_ble_eq_true rfl) ⟨_, rfl, by rw [lead_4] <;> (try split) <;> omega⟩
      ·
        refine g_aload_n C dX1_leads_182 rfl 0 rfl ?_
        refine gs_get5 C dX1_leads_183 ?_
        refine g_iload C dX1_leads_186 4 rfl ?_
        refine g_iconst C dX1_leads_188 ?_
        refine g_isub C dX1_leads_189 ?_
        refine gs_ald5 C (v := (g 5) ((at_ / 2 % 6) - 1)) rfl dX1_leads_190 (by omega) ?_
        have hf12 := hkd ((at_ / 2 % 6) - 1) (by omega) (by omega)
        refine g_iconst C dX1_leads_191 ?_
        refine g_icmp_ne C (tgt := 207) dX1_leads_192 (by decide) (by omega) (by omega) (fun hc192_13 => ?_) (fun hc192_13 => ?_)
        ·
          refine g_iconst C dX1_leads_207 ?_
          refine g_nilA ?_
          exact g_iret C dX1_leads_208 rfl (Nat.le_of_ble_eq_true rfl) (Nat.le_of_ble_eq_true rfl) ⟨_, rfl, by rw [lead_4] <;> (try split) <;> omega⟩
        ·
          refine g_iload_n C dX1_leads_195 rfl 3 rfl ?_
          refine g_iload C dX1_leads_196 4 rfl ?_
          refine g_iconst C dX1_leads_198 ?_
          refine g_isub C dX1_leads_199 ?_
          refine g_iconst C dX1_leads_200 ?_
          refine kX1_X1_place (at_ / 2 / 6) ((at_ / 2 % 6) - 1) 0 C (by omega) (by omega) (by omega) ⟨Nat.le_of_ble_eq_true rfl, Nat.le_of_ble_eq_true rfl⟩ (Nat.le_of_ble_eq_true rfl) ⟨Nat.le_of_ble_eq_true rfl, Nat.le_of_ble_eq_true rfl⟩ (rv := 2 * (6 * (at_ / 2 / 6) + ((at_ / 2 % 6) - 1)) + 0) rfl dX1_leads_201 ?_
          refine g_goto C (tgt := 208) dX1_leads_204 (by decide) ?_
          refine g_nilA ?_
          exact g_iret C dX1_leads_208 rfl (Nat.le_of_ble_eq_true rfl) (Nat.le_of_ble_eq_true rfl) ⟨_, rfl, by rw [lead_4] <;> (try split) <;> omega⟩
  ·
    refine g_table C (tgt := 209) dX1_leads_18 (by omega) (by omega) rfl (by decide) ?_
    refine g_iload C dX1_leads_209 5 rfl ?_
    refine g_if_ne C (tgt := 229) dX1_leads_211 (by decide) (by omega) (fun hc211_14 => ?_) (fun hc211_14 => ?_)
    ·
      refine g_iconst C dX1_leads_229 ?_
      refine g_nilA ?_
      exact g_iret C dX1_leads_230 rfl (Nat.le_of_ble_eq_true rfl) (Nat.le_of_ble_eq_true rfl) ⟨_, rfl, by rw [lead_5] <;> (try split) <;> omega⟩
    ·
      refine g_aload_n C dX1_leads_214 rfl 0 rfl ?_
      refine gs_get5 C dX1_leads_215 ?_
      refine g_iload C dX1_leads_218 4 rfl ?_
      refine gs_ald5 C (v := (g 5) (at_ / 2 % 6)) rfl dX1_leads_220 (by omega) ?_
      have hf15 := hkd (at_ / 2 % 6) (by omega) (by omega)
      refine g_iconst C dX1_leads_221 ?_
      refine g_icmp_ne C (tgt := 229) dX1_leads_222 (by decide) (by omega) (by omega) (fun hc222_16 => ?_) (fun hc222_16 => ?_)
      ·
        refine g_iconst C dX1_leads_229 ?_
        refine g_nilA ?_
        exact g_iret C dX1_leads_230 rfl (Nat.le_of_ble_eq_true rfl) (Nat.le_of_ble_eq_true rfl) ⟨_, rfl, by rw [lead_5] <;> (try split) <;> omega⟩
      ·
        refine g_iload_n C dX1_leads_225 rfl 1 rfl ?_
        refine g_goto C (tgt := 230) dX1_leads_226 (by decide) ?_
        refine g_nilA ?_
        exact g_iret C dX1_leads_230 rfl (Nat.le_of_ble_eq_true rfl) (Nat.le_of_ble_eq_true rfl) ⟨_, rfl, by rw [lead_5] <;> (try split) <;> omega⟩
  ·
    refine g_table C (tgt := 231) dX1_leads_18 (by omega) (by omega) rfl (by decide) ?_
    refine g_iload C dX1_leads_231 5 rfl ?_
    refine g_if_ne C (tgt := 269) dX1_leads_233 (by decide) (by omega) (fun hc233_17 => ?_) (fun hc233_17 => ?_)
    ·
      refine g_iconst C dX1_leads_269 ?_
      refine g_nilA ?_
      exact g_iret C dX1_leads_270 rfl (Nat.le_of_ble_eq_true rfl) (Nat.le_of_ble_eq_true rfl) ⟨_, rfl, by rw [lead_6] <;> (try split) <;> omega⟩
    ·
      refine g_aload_n C dX1_leads_236 rfl 0 rfl ?_
      refine gs_get5 C dX1_leads_237 ?_
      refine g_iload C dX1_leads_240 4 rfl ?_
      refine gs_ald5 C (v := (g 5) (at_ / 2 % 6)) rfl dX1_leads_242 (by omega) ?_
      have hf18 := hkd (at_ / 2 % 6) (by omega) (by omega)
      refine g_iconst C dX1_leads_243 ?_
      refine g_icmp_ne C (tgt := 269) dX1_leads_244 (by decide) (by omega) (by omega) (fun hc244_19 => ?_) (fun hc244_19 => ?_)
      ·
        refine g_iconst C dX1_leads_269 ?_
        refine g_nilA ?_
        exact g_iret C dX1_leads_270 rfl (Nat.le_of_ble_eq_true rfl) (Nat.le_of_ble_eq_true rfl) ⟨_, rfl, by rw [lead_6] <;> (try split) <;> omega⟩
      ·
        refine g_iload_n C dX1_leads_247 rfl 3 rfl ?_
        refine g_iconst C dX1_leads_248 ?_
        refine g_iadd C dX1_leads_249 ?_
        refine g_aload_n C dX1_leads_250 rfl 0 rfl ?_
        refine gs_get0 C (v := f 0) rfl dX1_leads_251 ?_
        refine g_icmp_ge C (tgt := 269) dX1_leads_254 (by decide) (by omega) (by omega) (fun hc254_20 => ?_) (fun hc254_20 => ?_)
        ·
          refine g_iconst C dX1_leads_269 ?_
          refine g_nilA ?_
          exact g_iret C dX1_leads_270 rfl (Nat.le_of_ble_eq_true rfl) (Nat.le_of_ble_eq_true rfl) ⟨_, rfl, by rw [lead_6] <;> (try split) <;> omega⟩
        ·
          refine g_iload_n C dX1_leads_257 rfl 3 rfl ?_
          refine g_iconst C dX1_leads_258 ?_
          refine g_iadd C dX1_leads_259 ?_
          refine g_iload C dX1_leads_260 4 rfl ?_
          refine g_iconst C dX1_leads_262 ?_
          refine kX1_X1_place ((at_ / 2 / 6) + 1) (at_ / 2 % 6) 0 C (by omega) (by omega) (by omega) ⟨Nat.le_of_ble_eq_true rfl, Nat.le_of_ble_eq_true rfl⟩ (Nat.le_of_ble_eq_true rfl) ⟨Nat.le_of_ble_eq_true rfl, Nat.le_of_ble_eq_true rfl⟩ (rv := 2 * (6 * ((at_ / 2 / 6) + 1) + (at_ / 2 % 6)) + 0) rfl dX1_leads_263 ?_
          refine g_goto C (tgt := 270) dX1_leads_266 (by decide) ?_
          refine g_nilA ?_
          exact g_iret C dX1_leads_270 rfl (Nat.le_of_ble_eq_true rfl) (Nat.le_of_ble_eq_true rfl) ⟨_, rfl, by rw [lead_6] <;> (try split) <;> omega⟩
  ·
    refine g_tableD C (tgt := 271) dX1_leads_18 (by omega) (by omega) (by decide) ?_
    refine g_iload C dX1_leads_271 5 rfl ?_
    refine g_if_ne C (tgt := 303) dX1_leads_273 (by decide) (by omega) (fun hc273_21 => ?_) (fun hc273_21 => ?_)
    ·
      refine g_iconst C dX1_leads_303 ?_
      refine g_nilA ?_
      exact g_iret C dX1_leads_304 rfl (Nat.le_of_ble_eq_true rfl) (Nat.le_of_ble_eq_true rfl) ⟨_, rfl, by rw [lead_7] <;> (try split) <;> omega⟩
    ·
      refine g_aload_n C dX1_leads_276 rfl 0 rfl ?_
      refine gs_get5 C dX1_leads_277 ?_
      refine g_iload C dX1_leads_280 4 rfl ?_
      refine gs_ald5 C (v := (g 5) (at_ / 2 % 6)) rfl dX1_leads_282 (by omega) ?_
      have hf22 := hkd (at_ / 2 % 6) (by omega) (by omega)
      refine g_iconst C dX1_leads_283 ?_
      refine g_icmp_ne C (tgt := 303) dX1_leads_284 (by decide) (by omega) (by omega) (fun hc284_23 => ?_) (fun hc284_23 => ?_)
      ·
        refine g_iconst C dX1_leads_303 ?_
        refine g_nilA ?_
        exact g_iret C dX1_leads_304 rfl (Nat.le_of_ble_eq_true rfl) (Nat.le_of_ble_eq_true rfl) ⟨_, rfl, by rw [lead_7] <;> (try split) <;> omega⟩
      ·
        refine g_iload_n C dX1_leads_287 rfl 3 rfl ?_
        refine g_if_le C (tgt := 303) dX1_leads_288 (by decide) (by omega) (fun hc288_24 => ?_) (fun hc288_24 => ?_)
        ·
          refine g_iconst C dX1_leads_303 ?_
          refine g_nilA ?_
          exact g_iret C dX1_leads_304 rfl (Nat.le_of_ble_eq_true rfl) (Nat.le_of_ble_eq_true rfl) ⟨_, rfl, by rw [lead_7] <;> (try split) <;> omega⟩
        ·
          refine g_iload_n C dX1_leads_291 rfl 3 rfl ?_
          refine g_iconst C dX1_leads_292 ?_
          refine g_isub C dX1_leads_293 ?_
          refine g_iload C dX1_leads_294 4 rfl ?_
          refine g_iconst C dX1_leads_296 ?_
          refine kX1_X1_place ((at_ / 2 / 6) - 1) (at_ / 2 % 6) 0 C (by omega) (by omega) (by omega) ⟨Nat.le_of_ble_eq_true rfl, Nat.le_of_ble_eq_true rfl⟩ (Nat.le_of_ble_eq_true rfl) ⟨Nat.le_of_ble_eq_true rfl, Nat.le_of_ble_eq_true rfl⟩ (rv := 2 * (6 * ((at_ / 2 / 6) - 1) + (at_ / 2 % 6)) + 0) rfl dX1_leads_297 ?_
          refine g_goto C (tgt := 304) dX1_leads_300 (by decide) ?_
          refine g_nilA ?_
          exact g_iret C dX1_leads_304 rfl (Nat.le_of_ble_eq_true rfl) (Nat.le_of_ble_eq_true rfl) ⟨_, rfl, by rw [lead_7] <;> (try split) <;> omega⟩

section MK
variable {p : Program} {l : Launch} {e : Env} {R : Room} {s : State} {mm : MethodId} {args : Array Value} {below : List Frame} {meth : Method} {c : Code} {cc : ByteArray} {nL : Nat} {ret : Option FieldType} {D : va_G} {A B : Nat → Prop} {cells slots : Nat} {Q : State → Prop} {pc : Nat} {lv : List (Nat × Value)} {st : List Value}
theorem kX1_X1_leads {ws : va_W} (h : Nat → Nat) (f : Nat → Int) (g : Nat → Int → Int) (N : Nat → Nat) (M : Nat → Nat → Nat) (T : va_W) (at_ mv : Int) (C : CX p l s mm args meth c RX1 cc nL ret D A) (hF : 1 ≤ f 0 ∧ f 0 ≤ 5) (hS : 2 ≤ f 1 ∧ f 1 ≤ 6) (hkd : ∀ j, 0 ≤ j → j < 6 → 0 ≤ g 5 j ∧ g 5 j ≤ 3) (hat : 0 ≤ at_ ∧ at_ < 60) (hm : 0 ≤ mv ∧ mv < 8) (hR : 1 + 1 ≤ R.frames ∧ 8 + (6 + 11) + 64 * 1 ≤ R.locals) (hcat : (st.map fun v => v.category).sum ≤ 8) (hroom : cells ≤ R.cells ∧ slots ≤ R.slots) {rv : Int} (hr : lead (f 0) (f 1) (g 5) at_ mv = rv) (hsb : Sb ws (sW D h f g N M T)) (d : decode cc pc = .ok (.invokevirtual 181, 3)) (K : GO p l e R s mm args below meth c nL D A B cells slots Q (ws) (pc + 3) lv (.int (iI rv) :: st)) : GO p l e R s mm args below meth c nL D A B cells slots Q (ws) (pc) lv (.int (iI mv) :: .int (iI at_) :: .ref (h 0) :: st) := by
  refine g_callVR C (c_X1_leads l D C.hl h f g N M T at_ mv hF hS hkd hat hm) (As := [.int (iI at_), .int (iI mv)]) (n := 2) (lw_V q613 q615 qs7 q48 q616) (by decide +kernel) rfl rfl hR (rcvH C hsb) rfl rfl hcat ⟨hroom.1, hroom.2⟩ d hsb exT_b hex_t (fun v w hp => ?_) kx_n
  obtain ⟨z, rfl, rfl⟩ := hp
  rw [hr]
  exact K
end MK

set_option maxHeartbeats 4000000 in
set_option maxRecDepth 100000 in
theorem c_X1_length (l : Launch) (D : va_G) (hst : l.stackTraces = false) (h : Nat → Nat) (f : Nat → Int) (g : Nat → Int → Int) (N : Nat → Nat) (M : Nat → Nat → Nat) (T : va_W) (at_ mv : Int) (hF : 1 ≤ f 0 ∧ f 0 ≤ 5) (hS : 2 ≤ f 1 ∧ f 1 ≤ 6) (hth : ∀ j, 0 ≤ j → j < 5 → 1 ≤ g 3 j ∧ g 3 j ≤ 50) (hht : ∀ j, 0 ≤ j → j < 6 → 0 ≤ g 4 j ∧ g 4 j ≤ 400) (hat : 0 ≤ at_ ∧ at_ < 60) (hm : 0 ≤ mv ∧ mv < 8) (hv : lead (f 0) (f 1) (g 5) at_ mv ≠ -1) (hpf : at_ / 2 / 6 < f 0) (hps : at_ / 2 % 6 < f 1) : CT l D yX1_length (ws_ yX1_length cX1_length 5 (some .int)) (rmD 1 0 0) (0) (0) mdR [.ref (h 0), .int (iI at_), .int (iI mv)] (sW D h f g N M T) exT (pI fun z _ => z = leng (g 4) (g 3) at_ mv) (xN) := by
  refine ct_R (lv := [(0, .ref (h 0)), (1, .int (iI at_)), (2, .int (iI mv))]) RX1 (by decide) rfl rfl hst (Nat.le_of_ble_eq_true rfl) rfl ?_
  intro p e s mm args below meth c A C htab hex
  refine g_iload_n C dX1_length_0 rfl 1 rfl ?_
  refine kX1_X1_fold at_ C (by omega) ⟨Nat.le_of_ble_eq_true rfl, Nat.le_of_ble_eq_true rfl⟩ (Nat.le_of_ble_eq_true rfl) ⟨Nat.le_of_ble_eq_true rfl, Nat.le_of_ble_eq_true rfl⟩ (rv := at_ / 2 / 6) rfl dX1_length_1 ?_
  refine g_istore_n C dX1_length_4 rfl (lv' := [(0, .ref (h 0)), (1, .int (iI at_)), (2, .int (iI mv)), (3, .int (iI (at_ / 2 / 6)))]) [1, 2, 3, 0] rfl (Nat.le_of_ble_eq_true rfl) ?_
  refine g_iload_n C dX1_length_5 rfl 1 rfl ?_
  refine kX1_X1_station at_ C (by omega) ⟨Nat.le_of_ble_eq_true rfl, Nat.le_of_ble_eq_true rfl⟩ (Nat.le_of_ble_eq_true rfl) ⟨Nat.le_of_ble_eq_true rfl, Nat.le_of_ble_eq_true rfl⟩ (rv := at_ / 2 % 6) rfl dX1_length_6 ?_
  refine g_istore C dX1_length_9 (lv' := [(0, .ref (h 0)), (1, .int (iI at_)), (2, .int (iI mv)), (3, .int (iI (at_ / 2 / 6))), (4, .int (iI (at_ / 2 % 6)))]) [1, 2, 3, 4, 0] rfl (Nat.le_of_ble_eq_true rfl) ?_
  refine g_iload_n C dX1_length_11 rfl 2 rfl ?_
  rcases (show mv = 0 ∨ mv = 1 ∨ mv = 2 ∨ mv = 3 ∨ mv = 4 ∨ mv = 5 ∨ mv = 6 ∨ mv = 7 by omega) with rfl | rfl | rfl | rfl | rfl | rfl | rfl | rfl
  ·
    refine g_table C (tgt := 56) dX1_length_12 (by omega) (by omega) rfl (by decide) ?_
    refine g_iconst C dX1_length_56 ?_
    refine g_nilA ?_
    exact g_iret C dX1_length_57 rfl (Nat.le_of_ble_eq_true rfl) (Nat.le_of_ble_eq_true rfl) ⟨_, rfl, by rw [leng_0]⟩
  ·
    have hq := (leadn_1 hv).1
    refine g_table C (tgt := 58) dX1_length_12 (by omega) (by omega) rfl (by decide) ?_
    refine g_aload_n C dX1_length_58 rfl 0 rfl ?_
    refine gs_get4 C dX1_length_59 ?_
    refine g_iload C dX1_length_62 4 rfl ?_
    refine g_iconst C dX1_length_64 ?_
    refine g_iadd C dX1_length_65 ?_
    refine gs_ald4 C (v := (g 4) ((at_ / 2 % 6) + 1)) rfl dX1_length_66 (by omega) ?_
    have hf1 := hht ((at_ / 2 % 6) + 1) (by omega) (by omega)
    refine g_aload_n C dX1_length_67 rfl 0 rfl ?_
    refine gs_get4 C dX1_length_68 ?_
    refine g_iload C dX1_length_71 4 rfl ?_
    refine gs_ald4 C (v := (g 4) (at_ / 2 % 6)) rfl dX1_length_73 (by omega) ?_
    have hf2 := hht (at_ / 2 % 6) (by omega) (by omega)
    refine g_isub C dX1_length_74 ?_
    refine g_nilA ?_
    exact g_iret C dX1_length_75 rfl (Nat.le_of_ble_eq_true rfl) (Nat.le_of_ble_eq_true rfl) ⟨_, rfl, by rw [leng_1]⟩
  ·
    have hq := (leadn_2 hv).1
    refine g_table C (tgt := 76) dX1_length_12 (by omega) (by omega) rfl (by decide) ?_
    refine g_aload_n C dX1_length_76 rfl 0 rfl ?_
    refine gs_get4 C dX1_length_77 ?_
    refine g_iload C dX1_length_80 4 rfl ?_
    refine gs_ald4 C (v := (g 4) (at_ / 2 % 6)) rfl dX1_length_82 (by omega) ?_
    have hf3 := hht (at_ / 2 % 6) (by omega) (by omega)
    refine g_aload_n C dX1_length_83 rfl 0 rfl ?_
    refine gs_get4 C dX1_length_84 ?_
    refine g_iload C dX1_length_87 4 rfl ?_
    refine g_iconst C dX1_length_89 ?_
    refine g_isub C dX1_length_90 ?_
    refine gs_ald4 C (v := (g 4) ((at_ / 2 % 6) - 1)) rfl dX1_length_91 (by omega) ?_
    have hf4 := hht ((at_ / 2 % 6) - 1) (by omega) (by omega)
    refine g_isub C dX1_length_92 ?_
    refine g_nilA ?_
    exact g_iret C dX1_length_93 rfl (Nat.le_of_ble_eq_true rfl) (Nat.le_of_ble_eq_true rfl) ⟨_, rfl, by rw [leng_2]⟩
  ·
    have hq := (leadn_3 hv).1
    refine g_table C (tgt := 94) dX1_length_12 (by omega) (by omega) rfl (by decide) ?_
    refine g_aload_n C dX1_length_94 rfl 0 rfl ?_
    refine gs_get4 C dX1_length_95 ?_
    refine g_iload C dX1_length_98 4 rfl ?_
    refine g_iconst C dX1_length_100 ?_
    refine g_iadd C dX1_length_101 ?_
    refine gs_ald4 C (v := (g 4) ((at_ / 2 % 6) + 1)) rfl dX1_length_102 (by omega) ?_
    have hf5 := hht ((at_ / 2 % 6) + 1) (by omega) (by omega)
    refine g_aload_n C dX1_length_103 rfl 0 rfl ?_
    refine gs_get4 C dX1_length_104 ?_
    refine g_iload C dX1_length_107 4 rfl ?_
    refine gs_ald4 C (v := (g 4) (at_ / 2 % 6)) rfl dX1_length_109 (by omega) ?_
    have hf6 := hht (at_ / 2 % 6) (by omega) (by omega)
    refine g_isub C dX1_length_110 ?_
    refine g_iconst C dX1_length_111 ?_
    refine g_iadd C dX1_length_112 ?_
    refine g_nilA ?_
    exact g_iret C dX1_length_113 rfl (Nat.le_of_ble_eq_true rfl) (Nat.le_of_ble_eq_true rfl) ⟨_, rfl, by rw [leng_3]⟩
  ·
    have hq := (leadn_4 hv).1
    refine g_table C (tgt := 114) dX1_length_12 (by omega) (by omega) rfl (by decide) ?_
    refine g_aload_n C dX1_length_114 rfl 0 rfl ?_
    refine gs_get4 C dX1_length_115 ?_
    refine g_iload C dX1_length_118 4 rfl ?_
    refine gs_ald4 C (v := (g 4) (at_ / 2 % 6)) rfl dX1_length_120 (by omega) ?_
    have hf7 := hht (at_ / 2 % 6) (by omega) (by omega)
    refine g_aload_n C dX1_length_121 rfl 0 rfl ?_
    refine gs_get4 C dX1_length_122 ?_
    refine g_iload C dX1_length_125 4 rfl ?_
    refine g_iconst C dX1_length_127 ?_
    refine g_isub C dX1_length_128 ?_
    refine gs_ald4 C (v := (g 4) ((at_ / 2 % 6) - 1)) rfl dX1_length_129 (by omega) ?_
    have hf8 := hht ((at_ / 2 % 6) - 1) (by omega) (by omega)
    refine g_isub C dX1_length_130 ?_
    refine g_iconst C dX1_length_131 ?_
    refine g_iadd C dX1_length_132 ?_
    refine g_nilA ?_
    exact g_iret C dX1_length_133 rfl (Nat.le_of_ble_eq_true rfl) (Nat.le_of_ble_eq_true rfl) ⟨_, rfl, by rw [leng_4]⟩
  ·
    have hq := (leadn_5 hv).1
    refine g_table C (tgt := 134) dX1_length_12 (by omega) (by omega) rfl (by decide) ?_
    refine g_iconst C dX1_length_134 ?_
    refine g_nilA ?_
    exact g_iret C dX1_length_135 rfl (Nat.le_of_ble_eq_true rfl) (Nat.le_of_ble_eq_true rfl) ⟨_, rfl, by rw [leng_5]⟩
  ·
    have hq := (leadn_6 hv).1
    refine g_table C (tgt := 136) dX1_length_12 (by omega) (by omega) rfl (by decide) ?_
    refine g_aload_n C dX1_length_136 rfl 0 rfl ?_
    refine gs_get3 C dX1_length_137 ?_
    refine g_iload_n C dX1_length_140 rfl 3 rfl ?_
    refine gs_ald3 C (v := (g 3) (at_ / 2 / 6)) rfl dX1_length_141 (by omega) ?_
    have hf9 := hth (at_ / 2 / 6) (by omega) (by omega)
    refine g_aload_n C dX1_length_142 rfl 0 rfl ?_
    refine gs_get3 C dX1_length_143 ?_
    refine g_iload_n C dX1_length_146 rfl 3 rfl ?_
    refine g_iconst C dX1_length_147 ?_
    refine g_iadd C dX1_length_148 ?_
    refine gs_ald3 C (v := (g 3) ((at_ / 2 / 6) + 1)) rfl dX1_length_149 (by omega) ?_
    have hf10 := hth ((at_ / 2 / 6) + 1) (by omega) (by omega)
    refine g_iadd C dX1_length_150 ?_
    refine g_iconst C dX1_length_151 ?_
    refine g_iadd C dX1_length_152 ?_
    refine g_iconst C dX1_length_153 ?_
    refine g_idiv C dX1_length_154 (by omega) (by omega) ?_
    refine g_nilA ?_
    exact g_iret C dX1_length_155 rfl (Nat.le_of_ble_eq_true rfl) (Nat.le_of_ble_eq_true rfl) ⟨_, rfl, by rw [leng_6]⟩
  ·
    have hq := (leadn_7 hv).1
    refine g_tableD C (tgt := 156) dX1_length_12 (by omega) (by omega) (by decide) ?_
    refine g_aload_n C dX1_length_156 rfl 0 rfl ?_
    refine gs_get3 C dX1_length_157 ?_
    refine g_iload_n C dX1_length_160 rfl 3 rfl ?_
    refine gs_ald3 C (v := (g 3) (at_ / 2 / 6)) rfl dX1_length_161 (by omega) ?_
    have hf11 := hth (at_ / 2 / 6) (by omega) (by omega)
    refine g_aload_n C dX1_length_162 rfl 0 rfl ?_
    refine gs_get3 C dX1_length_163 ?_
    refine g_iload_n C dX1_length_166 rfl 3 rfl ?_
    refine g_iconst C dX1_length_167 ?_
    refine g_isub C dX1_length_168 ?_
    refine gs_ald3 C (v := (g 3) ((at_ / 2 / 6) - 1)) rfl dX1_length_169 (by omega) ?_
    have hf12 := hth ((at_ / 2 / 6) - 1) (by omega) (by omega)
    refine g_iadd C dX1_length_170 ?_
    refine g_iconst C dX1_length_171 ?_
    refine g_iadd C dX1_length_172 ?_
    refine g_iconst C dX1_length_173 ?_
    refine g_idiv C dX1_length_174 (by omega) (by omega) ?_
    refine g_nilA ?_
    exact g_iret C dX1_length_175 rfl (Nat.le_of_ble_eq_true rfl) (Nat.le_of_ble_eq_true rfl) ⟨_, rfl, by rw [leng_7]⟩

section MK
variable {p : Program} {l : Launch} {e : Env} {R : Room} {s : State} {mm : MethodId} {args : Array Value} {below : List Frame} {meth : Method} {c : Code} {cc : ByteArray} {nL : Nat} {ret : Option FieldType} {D : va_G} {A B : Nat → Prop} {cells slots : Nat} {Q : State → Prop} {pc : Nat} {lv : List (Nat × Value)} {st : List Value}
theorem kX1_X1_length {ws : va_W} (h : Nat → Nat) (f : Nat → Int) (g : Nat → Int → Int) (N : Nat → Nat) (M : Nat → Nat → Nat) (T : va_W) (at_ mv : Int) (C : CX p l s mm args meth c RX1 cc nL ret D A) (hF : 1 ≤ f 0 ∧ f 0 ≤ 5) (hS : 2 ≤ f 1 ∧ f 1 ≤ 6) (hth : ∀ j, 0 ≤ j → j < 5 → 1 ≤ g 3 j ∧ g 3 j ≤ 50) (hht : ∀ j, 0 ≤ j → j < 6 → 0 ≤ g 4 j ∧ g 4 j ≤ 400) (hat : 0 ≤ at_ ∧ at_ < 60) (hm : 0 ≤ mv ∧ mv < 8) (hv : lead (f 0) (f 1) (g 5) at_ mv ≠ -1) (hpf : at_ / 2 / 6 < f 0) (hps : at_ / 2 % 6 < f 1) (hR : 1 + 1 ≤ R.frames ∧ 8 + (5 + 11) + 64 * 1 ≤ R.locals) (hcat : (st.map fun v => v.category).sum ≤ 8) (hroom : cells ≤ R.cells ∧ slots ≤ R.slots) {rv : Int} (hr : leng (g 4) (g 3) at_ mv = rv) (hsb : Sb ws (sW D h f g N M T)) (d : decode cc pc = .ok (.invokevirtual 188, 3)) (K : GO p l e R s mm args below meth c nL D A B cells slots Q (ws) (pc + 3) lv (.int (iI rv) :: st)) : GO p l e R s mm args below meth c nL D A B cells slots Q (ws) (pc) lv (.int (iI mv) :: .int (iI at_) :: .ref (h 0) :: st) := by
  refine g_callVR C (c_X1_length l D C.hl h f g N M T at_ mv hF hS hth hht hat hm hv hpf hps) (As := [.int (iI at_), .int (iI mv)]) (n := 2) (lw_V q623 q625 qs8 q48 q626) (by decide +kernel) rfl rfl hR (rcvH C hsb) rfl rfl hcat ⟨hroom.1, hroom.2⟩ d hsb exT_b hex_t (fun v w hp => ?_) kx_n
  obtain ⟨z, rfl, rfl⟩ := hp
  rw [hr]
  exact K
end MK

end SC1
