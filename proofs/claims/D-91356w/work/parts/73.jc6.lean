/-! ===== JDK contracts: ArrayList's constructors ===== -/
section JC6
theorem eR_0 {pa : Nat → Nat} : (fun _ => none) = eR 0 pa := by
  funext j; unfold eR; rw [if_neg (by omega)]
set_option maxHeartbeats 4000000 in
set_option maxRecDepth 100000 in
theorem c_acInit (l : Launch) (D : va_G) (hst : l.stackTraces = false) (a : Nat)  : CT l D yJ0_init (ws_ yJ0_init cJ0_init 1 none) (rmD 1 0 0) (0) (0) va_A [.ref a] ([]) exT (fun v w => v = none ∧ w = []) (xN) := by
  refine ct_U (lv := [(0, .ref a)]) RJ0 (by decide) rfl rfl hst (Nat.le_of_ble_eq_true rfl) rfl ?_
  intro p e s mm args below meth c A C htab hex hnm
  refine g_ws (ws' := []) rfl ?_
  refine g_aload_n C dJ0_init_0 rfl 0 rfl ?_
  refine g_objInit C q95 q82 q83 dJ0_init_1 (Nat.le_of_ble_eq_true rfl) (Nat.le_of_ble_eq_true rfl) ?_
  exact g_vret C dJ0_init_4 (Nat.le_of_ble_eq_true rfl) (Nat.le_of_ble_eq_true rfl) ⟨rfl, rfl⟩

section MK
variable {p : Program} {l : Launch} {e : Env} {R : Room} {s : State} {mm : MethodId} {args : Array Value} {below : List Frame} {meth : Method} {c : Code} {cc : ByteArray} {nL : Nat} {ret : Option FieldType} {D : va_G} {A B : Nat → Prop} {cells slots : Nat} {Q : State → Prop} {pc : Nat} {lv : List (Nat × Value)} {st : List Value}
theorem kJ1_acInit {ws wr : va_W} (a : Nat) (C : CX p l s mm args meth c RJ1 cc nL ret D A)  (hR : 1 + 1 ≤ R.frames ∧ 8 + (1 + 11) + 64 * 1 ≤ R.locals) (hcat : (st.map fun v => v.category).sum ≤ 8) (hroom : cells + 0 ≤ R.cells ∧ slots + 0 ≤ R.slots) (hsb : Sb ws (wr ++ ([]))) (d : decode cc pc = .ok (.invokespecial 1, 3)) (K : GO p l e R s mm args below meth c nL D A A (cells + (0)) (slots + (0)) Q (wr ++ ([])) (pc + 3) lv (st)) : GO p l e R s mm args below meth c nL D A A cells slots Q (ws) (pc) lv (.ref a :: st) := by
  refine g_callIU C (c_acInit l D C.hl a ) (As := []) (n := 0) (lw_I q94) q49 q92 q93 rfl (by decide +kernel) rfl rfl hR rfl rfl hcat hroom d hsb exT_b hex_t (fun v w hp => ?_) kx_nu
  obtain ⟨rfl, rfl⟩ := hp
  exact K 
end MK

set_option maxHeartbeats 4000000 in
set_option maxRecDepth 100000 in
theorem c_alInit (l : Launch) (D : va_G) (hst : l.stackTraces = false) (a : Nat)  : CT l D yJ1_init (ws_ yJ1_init cJ1_init 1 none) (rmD 2 0 0) (0) (0) va_A [.ref a] ([(a, .inr (5, [.int (iI 0), .null, .int (iI 0)]))]) exT (fun v w => v = none ∧ w = [(a, .inr (5, [.int (iI 0), .null, .int (iI 0)]))]) (xN) := by
  refine ct_U (lv := [(0, .ref a)]) RJ1 (by decide) rfl rfl hst (Nat.le_of_ble_eq_true rfl) rfl ?_
  intro p e s mm args below meth c A C htab hex hnm
  refine g_ws (ws' := [(a, .inr (5, [.int (iI 0), .null, .int (iI 0)]))]) rfl ?_
  refine g_aload_n C dJ1_init_0 rfl 0 rfl ?_
  refine kJ1_acInit (wr := [(a, .inr (5, [.int (iI 0), .null, .int (iI 0)]))]) a C ⟨Nat.le_of_ble_eq_true rfl, Nat.le_of_ble_eq_true rfl⟩ (Nat.le_of_ble_eq_true rfl) ⟨Nat.le_of_ble_eq_true rfl, Nat.le_of_ble_eq_true rfl⟩ Sb.toNil dJ1_init_1 ?_
  refine g_ws (ws' := [(a, .inr (5, [.int (iI 0), .null, .int (iI 0)]))]) rfl ?_
  refine g_aload_n C dJ1_init_4 rfl 0 rfl ?_
  refine g_iconst C dJ1_init_5 ?_
  refine g_put C in_J2 tyJ2 tyJ2_ok nmJ2 0 0 (ws' := [(a, .inr (5, [.int (iI 0), .null, .int (iI 0)]))]) rfl rfl (Nat.le_of_ble_eq_true rfl) q415 rfl rfl rfl rfl (Nat.le_of_ble_eq_true rfl) dJ1_init_6 rfl ?_
  exact g_vret C dJ1_init_9 (Nat.le_of_ble_eq_true rfl) (Nat.le_of_ble_eq_true rfl) ⟨rfl, rfl⟩

section MK
variable {p : Program} {l : Launch} {e : Env} {R : Room} {s : State} {mm : MethodId} {args : Array Value} {below : List Frame} {meth : Method} {c : Code} {cc : ByteArray} {nL : Nat} {ret : Option FieldType} {D : va_G} {A B : Nat → Prop} {cells slots : Nat} {Q : State → Prop} {pc : Nat} {lv : List (Nat × Value)} {st : List Value}
theorem kJ2_alInit {ws wr : va_W} (a : Nat) (C : CX p l s mm args meth c RJ2 cc nL ret D A)  (hR : 2 + 1 ≤ R.frames ∧ 8 + (1 + 11) + 64 * 2 ≤ R.locals) (hcat : (st.map fun v => v.category).sum ≤ 8) (hroom : cells + 0 ≤ R.cells ∧ slots + 0 ≤ R.slots) (hsb : Sb ws (wr ++ ([(a, .inr (5, [.int (iI 0), .null, .int (iI 0)]))]))) (d : decode cc pc = .ok (.invokespecial 1, 3)) (K : GO p l e R s mm args below meth c nL D A A (cells + (0)) (slots + (0)) Q (wr ++ ([(a, .inr (5, [.int (iI 0), .null, .int (iI 0)]))])) (pc + 3) lv (st)) : GO p l e R s mm args below meth c nL D A A cells slots Q (ws) (pc) lv (.ref a :: st) := by
  refine g_callIU C (c_alInit l D C.hl a ) (As := []) (n := 0) (lw_I q91) q50 q89 q90 rfl (by decide +kernel) rfl rfl hR rfl rfl hcat hroom d hsb exT_b hex_t (fun v w hp => ?_) kx_nu
  obtain ⟨rfl, rfl⟩ := hp
  exact K 
end MK

set_option maxHeartbeats 4000000 in
set_option maxRecDepth 100000 in
theorem c_lInit (l : Launch) (D : va_G) (hst : l.stackTraces = false) (a N : Nat) (pa : Nat → Nat) (hN : 1 ≤ N ∧ N ≤ 3000) : CT l D yJ2_init (ws_ yJ2_init cJ2_init 2 none) (rmD 3 1 N) (1) (N) va_A [.ref a, .int (iI (N : Int))] ([(a, .inr (5, [.int (iI 0), .null, .int (iI 0)]))]) exT (fun v w => ∃ b : Nat, v = none ∧ w = LW D a b 0 N 0 pa) (xN) := by
  refine ct_U (lv := [(0, .ref a), (1, .int (iI (N : Int)))]) RJ2 (by decide) rfl rfl hst (Nat.le_of_ble_eq_true rfl) rfl ?_
  intro p e s mm args below meth c A C htab hex hnm
  refine g_ws (ws' := [(a, .inr (5, [.int (iI 0), .null, .int (iI 0)]))]) rfl ?_
  refine g_aload_n C dJ2_init_0 rfl 0 rfl ?_
  refine kJ2_alInit (wr := []) a C ⟨Nat.le_of_ble_eq_true rfl, Nat.le_of_ble_eq_true rfl⟩ (Nat.le_of_ble_eq_true rfl) ⟨by show 0 + 0 ≤ 1; omega, by show 0 + 0 ≤ N; omega⟩ Sb.rf dJ2_init_1 ?_
  refine g_ws (ws' := [(a, .inr (5, [.int (iI 0), .null, .int (iI 0)]))]) rfl ?_
  refine g_iload_n C dJ2_init_4 rfl 1 rfl ?_
  refine g_if_le C (tgt := 19) dJ2_init_5 (by decide) (by omega) (fun hc5_1 => ?_) (fun hc5_1 => ?_)
  · exact absurd hc5_1 (by omega)
  ·
    refine g_aload_n C dJ2_init_8 rfl 0 rfl ?_
    refine g_iload_n C dJ2_init_9 rfl 1 rfl ?_
    refine g_newq C (N := N) rfl (by omega) q96 dJ2_init_10 (by show 0 + 0 + 1 ≤ 1; omega) (by show 0 + 0 + N ≤ N; omega) (fun q2 => ?_)
    refine g_sb (ws' := [(a, .inr (5, [.int (iI 0), .null, .int (iI 0)])), (q2, .inl (D.1 104, N, .inr (.inr (.inr (.inr (fun _ => none))))))]) (Sb.tr (Sb.comm (a := [(a, .inr (5, [.int (iI 0), .null, .int (iI 0)]))]) (b := [(q2, .inl (D.1 104, N, .inr (.inr (.inr (.inr (fun _ => none))))))])) (Sb.part (X := [(q2, .inl (D.1 104, N, .inr (.inr (.inr (.inr (fun _ => none)))))), (a, .inr (5, [.int (iI 0), .null, .int (iI 0)]))]) (cx := [(a, .inr (5, [.int (iI 0), .null, .int (iI 0)])), (q2, .inl (D.1 104, N, .inr (.inr (.inr (.inr (fun _ => none))))))]) (pl := ([] : va_W)) [1, 0] rfl rfl)) ?_
    refine g_put C in_J2 tyJ2 tyJ2_ok nmJ2 0 1 (ws' := [(a, .inr (5, [.int (iI 0), .ref q2, .int (iI 0)])), (q2, .inl (D.1 104, N, .inr (.inr (.inr (.inr (fun _ => none))))))]) rfl rfl (Nat.le_of_ble_eq_true rfl) q413 rfl rfl rfl rfl (Nat.le_of_ble_eq_true rfl) dJ2_init_13 rfl ?_
    refine g_goto C (tgt := 60) dJ2_init_16 (by decide) ?_
    refine g_ws (ws' := [(a, .inr (5, [.int (iI 0), .ref q2, .int (iI 0)])), (q2, .inl (D.1 104, N, .inr (.inr (.inr (.inr (eR 0 pa))))))]) (by rw [eR_0 (pa := pa)]) ?_
    exact g_vret C dJ2_init_60 (by omega) (by omega) ⟨_, rfl, rfl⟩

section MK
variable {p : Program} {l : Launch} {e : Env} {R : Room} {s : State} {mm : MethodId} {args : Array Value} {below : List Frame} {meth : Method} {c : Code} {cc : ByteArray} {nL : Nat} {ret : Option FieldType} {D : va_G} {A B : Nat → Prop} {cells slots : Nat} {Q : State → Prop} {pc : Nat} {lv : List (Nat × Value)} {st : List Value}
theorem kX1_lInit {ws wr : va_W} (a N : Nat) (pa : Nat → Nat) (C : CX p l s mm args meth c RX1 cc nL ret D A) (hN : 1 ≤ N ∧ N ≤ 3000) (hR : 3 + 1 ≤ R.frames ∧ 8 + (2 + 11) + 64 * 3 ≤ R.locals) (hcat : (st.map fun v => v.category).sum ≤ 8) (hroom : cells + 1 ≤ R.cells ∧ slots + N ≤ R.slots) (hsb : Sb ws (wr ++ ([(a, .inr (5, [.int (iI 0), .null, .int (iI 0)]))]))) (d : decode cc pc = .ok (.invokespecial 21, 3)) (K : ∀ (b : Nat) , GO p l e R s mm args below meth c nL D A A (cells + (1)) (slots + (N)) Q (wr ++ (LW D a b 0 N 0 pa)) (pc + 3) lv (st)) : GO p l e R s mm args below meth c nL D A A cells slots Q (ws) (pc) lv (.int (iI (N : Int)) :: .ref a :: st) := by
  refine g_callIU C (c_lInit l D C.hl a N pa hN) (As := [.int (iI (N : Int))]) (n := 1) (lw_I q88) q51 q86 q87 rfl (by decide +kernel) rfl rfl hR rfl rfl hcat hroom d hsb exT_b hex_t (fun v w hp => ?_) kx_nu
  obtain ⟨b, rfl, rfl⟩ := hp
  exact K b
end MK

section MK
variable {p : Program} {l : Launch} {e : Env} {R : Room} {s : State} {mm : MethodId} {args : Array Value} {below : List Frame} {meth : Method} {c : Code} {cc : ByteArray} {nL : Nat} {ret : Option FieldType} {D : va_G} {A B : Nat → Prop} {cells slots : Nat} {Q : State → Prop} {pc : Nat} {lv : List (Nat × Value)} {st : List Value}
theorem kX4_lInit {ws wr : va_W} (a N : Nat) (pa : Nat → Nat) (C : CX p l s mm args meth c RX4 cc nL ret D A) (hN : 1 ≤ N ∧ N ≤ 3000) (hR : 3 + 1 ≤ R.frames ∧ 8 + (2 + 11) + 64 * 3 ≤ R.locals) (hcat : (st.map fun v => v.category).sum ≤ 8) (hroom : cells + 1 ≤ R.cells ∧ slots + N ≤ R.slots) (hsb : Sb ws (wr ++ ([(a, .inr (5, [.int (iI 0), .null, .int (iI 0)]))]))) (d : decode cc pc = .ok (.invokespecial 9, 3)) (K : ∀ (b : Nat) , GO p l e R s mm args below meth c nL D A A (cells + (1)) (slots + (N)) Q (wr ++ (LW D a b 0 N 0 pa)) (pc + 3) lv (st)) : GO p l e R s mm args below meth c nL D A A cells slots Q (ws) (pc) lv (.int (iI (N : Int)) :: .ref a :: st) := by
  refine g_callIU C (c_lInit l D C.hl a N pa hN) (As := [.int (iI (N : Int))]) (n := 1) (lw_I q88) q51 q754 q87 rfl (by decide +kernel) rfl rfl hR rfl rfl hcat hroom d hsb exT_b hex_t (fun v w hp => ?_) kx_nu
  obtain ⟨b, rfl, rfl⟩ := hp
  exact K b
end MK

end JC6
