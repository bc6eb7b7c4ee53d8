/-! ===== the plan's constructor ===== -/
section SC14
set_option maxHeartbeats 4000000 in
set_option maxRecDepth 100000 in
theorem c_newPlan (l : Launch) (D : va_G) (hst : l.stackTraces = false) (bb : Nat) (x1 : Int)  : CT l D yX4_init (ws_ yX4_init cX4_init 2 none) (rmD 4 4 22) (4) (22) va_A [.ref bb, .int (iI x1)] ([(bb, .inr (3, [.int (iI 0), .int (iI 0), .int (iI 0), .null, .null]))]) exT (fun v w => ∃ m1 : Nat, ∃ m2 : Nat, ∃ m3 : Nat, ∃ m4 : Nat, v = none ∧ w = [(bb, .inr (3, [.int (iI x1), .int (iI x1), .int (iI 0), .ref m1, .ref m3])), (m1, .inr (5, [.int (iI 0), .ref m2, .int (iI 0)])), (m2, .inl (D.1 104, 8, .inr (.inr (.inr (.inr (eR 0 (cM0 0))))))), (m3, .inr (5, [.int (iI 0), .ref m4, .int (iI 0)])), (m4, .inl (D.1 104, 8, .inr (.inr (.inr (.inr (eR 0 (cM0 0)))))))]) (xN) := by
  refine ct_U (lv := [(0, .ref bb), (1, .int (iI x1))]) RX4 (by decide) rfl rfl hst (Nat.le_of_ble_eq_true rfl) rfl ?_
  intro p e s mm args below meth c A C htab hex hnm
  refine g_ws (ws' := [(bb, .inr (3, [.int (iI 0), .int (iI 0), .int (iI 0), .null, .null]))]) rfl ?_
  refine g_aload_n C dX4_init_0 rfl 0 rfl ?_
  refine g_objInit C q752 q82 q83 dX4_init_1 (Nat.le_of_ble_eq_true rfl) (Nat.le_of_ble_eq_true rfl) ?_
  refine g_aload_n C dX4_init_4 rfl 0 rfl ?_
  refine g_new C in_J2 tyJ2 tyJ2_ok (ci := 5) rfl (fs := [.int (iI 0), .null, .int (iI 0)]) (by decide +kernel) q753 q85 q51 dX4_init_5 (Nat.le_of_ble_eq_true rfl) (Nat.le_of_ble_eq_true rfl) (fun q1 => ?_)
  refine g_ws (ws' := [(bb, .inr (3, [.int (iI 0), .int (iI 0), .int (iI 0), .null, .null])), (q1, .inr (5, [.int (iI 0), .null, .int (iI 0)]))]) rfl ?_
  refine g_widen (k := 1) (n := 3) (Nat.le_of_ble_eq_true rfl) (Nat.le_of_ble_eq_true rfl) ?_
  refine g_dup C dX4_init_8 rfl ?_
  refine g_bipush C dX4_init_9 (z := 8) rfl ?_
  refine kX4_lInit (wr := [(bb, .inr (3, [.int (iI 0), .int (iI 0), .int (iI 0), .null, .null]))]) q1 8 (cM0 0) C (by decide) ⟨Nat.le_of_ble_eq_true rfl, Nat.le_of_ble_eq_true rfl⟩ (Nat.le_of_ble_eq_true rfl) ⟨Nat.le_of_ble_eq_true rfl, Nat.le_of_ble_eq_true rfl⟩ Sb.rf dX4_init_11 ?_
  intro b2
  refine g_ws (ws' := [(bb, .inr (3, [.int (iI 0), .int (iI 0), .int (iI 0), .null, .null])), (q1, .inr (5, [.int (iI 0), .ref b2, .int (iI 0)])), (b2, .inl (D.1 104, 8, .inr (.inr (.inr (.inr (eR 0 (cM0 0)))))))]) rfl ?_
  refine g_widen (k := 2) (n := 11) (Nat.le_of_ble_eq_true rfl) (Nat.le_of_ble_eq_true rfl) ?_
  refine g_putF C in_X4 tyX4 tyX4_ok nmX4 (hnm rfl) 0 3 (ws' := [(bb, .inr (3, [.int (iI 0), .int (iI 0), .int (iI 0), .ref q1, .null])), (q1, .inr (5, [.int (iI 0), .ref b2, .int (iI 0)])), (b2, .inl (D.1 104, 8, .inr (.inr (.inr (.inr (eR 0 (cM0 0)))))))]) rfl rfl (Nat.le_of_ble_eq_true rfl) q759 rfl rfl rfl rfl (Nat.le_of_ble_eq_true rfl) dX4_init_14 rfl ?_
  refine g_aload_n C dX4_init_17 rfl 0 rfl ?_
  refine g_new C in_J2 tyJ2 tyJ2_ok (ci := 5) rfl (fs := [.int (iI 0), .null, .int (iI 0)]) (by decide +kernel) q753 q85 q51 dX4_init_18 (Nat.le_of_ble_eq_true rfl) (Nat.le_of_ble_eq_true rfl) (fun q3 => ?_)
  refine g_ws (ws' := [(bb, .inr (3, [.int (iI 0), .int (iI 0), .int (iI 0), .ref q1, .null])), (q1, .inr (5, [.int (iI 0), .ref b2, .int (iI 0)])), (b2, .inl (D.1 104, 8, .inr (.inr (.inr (.inr (eR 0 (cM0 0))))))), (q3, .inr (5, [.int (iI 0), .null, .int (iI 0)]))]) rfl ?_
  refine g_widen (k := 3) (n := 14) (Nat.le_of_ble_eq_true rfl) (Nat.le_of_ble_eq_true rfl) ?_
  refine g_dup C dX4_init_21 rfl ?_
  refine g_bipush C dX4_init_22 (z := 8) rfl ?_
  refine kX4_lInit (wr := [(bb, .inr (3, [.int (iI 0), .int (iI 0), .int (iI 0), .ref q1, .null])), (q1, .inr (5, [.int (iI 0), .ref b2, .int (iI 0)])), (b2, .inl (D.1 104, 8, .inr (.inr (.inr (.inr (eR 0 (cM0 0)))))))]) q3 8 (cM0 0) C (by decide) ⟨Nat.le_of_ble_eq_true rfl, Nat.le_of_ble_eq_true rfl⟩ (Nat.le_of_ble_eq_true rfl) ⟨Nat.le_of_ble_eq_true rfl, Nat.le_of_ble_eq_true rfl⟩ Sb.rf dX4_init_24 ?_
  intro b4
  refine g_ws (ws' := [(bb, .inr (3, [.int (iI 0), .int (iI 0), .int (iI 0), .ref q1, .null])), (q1, .inr (5, [.int (iI 0), .ref b2, .int (iI 0)])), (b2, .inl (D.1 104, 8, .inr (.inr (.inr (.inr (eR 0 (cM0 0))))))), (q3, .inr (5, [.int (iI 0), .ref b4, .int (iI 0)])), (b4, .inl (D.1 104, 8, .inr (.inr (.inr (.inr (eR 0 (cM0 0)))))))]) rfl ?_
  refine g_widen (k := 4) (n := 22) (Nat.le_of_ble_eq_true rfl) (Nat.le_of_ble_eq_true rfl) ?_
  refine g_putF C in_X4 tyX4 tyX4_ok nmX4 (hnm rfl) 0 4 (ws' := [(bb, .inr (3, [.int (iI 0), .int (iI 0), .int (iI 0), .ref q1, .ref q3])), (q1, .inr (5, [.int (iI 0), .ref b2, .int (iI 0)])), (b2, .inl (D.1 104, 8, .inr (.inr (.inr (.inr (eR 0 (cM0 0))))))), (q3, .inr (5, [.int (iI 0), .ref b4, .int (iI 0)])), (b4, .inl (D.1 104, 8, .inr (.inr (.inr (.inr (eR 0 (cM0 0)))))))]) rfl rfl (Nat.le_of_ble_eq_true rfl) q761 rfl rfl rfl rfl (Nat.le_of_ble_eq_true rfl) dX4_init_27 rfl ?_
  refine g_aload_n C dX4_init_30 rfl 0 rfl ?_
  refine g_iload_n C dX4_init_31 rfl 1 rfl ?_
  refine g_putF C in_X4 tyX4 tyX4_ok nmX4 (hnm rfl) 0 0 (ws' := [(bb, .inr (3, [.int (iI x1), .int (iI 0), .int (iI 0), .ref q1, .ref q3])), (q1, .inr (5, [.int (iI 0), .ref b2, .int (iI 0)])), (b2, .inl (D.1 104, 8, .inr (.inr (.inr (.inr (eR 0 (cM0 0))))))), (q3, .inr (5, [.int (iI 0), .ref b4, .int (iI 0)])), (b4, .inl (D.1 104, 8, .inr (.inr (.inr (.inr (eR 0 (cM0 0)))))))]) rfl rfl (Nat.le_of_ble_eq_true rfl) q755 rfl rfl rfl rfl (Nat.le_of_ble_eq_true rfl) dX4_init_32 rfl ?_
  refine g_aload_n C dX4_init_35 rfl 0 rfl ?_
  refine g_iload_n C dX4_init_36 rfl 1 rfl ?_
  refine g_put C in_X4 tyX4 tyX4_ok nmX4 0 1 (ws' := [(bb, .inr (3, [.int (iI x1), .int (iI x1), .int (iI 0), .ref q1, .ref q3])), (q1, .inr (5, [.int (iI 0), .ref b2, .int (iI 0)])), (b2, .inl (D.1 104, 8, .inr (.inr (.inr (.inr (eR 0 (cM0 0))))))), (q3, .inr (5, [.int (iI 0), .ref b4, .int (iI 0)])), (b4, .inl (D.1 104, 8, .inr (.inr (.inr (.inr (eR 0 (cM0 0)))))))]) rfl rfl (Nat.le_of_ble_eq_true rfl) q756 rfl rfl rfl rfl (Nat.le_of_ble_eq_true rfl) dX4_init_37 rfl ?_
  exact g_vret C dX4_init_40 (Nat.le_of_ble_eq_true rfl) (Nat.le_of_ble_eq_true rfl) ⟨_, _, _, _, rfl, rfl⟩

section MK
variable {p : Program} {l : Launch} {e : Env} {R : Room} {s : State} {mm : MethodId} {args : Array Value} {below : List Frame} {meth : Method} {c : Code} {cc : ByteArray} {nL : Nat} {ret : Option FieldType} {D : va_G} {A B : Nat → Prop} {cells slots : Nat} {Q : State → Prop} {pc : Nat} {lv : List (Nat × Value)} {st : List Value}
theorem kX1_newPlan {ws wr : va_W} (bb : Nat) (x1 : Int) (C : CX p l s mm args meth c RX1 cc nL ret D A)  (hR : 4 + 1 ≤ R.frames ∧ 8 + (2 + 11) + 64 * 4 ≤ R.locals) (hcat : (st.map fun v => v.category).sum ≤ 8) (hroom : cells + 4 ≤ R.cells ∧ slots + 22 ≤ R.slots) (hsb : Sb ws (wr ++ ([(bb, .inr (3, [.int (iI 0), .int (iI 0), .int (iI 0), .null, .null]))]))) (d : decode cc pc = .ok (.invokespecial 165, 3)) (K : ∀ (m1 : Nat) (m2 : Nat) (m3 : Nat) (m4 : Nat) , GO p l e R s mm args below meth c nL D A A (cells + (4)) (slots + (22)) Q (wr ++ ([(bb, .inr (3, [.int (iI x1), .int (iI x1), .int (iI 0), .ref m1, .ref m3])), (m1, .inr (5, [.int (iI 0), .ref m2, .int (iI 0)])), (m2, .inl (D.1 104, 8, .inr (.inr (.inr (.inr (eR 0 (cM0 0))))))), (m3, .inr (5, [.int (iI 0), .ref m4, .int (iI 0)])), (m4, .inl (D.1 104, 8, .inr (.inr (.inr (.inr (eR 0 (cM0 0)))))))])) (pc + 3) lv (st)) : GO p l e R s mm args below meth c nL D A A cells slots Q (ws) (pc) lv (.int (iI x1) :: .ref bb :: st) := by
  refine g_callIU C (c_newPlan l D C.hl bb x1 ) (As := [.int (iI x1)]) (n := 1) (lw_I q751) q72 q749 q750 rfl (by decide +kernel) rfl rfl hR rfl rfl hcat hroom d hsb exT_b hex_t (fun v w hp => ?_) kx_nu
  obtain ⟨m1, m2, m3, m4, rfl, rfl⟩ := hp
  exact K m1 m2 m3 m4
end MK

end SC14
