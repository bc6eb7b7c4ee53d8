/-! ===== JDK contracts: lists that grow ===== -/
section JC3
set_option maxHeartbeats 4000000 in
set_option maxRecDepth 100000 in
theorem c_aCopy3 (l : Launch) (D : va_G) (hst : l.stackTraces = false) (b N M : Nat) (sz : Int) (pa : Nat → Nat) (wx : va_W) (hm : 0 ≤ sz ∧ sz ≤ N ∧ N ≤ M ∧ M ≤ 3000) (hx : ∀ j : Nat, (j : Int) < sz → AnyX D (pa j) wx) : CT l D yJ13_copyOf_3 (ws_ yJ13_copyOf_3 cJ13_copyOf_3 4 (some (.array (.object "java/lang/Object")))) (rmD 2 1 M) (1) (M) va_A [.ref b, .int (iI (M : Int)), .ref (D.2 1001 3)] ([(b, .inl (D.1 104, N, .inr (.inr (.inr (.inr (eR sz pa))))))] ++ wx) exT (fun v w => ∃ q : Nat, v = some (.ref q) ∧ w = [(b, .inl (D.1 104, N, .inr (.inr (.inr (.inr (eR sz pa)))))), (q, .inl (D.1 104, M, .inr (.inr (.inr (.inr (eR sz pa))))))] ++ wx) (xN) := by
  refine ct_U (lv := [(0, .ref b), (1, .int (iI (M : Int))), (2, .ref (D.2 1001 3))]) RJ13 (by decide) rfl rfl hst (Nat.le_of_ble_eq_true rfl) rfl ?_
  intro p e s mm args below meth c A C htab hex hnm
  refine g_ws (ws' := [(b, .inl (D.1 104, N, .inr (.inr (.inr (.inr (eR sz pa))))))] ++ wx) rfl ?_
  refine g_aload_n C dJ13_copyOf_3_0 rfl 2 rfl ?_
  refine g_ldcM C q503 dJ13_copyOf_3_1 ?_
  refine g_acmp_ne_same C (tgt := 13) (by decide) dJ13_copyOf_3_3 ?_
  refine g_iload_n C dJ13_copyOf_3_6 rfl 1 rfl ?_
  refine g_newq C (N := M) rfl (by omega) q504 dJ13_copyOf_3_7 (Nat.le_of_ble_eq_true rfl) (Nat.le_of_eq (Nat.zero_add _)) (fun q1 => ?_)
  refine g_sb (ws' := [(b, .inl (D.1 104, N, .inr (.inr (.inr (.inr (eR sz pa)))))), (q1, .inl (D.1 104, M, .inr (.inr (.inr (.inr (fun _ => none))))))] ++ wx) (Sb.tr (Sb.comm (a := [(b, .inl (D.1 104, N, .inr (.inr (.inr (.inr (eR sz pa))))))] ++ wx) (b := [(q1, .inl (D.1 104, M, .inr (.inr (.inr (.inr (fun _ => none))))))])) (Sb.part (X := [(q1, .inl (D.1 104, M, .inr (.inr (.inr (.inr (fun _ => none)))))), (b, .inl (D.1 104, N, .inr (.inr (.inr (.inr (eR sz pa))))))]) (cx := [(b, .inl (D.1 104, N, .inr (.inr (.inr (.inr (eR sz pa)))))), (q1, .inl (D.1 104, M, .inr (.inr (.inr (.inr (fun _ => none))))))]) (pl := wx) [1, 0] rfl rfl)) ?_
  refine g_goto C (tgt := 24) dJ13_copyOf_3_10 (by decide) ?_
  refine g_astore_n C dJ13_copyOf_3_24 rfl (lv' := [(0, .ref b), (1, .int (iI (M : Int))), (2, .ref (D.2 1001 3)), (3, .ref q1)]) [1, 2, 3, 0] rfl (Nat.le_of_ble_eq_true rfl) ?_
  refine g_aload_n C dJ13_copyOf_3_25 rfl 0 rfl ?_
  refine g_iconst C dJ13_copyOf_3_26 ?_
  refine g_aload_n C dJ13_copyOf_3_27 rfl 3 rfl ?_
  refine g_iconst C dJ13_copyOf_3_28 ?_
  refine g_aload_n C dJ13_copyOf_3_29 rfl 0 rfl ?_
  refine g_alen C 0 4 rfl rfl dJ13_copyOf_3_30 ?_
  refine g_iload_n C dJ13_copyOf_3_31 rfl 1 rfl ?_
  refine g_mmin C (x := (N : Int)) (y := (M : Int)) (z := (N : Int)) q215 ⟨q216, q61, q217⟩ (by omega) (by omega) (by rw [if_neg (by omega)]) (Nat.le_of_ble_eq_true rfl) (Nat.le_of_ble_eq_true rfl) ⟨by show 0 + 1 ≤ 1; omega, by show 0 + M ≤ M; omega⟩ dJ13_copyOf_3_32 ?_
  refine g_copyM C 0 1 (N := N) (ws' := [(b, .inl (D.1 104, N, .inr (.inr (.inr (.inr (eR sz pa)))))), (q1, .inl (D.1 104, M, .inr (.inr (.inr (.inr (va_cpy (eR sz pa) (fun _ => none) 0 0 N))))))] ++ wx) rfl q218 ⟨q220, q219, q63⟩ rfl rfl (Nat.le_refl _) (by omega) (by omega) (fun H locs hP hS j hj y hy => by unfold eR at hy; split at hy; (cases hy; exact hx j (by assumption) p l s mm args meth c _ _ _ _ A H locs C (sbP_right hP) hS); cases hy) (Nat.le_of_ble_eq_true rfl) (Nat.le_of_ble_eq_true rfl) rfl dJ13_copyOf_3_35 ?_
  refine g_ws (ws' := [(b, .inl (D.1 104, N, .inr (.inr (.inr (.inr (eR sz pa)))))), (q1, .inl (D.1 104, M, .inr (.inr (.inr (.inr (eR sz pa))))))] ++ wx) (by rw [eR_cpy (by omega)]) ?_
  refine g_aload_n C dJ13_copyOf_3_38 rfl 3 rfl ?_
  exact g_aret C (Or.inr ⟨_, rfl⟩) (Or.inr ⟨_, rfl⟩) dJ13_copyOf_3_39 (Nat.le_of_ble_eq_true rfl) (Nat.le_of_eq (Nat.zero_add _)) ⟨_, rfl, rfl⟩

section MK
variable {p : Program} {l : Launch} {e : Env} {R : Room} {s : State} {mm : MethodId} {args : Array Value} {below : List Frame} {meth : Method} {c : Code} {cc : ByteArray} {nL : Nat} {ret : Option FieldType} {D : va_G} {A B : Nat → Prop} {cells slots : Nat} {Q : State → Prop} {pc : Nat} {lv : List (Nat × Value)} {st : List Value}
theorem kJ13_aCopy3 {ws wr : va_W} (b N M : Nat) (sz : Int) (pa : Nat → Nat) (wx : va_W) (C : CX p l s mm args meth c RJ13 cc nL ret D A) (hm : 0 ≤ sz ∧ sz ≤ N ∧ N ≤ M ∧ M ≤ 3000) (hx : ∀ j : Nat, (j : Int) < sz → AnyX D (pa j) wx) (hR : 2 + 1 ≤ R.frames ∧ 8 + (4 + 11) + 64 * 2 ≤ R.locals) (hcat : (st.map fun v => v.category).sum ≤ 8) (hroom : cells + 1 ≤ R.cells ∧ slots + M ≤ R.slots) (hsb : Sb ws (wr ++ ([(b, .inl (D.1 104, N, .inr (.inr (.inr (.inr (eR sz pa))))))] ++ wx))) (d : decode cc pc = .ok (.invokestatic 300, 3)) (K : ∀ (q : Nat) , GO p l e R s mm args below meth c nL D A A (cells + (1)) (slots + (M)) Q (wr ++ ([(b, .inl (D.1 104, N, .inr (.inr (.inr (.inr (eR sz pa)))))), (q, .inl (D.1 104, M, .inr (.inr (.inr (.inr (eR sz pa))))))] ++ wx)) (pc + 3) lv ((.ref q) :: st)) : GO p l e R s mm args below meth c nL D A A cells slots Q (ws) (pc) lv (.ref (D.2 1001 3) :: .int (iI (M : Int)) :: .ref b :: st) := by
  refine g_callSU C (c_aCopy3 l D C.hl b N M sz pa wx hm hx) (As := [.ref b, .int (iI (M : Int)), .ref (D.2 1001 3)]) (n := 3) (lw_S q500 q501 q62 q502) (by decide +kernel) rfl rfl hR rfl rfl hcat hroom d hsb exT_b hex_t (fun v w hp => ?_) kx_nu
  obtain ⟨q, rfl, rfl⟩ := hp
  exact K q
end MK

set_option maxHeartbeats 4000000 in
set_option maxRecDepth 100000 in
theorem c_aCopy (l : Launch) (D : va_G) (hst : l.stackTraces = false) (b N M : Nat) (sz : Int) (pa : Nat → Nat) (wx : va_W) (hm : 0 ≤ sz ∧ sz ≤ N ∧ N ≤ M ∧ M ≤ 3000) (hx : ∀ j : Nat, (j : Int) < sz → AnyX D (pa j) wx) : CT l D yJ13_copyOf_2 (ws_ yJ13_copyOf_2 cJ13_copyOf_2 2 (some (.array (.object "java/lang/Object")))) (rmD 3 1 M) (1) (M) va_A [.ref b, .int (iI (M : Int))] ([(b, .inl (D.1 104, N, .inr (.inr (.inr (.inr (eR sz pa))))))] ++ wx) exT (fun v w => ∃ q : Nat, v = some (.ref q) ∧ w = [(b, .inl (D.1 104, N, .inr (.inr (.inr (.inr (eR sz pa)))))), (q, .inl (D.1 104, M, .inr (.inr (.inr (.inr (eR sz pa))))))] ++ wx) (xN) := by
  refine ct_U (lv := [(0, .ref b), (1, .int (iI (M : Int)))]) RJ13 (by decide) rfl rfl hst (Nat.le_of_ble_eq_true rfl) rfl ?_
  intro p e s mm args below meth c A C htab hex hnm
  refine g_ws (ws' := [(b, .inl (D.1 104, N, .inr (.inr (.inr (.inr (eR sz pa))))))] ++ wx) rfl ?_
  refine g_aload_n C dJ13_copyOf_2_0 rfl 0 rfl ?_
  refine g_iload_n C dJ13_copyOf_2_1 rfl 1 rfl ?_
  refine g_aload_n C dJ13_copyOf_2_2 rfl 0 rfl ?_
  refine g_getC C 0 rfl q485 ⟨q1319, q486, q499⟩ (Nat.le_of_ble_eq_true rfl) (Nat.le_of_ble_eq_true rfl) dJ13_copyOf_2_3 ?_
  refine kJ13_aCopy3 (wr := []) b N M sz pa wx C hm hx ⟨Nat.le_of_ble_eq_true rfl, Nat.le_of_ble_eq_true rfl⟩ (Nat.le_of_ble_eq_true rfl) ⟨by show 0 + 1 ≤ 1; omega, by show 0 + M ≤ M; omega⟩ Sb.rf dJ13_copyOf_2_6 ?_
  intro q1
  refine g_ws (ws' := [(b, .inl (D.1 104, N, .inr (.inr (.inr (.inr (eR sz pa)))))), (q1, .inl (D.1 104, M, .inr (.inr (.inr (.inr (eR sz pa))))))] ++ wx) rfl ?_
  exact g_aret C (Or.inr ⟨_, rfl⟩) (Or.inr ⟨_, rfl⟩) dJ13_copyOf_2_9 (Nat.le_of_ble_eq_true rfl) (Nat.le_of_eq (Nat.zero_add _)) ⟨_, rfl, rfl⟩

section MK
variable {p : Program} {l : Launch} {e : Env} {R : Room} {s : State} {mm : MethodId} {args : Array Value} {below : List Frame} {meth : Method} {c : Code} {cc : ByteArray} {nL : Nat} {ret : Option FieldType} {D : va_G} {A B : Nat → Prop} {cells slots : Nat} {Q : State → Prop} {pc : Nat} {lv : List (Nat × Value)} {st : List Value}
theorem kJ2_aCopy {ws wr : va_W} (b N M : Nat) (sz : Int) (pa : Nat → Nat) (wx : va_W) (C : CX p l s mm args meth c RJ2 cc nL ret D A) (hm : 0 ≤ sz ∧ sz ≤ N ∧ N ≤ M ∧ M ≤ 3000) (hx : ∀ j : Nat, (j : Int) < sz → AnyX D (pa j) wx) (hR : 3 + 1 ≤ R.frames ∧ 8 + (2 + 11) + 64 * 3 ≤ R.locals) (hcat : (st.map fun v => v.category).sum ≤ 8) (hroom : cells + 1 ≤ R.cells ∧ slots + M ≤ R.slots) (hsb : Sb ws (wr ++ ([(b, .inl (D.1 104, N, .inr (.inr (.inr (.inr (eR sz pa))))))] ++ wx))) (d : decode cc pc = .ok (.invokestatic 66, 3)) (K : ∀ (q : Nat) , GO p l e R s mm args below meth c nL D A A (cells + (1)) (slots + (M)) Q (wr ++ ([(b, .inl (D.1 104, N, .inr (.inr (.inr (.inr (eR sz pa)))))), (q, .inl (D.1 104, M, .inr (.inr (.inr (.inr (eR sz pa))))))] ++ wx)) (pc + 3) lv ((.ref q) :: st)) : GO p l e R s mm args below meth c nL D A A cells slots Q (ws) (pc) lv (.int (iI (M : Int)) :: .ref b :: st) := by
  refine g_callSU C (c_aCopy l D C.hl b N M sz pa wx hm hx) (As := [.ref b, .int (iI (M : Int))]) (n := 2) (lw_S q482 q483 q62 q484) (by decide +kernel) rfl rfl hR rfl rfl hcat hroom d hsb exT_b hex_t (fun v w hp => ?_) kx_nu
  obtain ⟨q, rfl, rfl⟩ := hp
  exact K q
end MK

set_option maxHeartbeats 4000000 in
set_option maxRecDepth 100000 in
theorem c_lgrow2 (l : Launch) (D : va_G) (hst : l.stackTraces = false) (a b : Nat) (k : Int) (N : Nat) (sz : Int) (pa : Nat → Nat) (wx : va_W) (hg : sz = N ∧ 1 ≤ N ∧ N < 1000) (hx : ∀ j : Nat, (j : Int) < sz → AnyX D (pa j) wx) : CT l D yJ2_grow_2 (ws_ yJ2_grow_2 cJ2_grow_2 4 (some (.array (.object "java/lang/Object")))) (rmD 4 1 (grN N)) (1) (grN N) va_A [.ref a, .int (iI (sz + 1))] (LW D a b k N sz pa ++ wx) exT (fun v w => ∃ b1 : Nat, v = some (.ref b1) ∧ w = LW D a b1 k (grN N) sz pa ++ wx) (xN) := by
  refine ct_U (lv := [(0, .ref a), (1, .int (iI (sz + 1)))]) RJ2 (by decide) rfl rfl hst (Nat.le_of_ble_eq_true rfl) rfl ?_
  intro p e s mm args below meth c A C htab hex hnm
  refine g_ws (ws' := [(a, .inr (5, [.int (iI k), .ref b, .int (iI sz)])), (b, .inl (D.1 104, N, .inr (.inr (.inr (.inr (eR sz pa))))))] ++ wx) rfl ?_
  refine g_aload_n C dJ2_grow_2_0 rfl 0 rfl ?_
  refine g_get C in_J2 0 1 rfl rfl (Nat.le_of_ble_eq_true rfl) (v := .ref b) rfl q413 rfl dJ2_grow_2_1 ?_
  refine g_alen C 1 4 rfl rfl dJ2_grow_2_4 ?_
  refine g_istore_n C dJ2_grow_2_5 rfl (lv' := [(0, .ref a), (1, .int (iI (sz + 1))), (2, .int (iI (N : Int)))]) [1, 2, 0] rfl (Nat.le_of_ble_eq_true rfl) ?_
  refine g_iload_n C dJ2_grow_2_6 rfl 2 rfl ?_
  refine g_if_gt C (tgt := 20) dJ2_grow_2_7 (by decide) (by omega) (fun hc7_1 => ?_) (fun hc7_1 => ?_)
  ·
    refine g_iload_n C dJ2_grow_2_20 rfl 2 rfl ?_
    refine g_iload_n C dJ2_grow_2_21 rfl 1 rfl ?_
    refine g_iload_n C dJ2_grow_2_22 rfl 2 rfl ?_
    refine g_isub C dJ2_grow_2_23 ?_
    refine g_iload_n C dJ2_grow_2_24 rfl 2 rfl ?_
    refine g_iconst C dJ2_grow_2_25 ?_
    refine g_ishr C dJ2_grow_2_26 (z := (N : Int) / 2) (shrI_1 (by omega)) ?_
    refine kJ2_newLen (N : Int) ((sz + 1) - (N : Int)) ((N : Int) / 2) C (by omega) ⟨Nat.le_of_ble_eq_true rfl, Nat.le_of_ble_eq_true rfl⟩ (Nat.le_of_ble_eq_true rfl) ⟨Nat.le_of_ble_eq_true rfl, Nat.le_of_ble_eq_true rfl⟩ (rv := (grN N : Int)) (by unfold grN; rw [show sz + 1 - (N : Int) = 1 by omega]; split <;> split <;> omega) dJ2_grow_2_27 ?_
    refine g_istore_n C dJ2_grow_2_30 rfl (lv' := [(0, .ref a), (1, .int (iI (sz + 1))), (2, .int (iI (N : Int))), (3, .int (iI (grN N : Int)))]) [1, 2, 3, 0] rfl (Nat.le_of_ble_eq_true rfl) ?_
    refine g_aload_n C dJ2_grow_2_31 rfl 0 rfl ?_
    refine g_aload_n C dJ2_grow_2_32 rfl 0 rfl ?_
    refine g_get C in_J2 0 1 rfl rfl (Nat.le_of_ble_eq_true rfl) (v := .ref b) rfl q413 rfl dJ2_grow_2_33 ?_
    refine g_iload_n C dJ2_grow_2_36 rfl 3 rfl ?_
    have hgN : N ≤ grN N ∧ grN N ≤ 3000 := by unfold grN; split <;> omega
    refine kJ2_aCopy (wr := [(a, .inr (5, [.int (iI k), .ref b, .int (iI sz)]))]) b N (grN N) sz pa wx C (by omega) hx ⟨Nat.le_of_ble_eq_true rfl, Nat.le_of_ble_eq_true rfl⟩ (Nat.le_of_ble_eq_true rfl) ⟨by show 0 + 1 ≤ 1; omega, by show 0 + grN N ≤ grN N; omega⟩ Sb.rf dJ2_grow_2_37 ?_
    intro q2
    refine g_ws (ws' := [(a, .inr (5, [.int (iI k), .ref b, .int (iI sz)])), (b, .inl (D.1 104, N, .inr (.inr (.inr (.inr (eR sz pa)))))), (q2, .inl (D.1 104, grN N, .inr (.inr (.inr (.inr (eR sz pa))))))] ++ wx) rfl ?_
    refine g_sb (ws' := [(a, .inr (5, [.int (iI k), .ref b, .int (iI sz)])), (q2, .inl (D.1 104, grN N, .inr (.inr (.inr (.inr (eR sz pa))))))] ++ wx) (Sb.part (X := [(a, .inr (5, [.int (iI k), .ref b, .int (iI sz)])), (b, .inl (D.1 104, N, .inr (.inr (.inr (.inr (eR sz pa)))))), (q2, .inl (D.1 104, grN N, .inr (.inr (.inr (.inr (eR sz pa))))))]) (cx := [(a, .inr (5, [.int (iI k), .ref b, .int (iI sz)])), (q2, .inl (D.1 104, grN N, .inr (.inr (.inr (.inr (eR sz pa))))))]) (pl := wx) [0, 2] rfl rfl) ?_
    refine g_dup_x1 C dJ2_grow_2_40 rfl rfl ?_
    refine g_put C in_J2 tyJ2 tyJ2_ok nmJ2 0 1 (ws' := [(a, .inr (5, [.int (iI k), .ref q2, .int (iI sz)])), (q2, .inl (D.1 104, grN N, .inr (.inr (.inr (.inr (eR sz pa))))))] ++ wx) rfl rfl (Nat.le_of_ble_eq_true rfl) q413 rfl rfl rfl rfl (Nat.le_of_ble_eq_true rfl) dJ2_grow_2_41 rfl ?_
    exact g_aret C (Or.inr ⟨_, rfl⟩) (Or.inr ⟨_, rfl⟩) dJ2_grow_2_44 (Nat.le_of_ble_eq_true rfl) (Nat.le_of_eq (Nat.zero_add _)) ⟨_, rfl, rfl⟩
  · exact absurd hc7_1 (by omega)

theorem Sb.rt {a b : va_W} : Sb (a ++ b) b := ⟨fun D cl H hP k q hq => hP (a.length + k) q (by rw [List.getElem?_append_right (by omega), Nat.add_sub_cancel_left]; exact hq), fun A hD => sb_right hD⟩
theorem Sb.lt {a b : va_W} : Sb (a ++ b) a := Sb.tr Sb.comm Sb.rt
theorem sbL {wx : va_W} {D : va_G} {a b N : Nat} {k n : Int} {pa : Nat → Nat} {wr ws : va_W} (h : Sb ws (wr ++ (LW D a b k N n pa ++ wx))) : Sb ws (LW D a b k N n pa) := Sb.tr h (Sb.tr Sb.rt Sb.lt)
section MK
variable {p : Program} {l : Launch} {e : Env} {R : Room} {s : State} {mm : MethodId} {args : Array Value} {below : List Frame} {meth : Method} {c : Code} {cc : ByteArray} {nL : Nat} {ret : Option FieldType} {D : va_G} {A B : Nat → Prop} {cells slots : Nat} {Q : State → Prop} {pc : Nat} {lv : List (Nat × Value)} {st : List Value}
theorem kJ2_lgrow2 {ws wr : va_W} (a b : Nat) (k : Int) (N : Nat) (sz : Int) (pa : Nat → Nat) (wx : va_W) (C : CX p l s mm args meth c RJ2 cc nL ret D A) (hg : sz = N ∧ 1 ≤ N ∧ N < 1000) (hx : ∀ j : Nat, (j : Int) < sz → AnyX D (pa j) wx) (hR : 4 + 1 ≤ R.frames ∧ 8 + (4 + 11) + 64 * 4 ≤ R.locals) (hcat : (st.map fun v => v.category).sum ≤ 8) (hroom : cells + 1 ≤ R.cells ∧ slots + (grN N) ≤ R.slots) (hsb : Sb ws (wr ++ (LW D a b k N sz pa ++ wx))) (d : decode cc pc = .ok (.invokevirtual 69, 3)) (K : ∀ (b1 : Nat) , GO p l e R s mm args below meth c nL D A A (cells + (1)) (slots + (grN N)) Q (wr ++ (LW D a b1 k (grN N) sz pa ++ wx)) (pc + 3) lv ((.ref b1) :: st)) : GO p l e R s mm args below meth c nL D A A cells slots Q (ws) (pc) lv (.int (iI (sz + 1)) :: .ref a :: st) := by
  refine g_callVU C (c_lgrow2 l D C.hl a b k N sz pa wx hg hx) (As := [.int (iI (sz + 1))]) (n := 1) (lw_V q475 q477 qs4 q51 q478) (by decide +kernel) rfl rfl hR (rcvL C (sbL hsb)) rfl rfl hcat hroom d hsb exT_b hex_t (fun v w hp => ?_) kx_nu
  obtain ⟨b1, rfl, rfl⟩ := hp
  exact K b1
end MK

set_option maxHeartbeats 4000000 in
set_option maxRecDepth 100000 in
theorem c_lgrow (l : Launch) (D : va_G) (hst : l.stackTraces = false) (a b : Nat) (k : Int) (N : Nat) (sz : Int) (pa : Nat → Nat) (wx : va_W) (hg : sz = N ∧ 1 ≤ N ∧ N < 1000) (hx : ∀ j : Nat, (j : Int) < sz → AnyX D (pa j) wx) : CT l D yJ2_grow (ws_ yJ2_grow cJ2_grow 1 (some (.array (.object "java/lang/Object")))) (rmD 5 1 (grN N)) (1) (grN N) va_A [.ref a] (LW D a b k N sz pa ++ wx) exT (fun v w => ∃ b1 : Nat, v = some (.ref b1) ∧ w = LW D a b1 k (grN N) sz pa ++ wx) (xN) := by
  refine ct_U (lv := [(0, .ref a)]) RJ2 (by decide) rfl rfl hst (Nat.le_of_ble_eq_true rfl) rfl ?_
  intro p e s mm args below meth c A C htab hex hnm
  refine g_ws (ws' := [(a, .inr (5, [.int (iI k), .ref b, .int (iI sz)])), (b, .inl (D.1 104, N, .inr (.inr (.inr (.inr (eR sz pa))))))] ++ wx) rfl ?_
  refine g_aload_n C dJ2_grow_0 rfl 0 rfl ?_
  refine g_aload_n C dJ2_grow_1 rfl 0 rfl ?_
  refine g_get C in_J2 0 2 rfl rfl (Nat.le_of_ble_eq_true rfl) (v := .int (iI sz)) rfl q414 rfl dJ2_grow_2 ?_
  refine g_iconst C dJ2_grow_5 ?_
  refine g_iadd C dJ2_grow_6 ?_
  refine kJ2_lgrow2 (wr := []) a b k N sz pa wx C hg hx ⟨Nat.le_of_ble_eq_true rfl, Nat.le_of_ble_eq_true rfl⟩ (Nat.le_of_ble_eq_true rfl) ⟨by show 0 + 1 ≤ 1; omega, by show 0 + grN N ≤ grN N; omega⟩ Sb.rf dJ2_grow_7 ?_
  intro q1
  refine g_ws (ws' := [(a, .inr (5, [.int (iI k), .ref q1, .int (iI sz)])), (q1, .inl (D.1 104, (grN N), .inr (.inr (.inr (.inr (eR sz pa))))))] ++ wx) rfl ?_
  exact g_aret C (Or.inr ⟨_, rfl⟩) (Or.inr ⟨_, rfl⟩) dJ2_grow_10 (Nat.le_of_ble_eq_true rfl) (Nat.le_of_eq (Nat.zero_add _)) ⟨_, rfl, rfl⟩

section MK
variable {p : Program} {l : Launch} {e : Env} {R : Room} {s : State} {mm : MethodId} {args : Array Value} {below : List Frame} {meth : Method} {c : Code} {cc : ByteArray} {nL : Nat} {ret : Option FieldType} {D : va_G} {A B : Nat → Prop} {cells slots : Nat} {Q : State → Prop} {pc : Nat} {lv : List (Nat × Value)} {st : List Value}
theorem kJ2_lgrow {ws wr : va_W} (a b : Nat) (k : Int) (N : Nat) (sz : Int) (pa : Nat → Nat) (wx : va_W) (C : CX p l s mm args meth c RJ2 cc nL ret D A) (hg : sz = N ∧ 1 ≤ N ∧ N < 1000) (hx : ∀ j : Nat, (j : Int) < sz → AnyX D (pa j) wx) (hR : 5 + 1 ≤ R.frames ∧ 8 + (1 + 11) + 64 * 5 ≤ R.locals) (hcat : (st.map fun v => v.category).sum ≤ 8) (hroom : cells + 1 ≤ R.cells ∧ slots + (grN N) ≤ R.slots) (hsb : Sb ws (wr ++ (LW D a b k N sz pa ++ wx))) (d : decode cc pc = .ok (.invokevirtual 129, 3)) (K : ∀ (b1 : Nat) , GO p l e R s mm args below meth c nL D A A (cells + (1)) (slots + (grN N)) Q (wr ++ (LW D a b1 k (grN N) sz pa ++ wx)) (pc + 3) lv ((.ref b1) :: st)) : GO p l e R s mm args below meth c nL D A A cells slots Q (ws) (pc) lv (.ref a :: st) := by
  refine g_callVU C (c_lgrow l D C.hl a b k N sz pa wx hg hx) (As := []) (n := 0) (lw_V q471 q473 qs3 q51 q474) (by decide +kernel) rfl rfl hR (rcvL C (sbL hsb)) rfl rfl hcat hroom d hsb exT_b hex_t (fun v w hp => ?_) kx_nu
  obtain ⟨b1, rfl, rfl⟩ := hp
  exact K b1
end MK

theorem eR_add' {D : va_G} {a b N : Nat} {k n : Int} {pa : Nat → Nat} {x : Nat} (h : 0 ≤ n) : ([(a, .inr (5, [.int (iI k), .ref b, .int (iI (n + 1))])), (b, .inl (D.1 104, N, .inr (.inr (.inr (.inr (va_up (eR n pa) n.toNat (some x)))))))] : va_W) = LW D a b k N (n + 1) (paU pa n x) := by
  unfold LW; rw [eR_add h]
theorem grS_y {N : Nat} {n : Int} (h : n = N) : grS N n = grN N := by unfold grS; rw [if_pos h]
set_option maxHeartbeats 4000000 in
set_option maxRecDepth 100000 in
theorem c_ladd3 (l : Launch) (D : va_G) (hst : l.stackTraces = false) (a b : Nat) (k : Int) (N : Nat) (sz : Int) (pa : Nat → Nat) (wx : va_W) (x : Nat) (ha : 0 ≤ sz ∧ sz ≤ N ∧ 1 ≤ N ∧ N < 1000) (hx : ∀ j : Nat, (j : Int) < sz → AnyX D (pa j) wx) (hx0 : AnyX D x wx) : CT l D yJ2_add_2 (ws_ yJ2_add_2 cJ2_add_2 4 none) (rmD 6 1 (grS N sz)) (1) (grS N sz) va_A [.ref a, .ref x, .ref b, .int (iI sz)] (LW D a b k N sz pa ++ wx) exT (fun v w => ∃ b1 : Nat, v = none ∧ w = LW D a b1 k (grC N sz) (sz + 1) (paU pa sz x) ++ wx) (xN) := by
  refine ct_U (lv := [(0, .ref a), (1, .ref x), (2, .ref b), (3, .int (iI sz))]) RJ2 (by decide) rfl rfl hst (Nat.le_of_ble_eq_true rfl) rfl ?_
  intro p e s mm args below meth c A C htab hex hnm
  have hgr : N < grN N ∧ grN N ≤ 3000 := by unfold grN; split <;> omega
  refine g_ws (ws' := [(a, .inr (5, [.int (iI k), .ref b, .int (iI sz)])), (b, .inl (D.1 104, N, .inr (.inr (.inr (.inr (eR sz pa))))))] ++ wx) rfl ?_
  refine g_iload_n C dJ2_add_2_0 rfl 3 rfl ?_
  refine g_aload_n C dJ2_add_2_1 rfl 2 rfl ?_
  refine g_alen C 1 4 rfl rfl dJ2_add_2_2 ?_
  refine g_icmp_ne C (tgt := 11) dJ2_add_2_3 (by decide) (by omega) (by omega) (fun hc3_1 => ?_) (fun hc3_1 => ?_)
  ·
    refine g_aload_n C dJ2_add_2_11 rfl 2 rfl ?_
    refine g_iload_n C dJ2_add_2_12 rfl 3 rfl ?_
    refine g_aload_n C dJ2_add_2_13 rfl 1 rfl ?_
    refine g_astqM C 1 (ws' := [(a, .inr (5, [.int (iI k), .ref b, .int (iI sz)])), (b, .inl (D.1 104, N, .inr (.inr (.inr (.inr (va_up (eR sz pa) sz.toNat (some x)))))))] ++ wx) rfl (fun H locs hP hS => hx0 p l s mm args meth c _ _ _ _ A H locs C (sbP_right hP) hS) (by omega) (by omega) rfl dJ2_add_2_14 ?_
    refine g_aload_n C dJ2_add_2_15 rfl 0 rfl ?_
    refine g_iload_n C dJ2_add_2_16 rfl 3 rfl ?_
    refine g_iconst C dJ2_add_2_17 ?_
    refine g_iadd C dJ2_add_2_18 ?_
    refine g_put C in_J2 tyJ2 tyJ2_ok nmJ2 0 2 (ws' := [(a, .inr (5, [.int (iI k), .ref b, .int (iI (sz + 1))])), (b, .inl (D.1 104, N, .inr (.inr (.inr (.inr (va_up (eR sz pa) sz.toNat (some x)))))))] ++ wx) rfl rfl (Nat.le_of_ble_eq_true rfl) q414 rfl rfl rfl rfl (Nat.le_of_ble_eq_true rfl) dJ2_add_2_19 rfl ?_
    exact g_vret C dJ2_add_2_22 (Nat.le_of_ble_eq_true rfl) (Nat.zero_le _) ⟨_, rfl, (by rw [(show grC N sz = N from by unfold grC; rw [if_neg (by omega)]), ← eR_add' ha.1])⟩
  ·
    refine g_aload_n C dJ2_add_2_6 rfl 0 rfl ?_
    refine kJ2_lgrow (wr := []) a b k N sz pa wx C (by omega) hx ⟨Nat.le_of_ble_eq_true rfl, Nat.le_of_ble_eq_true rfl⟩ (Nat.le_of_ble_eq_true rfl) ⟨by show 0 + 1 ≤ 1; omega, by show 0 + grN N ≤ grS N sz; rw [grS_y (by omega)]; omega⟩ Sb.rf dJ2_add_2_7 ?_
    intro q2
    refine g_ws (ws' := [(a, .inr (5, [.int (iI k), .ref q2, .int (iI sz)])), (q2, .inl (D.1 104, (grN N), .inr (.inr (.inr (.inr (eR sz pa))))))] ++ wx) rfl ?_
    refine g_astore_n C dJ2_add_2_10 rfl (lv' := [(0, .ref a), (1, .ref x), (2, .ref q2), (3, .int (iI sz))]) [1, 2, 0, 3] rfl (Nat.le_of_ble_eq_true rfl) ?_
    refine g_aload_n C dJ2_add_2_11 rfl 2 rfl ?_
    refine g_iload_n C dJ2_add_2_12 rfl 3 rfl ?_
    refine g_aload_n C dJ2_add_2_13 rfl 1 rfl ?_
    refine g_astqM C 1 (ws' := [(a, .inr (5, [.int (iI k), .ref q2, .int (iI sz)])), (q2, .inl (D.1 104, (grN N), .inr (.inr (.inr (.inr (va_up (eR sz pa) sz.toNat (some x)))))))] ++ wx) rfl (fun H locs hP hS => hx0 p l s mm args meth c _ _ _ _ A H locs C (sbP_right hP) hS) (by omega) (by omega) rfl dJ2_add_2_14 ?_
    refine g_aload_n C dJ2_add_2_15 rfl 0 rfl ?_
    refine g_iload_n C dJ2_add_2_16 rfl 3 rfl ?_
    refine g_iconst C dJ2_add_2_17 ?_
    refine g_iadd C dJ2_add_2_18 ?_
    refine g_put C in_J2 tyJ2 tyJ2_ok nmJ2 0 2 (ws' := [(a, .inr (5, [.int (iI k), .ref q2, .int (iI (sz + 1))])), (q2, .inl (D.1 104, (grN N), .inr (.inr (.inr (.inr (va_up (eR sz pa) sz.toNat (some x)))))))] ++ wx) rfl rfl (Nat.le_of_ble_eq_true rfl) q414 rfl rfl rfl rfl (Nat.le_of_ble_eq_true rfl) dJ2_add_2_19 rfl ?_
    exact g_vret C dJ2_add_2_22 (Nat.le_of_ble_eq_true rfl) (by rw [grS_y (by omega)]; exact Nat.le_of_eq (Nat.zero_add _)) ⟨_, rfl, (by rw [(show grC N sz = grN N from by unfold grC; rw [if_pos (by omega)]), ← eR_add' ha.1])⟩

section MK
variable {p : Program} {l : Launch} {e : Env} {R : Room} {s : State} {mm : MethodId} {args : Array Value} {below : List Frame} {meth : Method} {c : Code} {cc : ByteArray} {nL : Nat} {ret : Option FieldType} {D : va_G} {A B : Nat → Prop} {cells slots : Nat} {Q : State → Prop} {pc : Nat} {lv : List (Nat × Value)} {st : List Value}
theorem kJ2_ladd3 {ws wr : va_W} (a b : Nat) (k : Int) (N : Nat) (sz : Int) (pa : Nat → Nat) (wx : va_W) (x : Nat) (C : CX p l s mm args meth c RJ2 cc nL ret D A) (ha : 0 ≤ sz ∧ sz ≤ N ∧ 1 ≤ N ∧ N < 1000) (hx : ∀ j : Nat, (j : Int) < sz → AnyX D (pa j) wx) (hx0 : AnyX D x wx) (hR : 6 + 1 ≤ R.frames ∧ 8 + (4 + 11) + 64 * 6 ≤ R.locals) (hcat : (st.map fun v => v.category).sum ≤ 8) (hroom : cells + 1 ≤ R.cells ∧ slots + (grS N sz) ≤ R.slots) (hsb : Sb ws (wr ++ (LW D a b k N sz pa ++ wx))) (d : decode cc pc = .ok (.invokevirtual 131, 3)) (K : ∀ (b1 : Nat) , GO p l e R s mm args below meth c nL D A A (cells + (1)) (slots + (grS N sz)) Q (wr ++ (LW D a b1 k (grC N sz) (sz + 1) (paU pa sz x) ++ wx)) (pc + 3) lv (st)) : GO p l e R s mm args below meth c nL D A A cells slots Q (ws) (pc) lv (.int (iI sz) :: .ref b :: .ref x :: .ref a :: st) := by
  refine g_callVU C (c_ladd3 l D C.hl a b k N sz pa wx x ha hx hx0) (As := [.ref x, .ref b, .int (iI sz)]) (n := 3) (lw_V q467 q469 qs2 q51 q470) (by decide +kernel) rfl rfl hR (rcvL C (sbL hsb)) rfl rfl hcat hroom d hsb exT_b hex_t (fun v w hp => ?_) kx_nu
  obtain ⟨b1, rfl, rfl⟩ := hp
  exact K b1
end MK

set_option maxHeartbeats 4000000 in
set_option maxRecDepth 100000 in
theorem c_ladd (l : Launch) (D : va_G) (hst : l.stackTraces = false) (a b : Nat) (k : Int) (N : Nat) (sz : Int) (pa : Nat → Nat) (wx : va_W) (x : Nat) (ha : 0 ≤ sz ∧ sz ≤ N ∧ 1 ≤ N ∧ N < 1000) (hx : ∀ j : Nat, (j : Int) < sz → AnyX D (pa j) wx) (hx0 : AnyX D x wx) : CT l D yJ2_add (ws_ yJ2_add cJ2_add 2 (some .boolean)) (rmD 7 1 (grS N sz)) (1) (grS N sz) va_A [.ref a, .ref x] (LW D a b k N sz pa ++ wx) exT (fun v w => ∃ b1 : Nat, v = some (.int (iI 1)) ∧ w = LW D a b1 (k + 1) (grC N sz) (sz + 1) (paU pa sz x) ++ wx) (xN) := by
  refine ct_U (lv := [(0, .ref a), (1, .ref x)]) RJ2 (by decide) rfl rfl hst (Nat.le_of_ble_eq_true rfl) rfl ?_
  intro p e s mm args below meth c A C htab hex hnm
  refine g_ws (ws' := [(a, .inr (5, [.int (iI k), .ref b, .int (iI sz)])), (b, .inl (D.1 104, N, .inr (.inr (.inr (.inr (eR sz pa))))))] ++ wx) rfl ?_
  refine g_aload_n C dJ2_add_0 rfl 0 rfl ?_
  refine g_dup C dJ2_add_1 rfl ?_
  refine g_getI C in_J2 0 0 rfl rfl (Nat.le_of_ble_eq_true rfl) (v := .int (iI k)) rfl q416 q417 dJ2_add_2 ?_
  refine g_iconst C dJ2_add_5 ?_
  refine g_iadd C dJ2_add_6 ?_
  refine g_putI C in_J2 tyJ2 tyJ2_ok nmJ2 0 0 (ws' := [(a, .inr (5, [.int (iI (k + 1)), .ref b, .int (iI sz)])), (b, .inl (D.1 104, N, .inr (.inr (.inr (.inr (eR sz pa))))))] ++ wx) rfl rfl (Nat.le_of_ble_eq_true rfl) q416 q417 rfl rfl rfl (Nat.le_of_ble_eq_true rfl) rfl dJ2_add_7 ?_
  refine g_aload_n C dJ2_add_10 rfl 0 rfl ?_
  refine g_aload_n C dJ2_add_11 rfl 1 rfl ?_
  refine g_aload_n C dJ2_add_12 rfl 0 rfl ?_
  refine g_get C in_J2 0 1 rfl rfl (Nat.le_of_ble_eq_true rfl) (v := .ref b) rfl q413 rfl dJ2_add_13 ?_
  refine g_aload_n C dJ2_add_16 rfl 0 rfl ?_
  refine g_get C in_J2 0 2 rfl rfl (Nat.le_of_ble_eq_true rfl) (v := .int (iI sz)) rfl q414 rfl dJ2_add_17 ?_
  refine kJ2_ladd3 (wr := []) a b (k + 1) N sz pa wx x C ha hx hx0 ⟨Nat.le_of_ble_eq_true rfl, Nat.le_of_ble_eq_true rfl⟩ (Nat.le_of_ble_eq_true rfl) ⟨by show 0 + 1 ≤ 1; omega, by show 0 + grS N sz ≤ grS N sz; omega⟩ Sb.rf dJ2_add_20 ?_
  intro q1
  refine g_ws (ws' := LW D a q1 (k + 1) (grC N sz) (sz + 1) (paU pa sz x) ++ wx) rfl ?_
  refine g_iconst C dJ2_add_23 ?_
  exact g_iret C dJ2_add_24 rfl (Nat.le_of_ble_eq_true rfl) (by show 0 + grS N sz ≤ grS N sz; omega) ⟨_, rfl, rfl⟩

end JC3
