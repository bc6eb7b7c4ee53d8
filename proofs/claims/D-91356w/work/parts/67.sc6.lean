/-! ===== the class's parts made: one more part in the list ===== -/
def uN (h : Nat → Nat) (k v j : Nat) : Nat := cond (Nat.beq j k) v (h j)
def uM (h : Nat → Nat → Nat) (k : Nat) (v : Nat → Nat) (j : Nat) : Nat → Nat := cond (Nat.beq j k) v (h j)
def sR (D : va_G) (h : Nat → Nat) (f : Nat → Int) (g : Nat → Int → Int) (N : Nat → Nat) (M : Nat → Nat → Nat) : va_W := [(h 0, .inr (1, [.int (iI (f 0)), .int (iI (f 1)), .int (iI (f 2)), .ref (h 3), .ref (h 4), .ref (h 5), .ref (h 6), .ref (h 7), .ref (h 8), .int (iI (f 9)), .int (iI (f 10)), .ref (h 11), .ref (h 12), .ref (h 13), .ref (h 14), .ref (h 15), .ref (h 16), .ref (h 17), .ref (h 18), .ref (h 19), .ref (h 20)])), (h 3, .inl (D.1 100, 5, .inl (aI (g 3)))), (h 4, .inl (D.1 100, 6, .inl (aI (g 4)))), (h 5, .inl (D.1 100, 6, .inl (aI (g 5)))), (h 8, .inl (D.1 102, 400, .inl (aI (g 8)))), (h 12, .inl (D.1 100, 61440, .inl (aI (g 12)))), (h 13, .inl (D.1 100, 55, .inl (aI (g 13)))), (h 14, .inl (D.1 100, 480, .inl (aI (g 14)))), (h 15, .inl (D.1 100, 480, .inl (aI (g 15)))), (h 16, .inl (D.1 100, 480, .inl (aI (g 16)))), (h 17, .inl (D.1 100, 480, .inl (aI (g 17)))), (h 18, .inl (D.1 100, 60, .inl (aI (g 18)))), (h 19, .inl (D.1 101, 60, .inl (aI (g 19)))), (h 20, .inl (D.1 103, 1024, .inr (.inl (lJ (g 20))))), (h 7, .inr (5, [.int (iI (f 22)), .ref (h 22), .int (iI (f 7))])), (h 22, .inl (D.1 104, N 7, .inr (.inr (.inr (.inr (eR (f 7) (M 7))))))), (h 11, .inr (5, [.int (iI (f 23)), .ref (h 23), .int (iI (f 11))])), (h 23, .inl (D.1 104, N 11, .inr (.inr (.inr (.inr (eR (f 11) (M 11)))))))]
theorem pt_len {pa : Nat → Nat} {pf ps pk pn : Int → Int} {np : Int} : (ptW pa pf ps pk pn np).length = np.toNat := by unfold ptW; rw [List.length_map, List.length_range]
theorem pt_g {pa : Nat → Nat} {pf ps pk pn : Int → Int} {np : Int} {j : Nat} (h : j < np.toNat) : (ptW pa pf ps pk pn np)[j]? = some (ptC pa pf ps pk pn j) := by
  unfold ptW; rw [List.getElem?_map, List.getElem?_range h]; rfl
theorem pt_snoc {pa : Nat → Nat} {pf ps pk pn : Int → Int} {np a b c1 : Int} {q : Nat} (h : 0 ≤ np) : ptW pa pf ps pk pn np ++ [(q, .inr (2, [.int (iI a), .int (iI b), .int (iI c1), .int (iI 1)]))] = ptW (paU pa np q) (uI pf np a) (uI ps np b) (uI pk np c1) (uI pn np 1) (np + 1) := by
  unfold ptW
  rw [show (np + 1).toNat = np.toNat + 1 by omega, List.range_succ, List.map_append]
  congr 1
  · apply List.map_congr_left
    intro j hj
    have := List.mem_range.mp hj
    unfold ptC paU
    rw [if_neg (by omega), uI_n (by omega), uI_n (by omega), uI_n (by omega), uI_n (by omega)]
  · show [(q, .inr (2, [.int (iI a), .int (iI b), .int (iI c1), .int (iI 1)]))] = [ptC _ _ _ _ _ np.toNat]
    unfold ptC paU
    rw [if_pos (by omega), Int.toNat_of_nonneg h, uI_s, uI_s, uI_s, uI_s]
section SC6
section MK
variable {p : Program} {l : Launch} {e : Env} {R : Room} {s : State} {mm : MethodId} {args : Array Value} {below : List Frame} {meth : Method} {c : Code} {cc : ByteArray} {nL : Nat} {ret : Option FieldType} {D : va_G} {A B : Nat → Prop} {cells slots : Nat} {Q : State → Prop} {pc : Nat} {lv : List (Nat × Value)} {st : List Value}
theorem kX1_ladd {ws wr : va_W} (a b : Nat) (k : Int) (N : Nat) (sz : Int) (pa : Nat → Nat) (wx : va_W) (x : Nat) (C : CX p l s mm args meth c RX1 cc nL ret D A) (ha : 0 ≤ sz ∧ sz ≤ N ∧ 1 ≤ N ∧ N < 1000) (hx : ∀ j : Nat, (j : Int) < sz → AnyX D (pa j) wx) (hx0 : AnyX D x wx) (hR : 7 + 1 ≤ R.frames ∧ 8 + (2 + 11) + 64 * 7 ≤ R.locals) (hcat : (st.map fun v => v.category).sum ≤ 8) (hroom : cells + 1 ≤ R.cells ∧ slots + (grS N sz) ≤ R.slots) (hsb : Sb ws (wr ++ (LW D a b k N sz pa ++ wx))) (d : decode cc pc = .ok (.invokevirtual 102, 3)) (K : ∀ (b1 : Nat) , GO p l e R s mm args below meth c nL D A A (cells + (1)) (slots + (grS N sz)) Q (wr ++ (LW D a b1 (k + 1) (grC N sz) (sz + 1) (paU pa sz x) ++ wx)) (pc + 3) lv ((.int (iI 1)) :: st)) : GO p l e R s mm args below meth c nL D A A cells slots Q (ws) (pc) lv (.ref x :: .ref a :: st) := by
  refine g_callVU C (c_ladd l D C.hl a b k N sz pa wx x ha hx hx0) (As := [.ref x]) (n := 1) (lw_V q463 q464 q465 q51 q466) (by decide +kernel) rfl rfl hR (rcvL C (sbL hsb)) rfl rfl hcat hroom d hsb exT_b hex_t (fun v w hp => ?_) kx_nu
  obtain ⟨b1, rfl, rfl⟩ := hp
  exact K b1
end MK

section MK
variable {p : Program} {l : Launch} {e : Env} {R : Room} {s : State} {mm : MethodId} {args : Array Value} {below : List Frame} {meth : Method} {c : Code} {cc : ByteArray} {nL : Nat} {ret : Option FieldType} {D : va_G} {A B : Nat → Prop} {cells slots : Nat} {Q : State → Prop} {pc : Nat} {lv : List (Nat × Value)} {st : List Value}
theorem gs_addPart {h : Nat → Nat} {f : Nat → Int} {g : Nat → Int → Int} {N : Nat → Nat} {M : Nat → Nat → Nat} {pf ps pk pn : Int → Int} {a b c1 : Int} {q : Nat} (C : CX p l s mm args meth c RX1 cc nL ret D A) (hnp : 0 ≤ f 6 ∧ f 6 < 55) (hN6 : N 6 = 55) (hR : 7 + 1 ≤ R.frames ∧ 8 + (2 + 11) + 64 * 7 ≤ R.locals) (hcat : (st.map fun v => v.category).sum ≤ 8) (hroom : cells + 1 ≤ R.cells ∧ slots + 0 ≤ R.slots) (d : decode cc pc = .ok (.invokevirtual 102, 3))
  (K : ∀ b1 : Nat, GO p l e R s mm args below meth c nL D A A (cells + 1) slots Q (sW D (uN h 21 b1) (up (up f 6 (f 6 + 1)) 21 (f 21 + 1)) g N (uM M 6 (paU (M 6) (f 6) q)) (ptW (paU (M 6) (f 6) q) (uI pf (f 6) a) (uI ps (f 6) b) (uI pk (f 6) c1) (uI pn (f 6) 1) (f 6 + 1))) (pc + 3) lv (.int (iI 1) :: st)) :
  GO p l e R s mm args below meth c nL D A A cells slots Q (sW D h f g N M (ptW (M 6) pf ps pk pn (f 6)) ++ [(q, .inr (2, [.int (iI a), .int (iI b), .int (iI c1), .int (iI 1)]))]) pc lv (.ref q :: .ref (h 6) :: st) := by
  have hgs : grS (N 6) (f 6) = 0 := by unfold grS; rw [if_neg (by omega)]
  have hgc : grC (N 6) (f 6) = N 6 := by unfold grC; rw [if_neg (by omega)]
  refine g_ws (ws' := sF D h f g N M ++ (ptW (M 6) pf ps pk pn (f 6) ++ [(q, .inr (2, [.int (iI a), .int (iI b), .int (iI c1), .int (iI 1)]))])) (List.append_assoc _ _ _) ?_
  have hsb : Sb (sF D h f g N M ++ (ptW (M 6) pf ps pk pn (f 6) ++ [(q, .inr (2, [.int (iI a), .int (iI b), .int (iI c1), .int (iI 1)]))])) (sR D h f g N M ++ (LW D (h 6) (h 21) (f 21) (N 6) (f 6) (M 6) ++ (ptW (M 6) pf ps pk pn (f 6) ++ [(q, .inr (2, [.int (iI a), .int (iI b), .int (iI c1), .int (iI 1)]))]))) := by
    rw [← List.append_assoc (sR D h f g N M)]
    exact Sb.part (cx := sR D h f g N M ++ LW D (h 6) (h 21) (f 21) (N 6) (f 6) (M 6)) [0, 1, 2, 3, 4, 5, 6, 7, 8, 9, 10, 11, 12, 13, 16, 17, 18, 19, 14, 15] rfl rfl
  refine kX1_ladd (wr := sR D h f g N M) (h 6) (h 21) (f 21) (N 6) (f 6) (M 6) (ptW (M 6) pf ps pk pn (f 6) ++ [(q, .inr (2, [.int (iI a), .int (iI b), .int (iI c1), .int (iI 1)]))]) q C (by omega) (fun j hj => AnyX.obj (q0 := j) (ci := 2) (by rw [List.getElem?_append_left (by rw [pt_len]; omega), pt_g (by omega)]; rfl) rfl (by decide)) (AnyX.obj (q0 := (ptW (M 6) pf ps pk pn (f 6)).length) (ci := 2) (by rw [List.getElem?_append_right (Nat.le_refl _), Nat.sub_self]; rfl) rfl (by decide)) hR hcat (by rw [hgs]; exact hroom) hsb d ?_
  intro b1
  rw [hgs, hgc, pt_snoc hnp.1]
  refine g_sb (ws' := sW D (uN h 21 b1) (up (up f 6 (f 6 + 1)) 21 (f 21 + 1)) g N (uM M 6 (paU (M 6) (f 6) q)) (ptW (paU (M 6) (f 6) q) (uI pf (f 6) a) (uI ps (f 6) b) (uI pk (f 6) c1) (uI pn (f 6) 1) (f 6 + 1))) ?_ (K b1)
  rw [← List.append_assoc (sR D h f g N M)]
  exact Sb.part (X := sR D h f g N M ++ LW D (h 6) b1 (f 21 + 1) (N 6) (f 6 + 1) (paU (M 6) (f 6) q)) (cx := sF D (uN h 21 b1) (up (up f 6 (f 6 + 1)) 21 (f 21 + 1)) g N (uM M 6 (paU (M 6) (f 6) q))) [0, 1, 2, 3, 4, 5, 6, 7, 8, 9, 10, 11, 12, 13, 18, 19, 14, 15, 16, 17] rfl rfl
end MK
set_option maxHeartbeats 4000000 in
set_option maxRecDepth 100000 in
theorem c_newPart (l : Launch) (D : va_G) (hst : l.stackTraces = false) (b : Nat) (x1 x2 x3 : Int)  : CT l D yX2_init (ws_ yX2_init cX2_init 4 none) (rmD 1 0 0) (0) (0) va_A [.ref b, .int (iI x1), .int (iI x2), .int (iI x3)] ([(b, .inr (2, [.int (iI 0), .int (iI 0), .int (iI 0), .int (iI 0)]))]) exT (fun v w => v = none ∧ w = [(b, .inr (2, [.int (iI x1), .int (iI x2), .int (iI x3), .int (iI 1)]))]) (xN) := by
  refine ct_U (lv := [(0, .ref b), (1, .int (iI x1)), (2, .int (iI x2)), (3, .int (iI x3))]) RX2 (by decide) rfl rfl hst (Nat.le_of_ble_eq_true rfl) rfl ?_
  intro p e s mm args below meth c A C htab hex hnm
  refine g_ws (ws' := [(b, .inr (2, [.int (iI 0), .int (iI 0), .int (iI 0), .int (iI 0)]))]) rfl ?_
  refine g_aload_n C dX2_init_0 rfl 0 rfl ?_
  refine g_objInit C q443 q82 q83 dX2_init_1 (Nat.le_of_ble_eq_true rfl) (Nat.le_of_ble_eq_true rfl) ?_
  refine g_aload_n C dX2_init_4 rfl 0 rfl ?_
  refine g_iconst C dX2_init_5 ?_
  refine g_put C in_X2 tyX2 tyX2_ok nmX2 0 3 (ws' := [(b, .inr (2, [.int (iI 0), .int (iI 0), .int (iI 0), .int (iI 1)]))]) rfl rfl (Nat.le_of_ble_eq_true rfl) q450 rfl rfl rfl rfl (Nat.le_of_ble_eq_true rfl) dX2_init_6 rfl ?_
  refine g_aload_n C dX2_init_9 rfl 0 rfl ?_
  refine g_iload_n C dX2_init_10 rfl 1 rfl ?_
  refine g_putF C in_X2 tyX2 tyX2_ok nmX2 (hnm rfl) 0 0 (ws' := [(b, .inr (2, [.int (iI x1), .int (iI 0), .int (iI 0), .int (iI 1)]))]) rfl rfl (Nat.le_of_ble_eq_true rfl) q444 rfl rfl rfl rfl (Nat.le_of_ble_eq_true rfl) dX2_init_11 rfl ?_
  refine g_aload_n C dX2_init_14 rfl 0 rfl ?_
  refine g_iload_n C dX2_init_15 rfl 2 rfl ?_
  refine g_putF C in_X2 tyX2 tyX2_ok nmX2 (hnm rfl) 0 1 (ws' := [(b, .inr (2, [.int (iI x1), .int (iI x2), .int (iI 0), .int (iI 1)]))]) rfl rfl (Nat.le_of_ble_eq_true rfl) q446 rfl rfl rfl rfl (Nat.le_of_ble_eq_true rfl) dX2_init_16 rfl ?_
  refine g_aload_n C dX2_init_19 rfl 0 rfl ?_
  refine g_iload_n C dX2_init_20 rfl 3 rfl ?_
  refine g_putF C in_X2 tyX2 tyX2_ok nmX2 (hnm rfl) 0 2 (ws' := [(b, .inr (2, [.int (iI x1), .int (iI x2), .int (iI x3), .int (iI 1)]))]) rfl rfl (Nat.le_of_ble_eq_true rfl) q448 rfl rfl rfl rfl (Nat.le_of_ble_eq_true rfl) dX2_init_21 rfl ?_
  exact g_vret C dX2_init_24 (Nat.le_of_ble_eq_true rfl) (Nat.le_of_ble_eq_true rfl) ⟨rfl, rfl⟩

section MK
variable {p : Program} {l : Launch} {e : Env} {R : Room} {s : State} {mm : MethodId} {args : Array Value} {below : List Frame} {meth : Method} {c : Code} {cc : ByteArray} {nL : Nat} {ret : Option FieldType} {D : va_G} {A B : Nat → Prop} {cells slots : Nat} {Q : State → Prop} {pc : Nat} {lv : List (Nat × Value)} {st : List Value}
theorem kX1_newPart {ws wr : va_W} (b : Nat) (x1 x2 x3 : Int) (C : CX p l s mm args meth c RX1 cc nL ret D A)  (hR : 1 + 1 ≤ R.frames ∧ 8 + (4 + 11) + 64 * 1 ≤ R.locals) (hcat : (st.map fun v => v.category).sum ≤ 8) (hroom : cells + 0 ≤ R.cells ∧ slots + 0 ≤ R.slots) (hsb : Sb ws (wr ++ ([(b, .inr (2, [.int (iI 0), .int (iI 0), .int (iI 0), .int (iI 0)]))]))) (d : decode cc pc = .ok (.invokespecial 99, 3)) (K : GO p l e R s mm args below meth c nL D A A (cells + (0)) (slots + (0)) Q (wr ++ ([(b, .inr (2, [.int (iI x1), .int (iI x2), .int (iI x3), .int (iI 1)]))])) (pc + 3) lv (st)) : GO p l e R s mm args below meth c nL D A A cells slots Q (ws) (pc) lv (.int (iI x3) :: .int (iI x2) :: .int (iI x1) :: .ref b :: st) := by
  refine g_callIU C (c_newPart l D C.hl b x1 x2 x3 ) (As := [.int (iI x1), .int (iI x2), .int (iI x3)]) (n := 3) (lw_I q442) q68 q440 q441 rfl (by decide +kernel) rfl rfl hR rfl rfl hcat hroom d hsb exT_b hex_t (fun v w hp => ?_) kx_nu
  obtain ⟨rfl, rfl⟩ := hp
  exact K 
end MK

end SC6
