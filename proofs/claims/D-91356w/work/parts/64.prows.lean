/-! ===== the class's parts: cells and rows ===== -/
def ptC (pa : Nat → Nat) (pf ps pk pn : Int → Int) (j : Nat) : Nat × va_E := (pa j, .inr (2, [.int (iI (pf (j : Int))), .int (iI (ps (j : Int))), .int (iI (pk (j : Int))), .int (iI (pn (j : Int)))]))
def ptW (pa : Nat → Nat) (pf ps pk pn : Int → Int) (np : Int) : va_W := (List.range np.toNat).map (ptC pa pf ps pk pn)
theorem fit_b {b : Int} (h : 0 ≤ b ∧ b ≤ 1) : fits .boolean (.int (iI b)) = true := by
  have e : b = 0 ∨ b = 1 := by omega
  rcases e with rfl | rfl <;> rfl
section PROWS
variable {p : Program} {l : Launch} {e : Env} {R : Room} {s : State} {mm : MethodId} {args : Array Value} {below : List Frame} {meth : Method} {c : Code} {cc : ByteArray} {nL : Nat} {ret : Option FieldType} {D : va_G} {A B : Nat → Prop} {cells slots : Nat} {Q : State → Prop} {pc : Nat} {lv : List (Nat × Value)} {st : List Value}
variable {h : Nat → Nat} {f : Nat → Int} {g : Nat → Int → Int} {N : Nat → Nat} {M : Nat → Nat → Nat} {pa : Nat → Nat} {pf ps pk pn : Int → Int} {np : Int} {U : va_W}
theorem pt_at {j : Int} (hj : 0 ≤ j ∧ j < np) : (sW D h f g N M (ptW pa pf ps pk pn np ++ U))[20 + j.toNat]? = some (ptC pa pf ps pk pn j.toNat) := by
  show (sF D h f g N M ++ (ptW pa pf ps pk pn np ++ U))[20 + j.toNat]? = _
  rw [List.getElem?_append_right (by show 20 ≤ 20 + j.toNat; omega)]
  show (ptW pa pf ps pk pn np ++ U)[20 + j.toNat - 20]? = _
  rw [Nat.add_sub_cancel_left, List.getElem?_append_left (by unfold ptW; rw [List.length_map, List.length_range]; omega)]
  unfold ptW
  rw [List.getElem?_map, List.getElem?_range (by omega)]; rfl
theorem pt_rcv {own : String} {j : Int} (C : CX p l s mm args meth c own cc nL ret D A) (hj : 0 ≤ j ∧ j < np) : ∀ (H : Heap) (locs : List Loc), va_P D clX (sW D h f g N M (ptW pa pf ps pk pn np ++ U)) H → va_S A s.heap H locs → ∃ cell : Cell, H[pa j.toNat]? = some cell ∧ cell.vm.isStatics = false ∧ s.vm.findClass "SewnBook$Part" = some cell.cls := fun H _ hP _ => va_recv C.hK hP (show clX[2]? = some _ from rfl) (pt_at hj)
theorem gp_get0 (C : CX p l s mm args meth c RX1 cc nL ret D A) {j v : Int} (hj : 0 ≤ j ∧ j < np) (hv : pf j = v) (d : decode cc pc = .ok (.getfield 130, 3)) (K : GO p l e R s mm args below meth c nL D A B cells slots Q (sW D h f g N M (ptW pa pf ps pk pn np ++ U)) (pc + 3) lv (.int (iI v) :: st)) : GO p l e R s mm args below meth c nL D A B cells slots Q (sW D h f g N M (ptW pa pf ps pk pn np ++ U)) (pc) lv (.ref (pa j.toNat) :: st) := by
  subst hv
  refine g_getN C in_X2 (20 + j.toNat) 0 (pt_at hj) rfl (Nat.le_of_ble_eq_true rfl) (v := .int (iI (pf j))) (by show some (Value.int (iI (pf ((j.toNat : Nat) : Int)))) = _; rw [Int.toNat_of_nonneg hj.1]) (by decide) rfl rfl d K
theorem gp_get1 (C : CX p l s mm args meth c RX1 cc nL ret D A) {j v : Int} (hj : 0 ≤ j ∧ j < np) (hv : ps j = v) (d : decode cc pc = .ok (.getfield 133, 3)) (K : GO p l e R s mm args below meth c nL D A B cells slots Q (sW D h f g N M (ptW pa pf ps pk pn np ++ U)) (pc + 3) lv (.int (iI v) :: st)) : GO p l e R s mm args below meth c nL D A B cells slots Q (sW D h f g N M (ptW pa pf ps pk pn np ++ U)) (pc) lv (.ref (pa j.toNat) :: st) := by
  subst hv
  refine g_getN C in_X2 (20 + j.toNat) 1 (pt_at hj) rfl (Nat.le_of_ble_eq_true rfl) (v := .int (iI (ps j))) (by show some (Value.int (iI (ps ((j.toNat : Nat) : Int)))) = _; rw [Int.toNat_of_nonneg hj.1]) (by decide) rfl rfl d K
theorem gp_get2 (C : CX p l s mm args meth c RX1 cc nL ret D A) {j v : Int} (hj : 0 ≤ j ∧ j < np) (hv : pk j = v) (d : decode cc pc = .ok (.getfield 136, 3)) (K : GO p l e R s mm args below meth c nL D A B cells slots Q (sW D h f g N M (ptW pa pf ps pk pn np ++ U)) (pc + 3) lv (.int (iI v) :: st)) : GO p l e R s mm args below meth c nL D A B cells slots Q (sW D h f g N M (ptW pa pf ps pk pn np ++ U)) (pc) lv (.ref (pa j.toNat) :: st) := by
  subst hv
  refine g_getN C in_X2 (20 + j.toNat) 2 (pt_at hj) rfl (Nat.le_of_ble_eq_true rfl) (v := .int (iI (pk j))) (by show some (Value.int (iI (pk ((j.toNat : Nat) : Int)))) = _; rw [Int.toNat_of_nonneg hj.1]) (by decide) rfl rfl d K
theorem gp_get3 (C : CX p l s mm args meth c RX1 cc nL ret D A) {j v : Int} (hj : 0 ≤ j ∧ j < np) (hv : pn j = v) (d : decode cc pc = .ok (.getfield 138, 3)) (K : GO p l e R s mm args below meth c nL D A B cells slots Q (sW D h f g N M (ptW pa pf ps pk pn np ++ U)) (pc + 3) lv (.int (iI v) :: st)) : GO p l e R s mm args below meth c nL D A B cells slots Q (sW D h f g N M (ptW pa pf ps pk pn np ++ U)) (pc) lv (.ref (pa j.toNat) :: st) := by
  subst hv
  refine g_getN C in_X2 (20 + j.toNat) 3 (pt_at hj) rfl (Nat.le_of_ble_eq_true rfl) (v := .int (iI (pn j))) (by show some (Value.int (iI (pn ((j.toNat : Nat) : Int)))) = _; rw [Int.toNat_of_nonneg hj.1]) (by decide) rfl rfl d K
theorem pt_set {j v : Int} (hj : 0 ≤ j ∧ j < np) : (sW D h f g N M (ptW pa pf ps pk pn np ++ U)).set (20 + j.toNat) (pa j.toNat, .inr (2, [.int (iI (pf (j.toNat : Int))), .int (iI (ps (j.toNat : Int))), .int (iI (pk (j.toNat : Int))), .int (iI v)])) = sW D h f g N M (ptW pa pf ps pk (uI pn j v) np ++ U) := by
  show (sF D h f g N M ++ (ptW pa pf ps pk pn np ++ U)).set (20 + j.toNat) _ = sF D h f g N M ++ (ptW pa pf ps pk (uI pn j v) np ++ U)
  rw [List.set_append_right _ _ (by show 20 ≤ 20 + j.toNat; omega)]
  congr 1
  show (ptW pa pf ps pk pn np ++ U).set (20 + j.toNat - 20) _ = _
  rw [Nat.add_sub_cancel_left, List.set_append_left _ _ (by unfold ptW; rw [List.length_map, List.length_range]; omega)]
  congr 1
  unfold ptW
  apply List.ext_getElem?
  intro i
  by_cases e : i = j.toNat
  · subst e
    rw [List.getElem?_set_self (by rw [List.length_map, List.length_range]; omega), List.getElem?_map, List.getElem?_range (by omega)]
    show _ = some (ptC pa pf ps pk (uI pn j v) j.toNat)
    unfold ptC
    rw [Int.toNat_of_nonneg hj.1, uI_s]
  · rw [List.getElem?_set_ne (by omega), List.getElem?_map, List.getElem?_map]
    by_cases q : i < np.toNat
    · rw [List.getElem?_range q]
      show some (ptC pa pf ps pk pn i) = some (ptC pa pf ps pk (uI pn j v) i)
      unfold ptC
      rw [uI_n (by omega)]
    · rw [List.getElem?_eq_none (by rw [List.length_range]; omega)]; rfl
theorem gp_put3 (C : CX p l s mm args meth c RX1 cc nL ret D A) {j v : Int} (hj : 0 ≤ j ∧ j < np) (hb : 0 ≤ v ∧ v ≤ 1) (d : decode cc pc = .ok (.putfield 138, 3)) (K : GO p l e R s mm args below meth c nL D A A cells slots Q (sW D h f g N M (ptW pa pf ps pk (uI pn j v) np ++ U)) (pc + 3) lv (st)) : GO p l e R s mm args below meth c nL D A A cells slots Q (sW D h f g N M (ptW pa pf ps pk pn np ++ U)) (pc) lv (.int (iI v) :: .ref (pa j.toNat) :: st) :=
  g_putN C in_X2 tyX2 tyX2_ok nmX2 (20 + j.toNat) 3 (pt_at hj) rfl (Nat.le_of_ble_eq_true rfl) (by decide) rfl rfl rfl (nr_b hb) (fit_b hb) (Nat.le_of_ble_eq_true rfl) (pt_set hj) d K
end PROWS
