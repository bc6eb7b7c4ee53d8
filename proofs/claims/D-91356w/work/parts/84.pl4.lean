/-! ===== contracts of the class: read ===== -/
def plq (a0 a1 a2 a3 a4 c5 c6 : Nat) (k : Nat) : Nat := match k with
  | 0 => a0
  | 1 => a1
  | 2 => a2
  | 3 => a3
  | 4 => a4
  | 5 => c5
  | _ => c6
def plz (fr to le km kp n : Int) (k : Nat) : Int := match k with
  | 0 => fr
  | 1 => to
  | 2 => le
  | 3 => km
  | 4 => kp
  | _ => n
def plv (x y : Int → Int) (k : Nat) : Int → Int := match k with
  | 0 => x
  | _ => y
def plR (D : va_G) (a0 a1 a2 a3 a4 c5 c6 : Nat) (fr to le km kp n1 n2 : Int) (x y : Int → Int) : va_W := (a0, .inr (3, [.int (iI fr), .int (iI to), .int (iI le), .ref a1, .ref a3])) :: (LW D a1 a2 km c5 n1 (bxA D x) ++ LW D a3 a4 kp c6 n2 (bxA D y))
def tpS (t : Int → Int) (j : Int) : Int := andI (t j) 255
theorem eR_00 {p q : Nat → Nat} : eR 0 p = eR 0 q := by
  funext j; unfold eR; rw [if_neg (by omega), if_neg (by omega)]
theorem gr_cap {c : Nat} {n : Int} (h : 8 ≤ c ∧ n ≤ c ∧ 0 ≤ n ∧ 2 * (c : Int) ≤ 16 + 3 * n) : 8 ≤ grC c n ∧ n + 1 ≤ (grC c n : Int) ∧ 2 * (grC c n : Int) ≤ 16 + 3 * (n + 1) ∧ 4 * c + grS c n ≤ 4 * grC c n := by
  unfold grC grS grN
  by_cases e : n = c
  · rw [if_pos e, if_pos e, if_pos (by omega)]; omega
  · rw [if_neg e, if_neg e]; omega
theorem plc_u {F S b n m j : Int} {kd x : Int → Int} (h : j ≤ n) : plc F S kd b (uI x n m) j = plc F S kd b x j := plc_cg (fun i h0 h1 => uI_n (by omega))
theorem plN_u {F S b n m : Int} {kd x : Int → Int} {j : Nat} (h : (j : Int) ≤ n) : plN F S kd b (uI x n m) j = plN F S kd b x j := plN_cg j (fun i h0 h1 => uI_n (by omega))
theorem fle_u {ht th : Int → Int} {F S b n m : Int} {kd x : Int → Int} (h : 0 ≤ n) : fle ht th F S kd b (uI x n m) n = fle ht th F S kd b x n := by
  unfold fle
  refine sumN_c _ (fun i hi => ?_)
  rw [plN_u (by omega), uI_n (by omega)]
theorem perm_hd {α : Type} {a T L : List α} {po : α} : (a ++ (T ++ (po :: L))).Perm (po :: (a ++ (T ++ L))) :=
  (List.Perm.append_left _ List.perm_middle).trans List.perm_middle
theorem perm_m {α : Type} {a T m lp : List α} {po : α} : (a ++ (T ++ (po :: (m ++ lp)))).Perm ((a ++ (T ++ (po :: lp))) ++ m) := by
  rw [List.append_assoc, List.append_assoc]
  refine List.Perm.append_left _ (List.Perm.append_left _ ?_)
  exact List.Perm.cons _ List.perm_append_comm
theorem perm_p {α : Type} {a T m lp : List α} {po : α} : (a ++ (T ++ (po :: (m ++ lp)))).Perm ((a ++ (T ++ (po :: m))) ++ lp) := by
  rw [List.append_assoc, List.append_assoc]
  exact List.Perm.refl _
theorem sb_flt {a T w : va_W} {x : Nat × va_E} : Sb ((a ++ (T ++ w)) ++ [x]) ((a ++ T) ++ [x]) := by
  refine Sb.tr (Sb.perm (b := w ++ ((a ++ T) ++ [x])) ?_) Sb.rt
  rw [← List.append_assoc a T w, List.append_assoc (a ++ T) w [x]]
  exact List.perm_append_comm_assoc _ _ _
section RDR
variable {p : Program} {l : Launch} {e : Env} {R : Room} {s : State} {mm : MethodId} {args : Array Value} {below : List Frame} {meth : Method} {c : Code} {cc : ByteArray} {nL : Nat} {ret : Option FieldType} {D : va_G} {A B : Nat → Prop} {cells slots : Nat} {Q : State → Prop} {pc : Nat} {lv : List (Nat × Value)} {st : List Value}
variable {h : Nat → Nat} {f : Nat → Int} {g : Nat → Int → Int} {N : Nat → Nat} {M : Nat → Nat → Nat} {T : va_W} {a0 a1 a2 a3 a4 c5 c6 : Nat} {fr to le km kp n1 n2 : Int} {x y : Int → Int}
theorem gr_get1 (C : CX p l s mm args meth c RX1 cc nL ret D A) {v : Int} (hv : to = v) (d : decode cc pc = .ok (.getfield 178, 3)) (K : GO p l e R s mm args below meth c nL D A B cells slots Q (sW D h f g N M (T ++ plR D a0 a1 a2 a3 a4 c5 c6 fr to le km kp n1 n2 x y)) (pc + 3) lv (.int (iI v) :: st)) : GO p l e R s mm args below meth c nL D A B cells slots Q (sW D h f g N M (T ++ plR D a0 a1 a2 a3 a4 c5 c6 fr to le km kp n1 n2 x y)) (pc) lv (.ref a0 :: st) := by
  subst hv
  exact g_getNs C in_X4 (wc := plR D a0 a1 a2 a3 a4 c5 c6 fr to le km kp n1 n2 x y) (Sb.tr Sb.rt Sb.rt) 0 1 rfl rfl (by decide) rfl (by decide) rfl rfl d K
theorem gr_put1 (C : CX p l s mm args meth c RX1 cc nL ret D A) {v : Int} (d : decode cc pc = .ok (.putfield 178, 3)) (K : GO p l e R s mm args below meth c nL D A A cells slots Q (sW D h f g N M (T ++ plR D a0 a1 a2 a3 a4 c5 c6 fr v le km kp n1 n2 x y)) (pc + 3) lv (st)) : GO p l e R s mm args below meth c nL D A A cells slots Q (sW D h f g N M (T ++ plR D a0 a1 a2 a3 a4 c5 c6 fr to le km kp n1 n2 x y)) (pc) lv (.int (iI v) :: .ref a0 :: st) := by
  refine g_sb (ws' := (a0, .inr (3, [.int (iI fr), .int (iI to), .int (iI le), .ref a1, .ref a3])) :: (sF D h f g N M ++ (T ++ (LW D a1 a2 km c5 n1 (bxA D x) ++ LW D a3 a4 kp c6 n2 (bxA D y))))) (Sb.perm perm_hd) ?_
  refine g_putN C in_X4 tyX4 tyX4_ok nmX4 0 1 (ws' := (a0, .inr (3, [.int (iI fr), .int (iI v), .int (iI le), .ref a1, .ref a3])) :: (sF D h f g N M ++ (T ++ (LW D a1 a2 km c5 n1 (bxA D x) ++ LW D a3 a4 kp c6 n2 (bxA D y))))) rfl rfl (by decide) (by decide) rfl rfl rfl rfl rfl (Nat.le_of_ble_eq_true rfl) rfl d ?_
  exact g_sb (Sb.perm perm_hd.symm) K
theorem gr_get2 (C : CX p l s mm args meth c RX1 cc nL ret D A) {v : Int} (hv : le = v) (d : decode cc pc = .ok (.getfield 185, 3)) (K : GO p l e R s mm args below meth c nL D A B cells slots Q (sW D h f g N M (T ++ plR D a0 a1 a2 a3 a4 c5 c6 fr to le km kp n1 n2 x y)) (pc + 3) lv (.int (iI v) :: st)) : GO p l e R s mm args below meth c nL D A B cells slots Q (sW D h f g N M (T ++ plR D a0 a1 a2 a3 a4 c5 c6 fr to le km kp n1 n2 x y)) (pc) lv (.ref a0 :: st) := by
  subst hv
  exact g_getNs C in_X4 (wc := plR D a0 a1 a2 a3 a4 c5 c6 fr to le km kp n1 n2 x y) (Sb.tr Sb.rt Sb.rt) 0 2 rfl rfl (by decide) rfl (by decide) rfl rfl d K
theorem gr_put2 (C : CX p l s mm args meth c RX1 cc nL ret D A) {v : Int} (d : decode cc pc = .ok (.putfield 185, 3)) (K : GO p l e R s mm args below meth c nL D A A cells slots Q (sW D h f g N M (T ++ plR D a0 a1 a2 a3 a4 c5 c6 fr to v km kp n1 n2 x y)) (pc + 3) lv (st)) : GO p l e R s mm args below meth c nL D A A cells slots Q (sW D h f g N M (T ++ plR D a0 a1 a2 a3 a4 c5 c6 fr to le km kp n1 n2 x y)) (pc) lv (.int (iI v) :: .ref a0 :: st) := by
  refine g_sb (ws' := (a0, .inr (3, [.int (iI fr), .int (iI to), .int (iI le), .ref a1, .ref a3])) :: (sF D h f g N M ++ (T ++ (LW D a1 a2 km c5 n1 (bxA D x) ++ LW D a3 a4 kp c6 n2 (bxA D y))))) (Sb.perm perm_hd) ?_
  refine g_putN C in_X4 tyX4 tyX4_ok nmX4 0 2 (ws' := (a0, .inr (3, [.int (iI fr), .int (iI to), .int (iI v), .ref a1, .ref a3])) :: (sF D h f g N M ++ (T ++ (LW D a1 a2 km c5 n1 (bxA D x) ++ LW D a3 a4 kp c6 n2 (bxA D y))))) rfl rfl (by decide) (by decide) rfl rfl rfl rfl rfl (Nat.le_of_ble_eq_true rfl) rfl d ?_
  exact g_sb (Sb.perm perm_hd.symm) K
theorem gr_get3 (C : CX p l s mm args meth c RX1 cc nL ret D A) (d : decode cc pc = .ok (.getfield 190, 3)) (K : GO p l e R s mm args below meth c nL D A B cells slots Q (sW D h f g N M (T ++ plR D a0 a1 a2 a3 a4 c5 c6 fr to le km kp n1 n2 x y)) (pc + 3) lv (.ref a1 :: st)) : GO p l e R s mm args below meth c nL D A B cells slots Q (sW D h f g N M (T ++ plR D a0 a1 a2 a3 a4 c5 c6 fr to le km kp n1 n2 x y)) (pc) lv (.ref a0 :: st) := g_getNs C in_X4 (wc := plR D a0 a1 a2 a3 a4 c5 c6 fr to le km kp n1 n2 x y) (Sb.tr Sb.rt Sb.rt) 0 3 rfl rfl (by decide) rfl (by decide) rfl rfl d K
theorem gr_get4 (C : CX p l s mm args meth c RX1 cc nL ret D A) (d : decode cc pc = .ok (.getfield 199, 3)) (K : GO p l e R s mm args below meth c nL D A B cells slots Q (sW D h f g N M (T ++ plR D a0 a1 a2 a3 a4 c5 c6 fr to le km kp n1 n2 x y)) (pc + 3) lv (.ref a3 :: st)) : GO p l e R s mm args below meth c nL D A B cells slots Q (sW D h f g N M (T ++ plR D a0 a1 a2 a3 a4 c5 c6 fr to le km kp n1 n2 x y)) (pc) lv (.ref a0 :: st) := g_getNs C in_X4 (wc := plR D a0 a1 a2 a3 a4 c5 c6 fr to le km kp n1 n2 x y) (Sb.tr Sb.rt Sb.rt) 0 4 rfl rfl (by decide) rfl (by decide) rfl rfl d K
theorem gr_addM (C : CX p l s mm args meth c RX1 cc nL ret D A) {v : Int} (ha : 0 ≤ n1 ∧ n1 ≤ c5 ∧ 1 ≤ c5 ∧ c5 < 1000) (hx : ∀ j, 0 ≤ j → j < n1 → 0 ≤ x j ∧ x j < 64) (hv : 0 ≤ v ∧ v < 64) (hR : 7 + 1 ≤ R.frames ∧ 8 + (2 + 11) + 64 * 7 ≤ R.locals) (hcat : (st.map fun v => v.category).sum ≤ 8) (hroom : cells + 1 ≤ R.cells ∧ slots + grS c5 n1 ≤ R.slots) (d : decode cc pc = .ok (.invokevirtual 102, 3))
  (K : ∀ b1 : Nat, GO p l e R s mm args below meth c nL D A A (cells + 1) (slots + grS c5 n1) Q (sW D h f g N M (T ++ plR D a0 a1 b1 a3 a4 (grC c5 n1) c6 fr to le (km + 1) kp (n1 + 1) n2 (uI x n1 v) y)) (pc + 3) lv (.int (iI 1) :: st)) : GO p l e R s mm args below meth c nL D A A cells slots Q (sW D h f g N M (T ++ plR D a0 a1 a2 a3 a4 c5 c6 fr to le km kp n1 n2 x y)) (pc) lv (.ref (D.2 1000 (v + 128).toNat) :: .ref a1 :: st) := by
  refine kX1_ladd (wr := sF D h f g N M ++ (T ++ ((a0, .inr (3, [.int (iI fr), .int (iI to), .int (iI le), .ref a1, .ref a3])) :: LW D a3 a4 kp c6 n2 (bxA D y)))) a1 a2 km c5 n1 (bxA D x) [] (D.2 1000 (v + 128).toNat) C ha (bx_any hx) (AnyX.box (by omega)) hR hcat hroom (Sb.perm (b := (sF D h f g N M ++ (T ++ ((a0, .inr (3, [.int (iI fr), .int (iI to), .int (iI le), .ref a1, .ref a3])) :: LW D a3 a4 kp c6 n2 (bxA D y)))) ++ LW D a1 a2 km c5 n1 (bxA D x)) perm_m) d ?_
  intro b1
  rw [bx_add ha.1]
  refine g_sb (ws' := sW D h f g N M (T ++ plR D a0 a1 b1 a3 a4 (grC c5 n1) c6 fr to le (km + 1) kp (n1 + 1) n2 (uI x n1 v) y)) ?_ (K b1)
  exact Sb.perm (a := (sF D h f g N M ++ (T ++ ((a0, .inr (3, [.int (iI fr), .int (iI to), .int (iI le), .ref a1, .ref a3])) :: LW D a3 a4 kp c6 n2 (bxA D y)))) ++ LW D a1 b1 (km + 1) (grC c5 n1) (n1 + 1) (bxA D (uI x n1 v))) perm_m.symm
theorem gr_addP (C : CX p l s mm args meth c RX1 cc nL ret D A) {v : Int} (ha : 0 ≤ n2 ∧ n2 ≤ c6 ∧ 1 ≤ c6 ∧ c6 < 1000) (hx : ∀ j, 0 ≤ j → j < n2 → 0 ≤ y j ∧ y j < 64) (hv : 0 ≤ v ∧ v < 64) (hR : 7 + 1 ≤ R.frames ∧ 8 + (2 + 11) + 64 * 7 ≤ R.locals) (hcat : (st.map fun v => v.category).sum ≤ 8) (hroom : cells + 1 ≤ R.cells ∧ slots + grS c6 n2 ≤ R.slots) (d : decode cc pc = .ok (.invokevirtual 102, 3))
  (K : ∀ b1 : Nat, GO p l e R s mm args below meth c nL D A A (cells + 1) (slots + grS c6 n2) Q (sW D h f g N M (T ++ plR D a0 a1 a2 a3 b1 c5 (grC c6 n2) fr to le km (kp + 1) n1 (n2 + 1) x (uI y n2 v))) (pc + 3) lv (.int (iI 1) :: st)) : GO p l e R s mm args below meth c nL D A A cells slots Q (sW D h f g N M (T ++ plR D a0 a1 a2 a3 a4 c5 c6 fr to le km kp n1 n2 x y)) (pc) lv (.ref (D.2 1000 (v + 128).toNat) :: .ref a3 :: st) := by
  refine kX1_ladd (wr := sF D h f g N M ++ (T ++ ((a0, .inr (3, [.int (iI fr), .int (iI to), .int (iI le), .ref a1, .ref a3])) :: LW D a1 a2 km c5 n1 (bxA D x)))) a3 a4 kp c6 n2 (bxA D y) [] (D.2 1000 (v + 128).toNat) C ha (bx_any hx) (AnyX.box (by omega)) hR hcat hroom (Sb.perm (b := (sF D h f g N M ++ (T ++ ((a0, .inr (3, [.int (iI fr), .int (iI to), .int (iI le), .ref a1, .ref a3])) :: LW D a1 a2 km c5 n1 (bxA D x)))) ++ LW D a3 a4 kp c6 n2 (bxA D y)) perm_p) d ?_
  intro b1
  rw [bx_add ha.1]
  refine g_sb (ws' := sW D h f g N M (T ++ plR D a0 a1 a2 a3 b1 c5 (grC c6 n2) fr to le km (kp + 1) n1 (n2 + 1) x (uI y n2 v))) ?_ (K b1)
  exact Sb.perm (a := (sF D h f g N M ++ (T ++ ((a0, .inr (3, [.int (iI fr), .int (iI to), .int (iI le), .ref a1, .ref a3])) :: LW D a1 a2 km c5 n1 (bxA D x)))) ++ LW D a3 b1 (kp + 1) (grC c6 n2) (n2 + 1) (bxA D (uI y n2 v))) perm_p.symm
end RDR
section PL4
set_option maxHeartbeats 4000000 in
set_option maxRecDepth 100000 in
theorem c_X1_read (l : Launch) (D : va_G) (hst : l.stackTraces = false) (h : Nat → Nat) (f : Nat → Int) (g : Nat → Int → Int) (N : Nat → Nat) (M : Nat → Nat → Nat) (T : va_W) (n1 fr : Int) (hF : 1 ≤ f 0 ∧ f 0 ≤ 5) (hS : 2 ≤ f 1 ∧ f 1 ≤ 6) (hkd : ∀ j, 0 ≤ j → j < 6 → 0 ≤ g 5 j ∧ g 5 j ≤ 3) (hth : ∀ j, 0 ≤ j → j < 5 → 1 ≤ g 3 j ∧ g 3 j ≤ 50) (hht : ∀ j, 0 ≤ j → j < 6 → 0 ≤ g 4 j ∧ g 4 j ≤ 400) (hn1 : 0 ≤ n1 ∧ n1 ≤ 400) (hpf : PIn (f 0) (f 1) fr) : CT l D yX1_read (ws_ yX1_read cX1_read 8 (some (.object "SewnBook$Plan"))) (rmD 8 810 5000) (810) (5000) va_A [.ref (h 0), .int (iI n1), .int (iI fr)] (sW D h f g N M T) exT (fun v w => RDo (f 0) (f 1) (g 5) (tpS (g 8)) fr n1 ∧ ∃ (pq : Nat → Nat) (pz : Nat → Int) (pv : Nat → Int → Int), v = some (.ref (pq 0)) ∧ PV f g pq pz pv ∧ pz 0 = fr ∧ pz 5 = rdc (tpS (g 8)) n1 ∧ (∀ j, 0 ≤ j → j < pz 5 → pv 0 j = rdv (tpS (g 8)) n1 j) ∧ w = sW D h f g N M (T ++ plC D pq pz pv)) (fun E q w => E = RX5 ∧ ∃ (z x : Int) (fs : List Value), fs.length = 8 ∧ RDf (f 0) (f 1) (g 5) (tpS (g 8)) fr n1 x z ∧ w = sW D h f g N M T ++ [(q, .inr (4, (fs.set 6 (.int (iI (-1 - z)))).set 7 (.int (iI x))))]) := by
  refine ct_U (lv := [(0, .ref (h 0)), (1, .int (iI n1)), (2, .int (iI fr))]) RX1 (by decide) rfl rfl hst (Nat.le_of_ble_eq_true rfl) rfl ?_
  intro p e s mm args below meth c A C htab hex hnm
  refine g_new C in_X4 tyX4 tyX4_ok (ci := 3) rfl (fs := [.int (iI 0), .int (iI 0), .int (iI 0), .null, .null]) (by decide +kernel) q747 q748 q72 dX1_read_0 (Nat.le_of_ble_eq_true rfl) (Nat.le_of_ble_eq_true rfl) (fun a0 => ?_)
  refine g_dup C dX1_read_3 rfl ?_
  refine g_iload_n C dX1_read_4 rfl 2 rfl ?_
  refine kX1_newPlan (wr := sW D h f g N M T) a0 fr C ⟨Nat.le_of_ble_eq_true rfl, Nat.le_of_ble_eq_true rfl⟩ (Nat.le_of_ble_eq_true rfl) ⟨(show 0 + 1 + 4 ≤ 810 by omega), (show 0 + 5 + 22 ≤ 5000 by omega)⟩ Sb.rf dX1_read_5 ?_
  intro a1 a2 a3 a4
  refine g_ws (ws' := sW D h f g N M (T ++ plR D a0 a1 a2 a3 a4 8 8 fr fr 0 0 0 0 0 (fun _ => 0) (fun _ => 0))) (by rw [show eR 0 (cM0 0) = eR 0 (bxA D (fun _ => 0)) from eR_00]; exact List.append_assoc _ _ _) ?_
  refine g_widen (k := 5) (n := 27) (by omega) (by omega) ?_
  refine g_astore_n C dX1_read_8 rfl (lv' := [(0, .ref (h 0)), (1, .int (iI n1)), (2, .int (iI fr)), (3, .ref a0)]) [1, 2, 3, 0] rfl (Nat.le_of_ble_eq_true rfl) ?_
  refine g_iconst C dX1_read_9 ?_
  refine g_istore C dX1_read_10 (lv' := [(0, .ref (h 0)), (1, .int (iI n1)), (2, .int (iI fr)), (3, .ref a0), (4, .int (iI 0))]) [1, 2, 3, 4, 0] rfl (Nat.le_of_ble_eq_true rfl) ?_
  have L1 : ∀ (n : Nat) (k : Int) (a2 : Nat) (a4 : Nat) (c5 : Nat) (c6 : Nat) (to : Int) (le : Int) (km : Int) (kp : Int) (nn : Int) (x : Int → Int) (y : Int → Int) (cv : Nat) (sv : Nat), (0 ≤ k ∧ k ≤ n1) → (nn = rdc (tpS (g 8)) k) → (to = rdp (f 0) (f 1) (g 5) (tpS (g 8)) fr k) → (to = plc (f 0) (f 1) (g 5) fr x nn) → (PIn (f 0) (f 1) to) → (RDo (f 0) (f 1) (g 5) (tpS (g 8)) fr k) → (∀ j, 0 ≤ j → j < nn → x j = rdv (tpS (g 8)) k j) → (∀ j, 0 ≤ j → j < nn → y j = plc (f 0) (f 1) (g 5) fr x j) → (le = fle (g 4) (g 3) (f 0) (f 1) (g 5) fr x nn) → ((8 ≤ c5 ∧ nn ≤ c5 ∧ 2 * (c5 : Int) ≤ 16 + 3 * nn) ∧ 8 ≤ c6 ∧ nn ≤ c6 ∧ 2 * (c6 : Int) ≤ 16 + 3 * nn) → (cv ≤ 5 + 2 * nn.toNat ∧ sv ≤ 11 + 4 * c5 + 4 * c6) → (n1 - k).toNat < n → GO p l e (rmD 8 810 5000) s mm args below meth c 8 D A A cv sv (MX below D A (fun v w => RDo (f 0) (f 1) (g 5) (tpS (g 8)) fr n1 ∧ ∃ (pq : Nat → Nat) (pz : Nat → Int) (pv : Nat → Int → Int), v = some (.ref (pq 0)) ∧ PV f g pq pz pv ∧ pz 0 = fr ∧ pz 5 = rdc (tpS (g 8)) n1 ∧ (∀ j, 0 ≤ j → j < pz 5 → pv 0 j = rdv (tpS (g 8)) n1 j) ∧ w = sW D h f g N M (T ++ plC D pq pz pv)) (fun E q w => E = RX5 ∧ ∃ (z x : Int) (fs : List Value), fs.length = 8 ∧ RDf (f 0) (f 1) (g 5) (tpS (g 8)) fr n1 x z ∧ w = sW D h f g N M T ++ [(q, .inr (4, (fs.set 6 (.int (iI (-1 - z)))).set 7 (.int (iI x))))]) args s (810) (5000)) (sW D h f g N M (T ++ plR D a0 a1 a2 a3 a4 c5 c6 fr to le km kp nn nn x y)) 12 [(0, .ref (h 0)), (1, .int (iI n1)), (2, .int (iI fr)), (3, .ref a0), (4, .int (iI k))] [] := by
    intro n
    induction n with
    | zero => intro k a2 a4 c5 c6 to le km kp nn x y cv sv hk hn hto hto2 hpi hR hx hy hle hcap hcv hm; exact absurd hm (Nat.not_lt_zero _)
    | succ n ih1 =>
      intro k a2 a4 c5 c6 to le km kp nn x y cv sv hk hn hto hto2 hpi hR hx hy hle hcap hcv hm1
      have hrr := rdc_rg (tpS (g 8)) hk.1
      have hp4 := hpi
      unfold PIn at hp4
      refine g_iload C dX1_read_12 4 rfl ?_
      refine g_iload_n C dX1_read_14 rfl 1 rfl ?_
      refine g_icmp_ge C (tgt := 161) dX1_read_15 (by decide) (by omega) (by omega) (fun hc15_2 => ?_) (fun hc15_2 => ?_)
      ·
        refine g_aload_n C dX1_read_161 rfl 3 rfl ?_
        exact g_aret C (Or.inl ⟨_, rfl⟩) (Or.inr ⟨_, rfl⟩) dX1_read_162 (by omega) (by omega) ⟨by rw [← show k = n1 by omega]; exact hR, plq a0 a1 a2 a3 a4 c5 c6, plz fr to le km kp nn, plv x y, rfl, ⟨PLok_cg (by rw [hn, show k = n1 by omega]; exact RDo_ok hpf ⟨by omega, by omega⟩ (by rw [← show k = n1 by omega]; exact hR)) (fun j h0 h1 => (hx j h0 h1).trans (by rw [show k = n1 by omega])), hy, ⟨(by show nn ≤ (c5 : Int); omega), (by show c5 ≤ 3000; omega), (by show nn ≤ (c6 : Int); omega), (by show c6 ≤ 3000; omega)⟩, hto2, hle⟩, rfl, (by show nn = _; rw [hn, show k = n1 by omega]), (fun j h0 h1 => (hx j h0 h1).trans (by rw [show k = n1 by omega])), rfl⟩
      ·
        refine g_aload_n C dX1_read_18 rfl 0 rfl ?_
        refine gs_get8 C dX1_read_19 ?_
        refine g_iload C dX1_read_22 4 rfl ?_
        refine gs_ald8 C (v := (g 8) k) rfl dX1_read_24 (by omega) ?_
        refine g_sipush C dX1_read_25 (z := 255) rfl ?_
        refine g_iand C dX1_read_28 (z := andI ((g 8) k) 255) (iI_of _).symm ?_
        refine g_istore C dX1_read_29 (lv' := [(0, .ref (h 0)), (1, .int (iI n1)), (2, .int (iI fr)), (3, .ref a0), (4, .int (iI k)), (5, .int (iI (andI ((g 8) k) 255)))]) [1, 2, 3, 4, 5, 0] rfl (Nat.le_of_ble_eq_true rfl) ?_
        have ha255 := andI_255 (g 8 k)
        refine g_iload C dX1_read_31 5 rfl ?_
        refine g_bipush C dX1_read_33 (z := 32) rfl ?_
        refine g_icmp_eq C (tgt := 155) dX1_read_35 (by decide) (by omega) (by omega) (fun hc35_3 => ?_) (fun hc35_3 => ?_)
        ·
          refine g_iinc C dX1_read_155 4 rfl (lv' := [(0, .ref (h 0)), (1, .int (iI n1)), (2, .int (iI fr)), (3, .ref a0), (4, .int (iI (k + 1))), (5, .int (iI (andI ((g 8) k) 255)))]) [1, 2, 3, 4, 0, 5] rfl (Nat.le_of_ble_eq_true rfl) ?_
          refine g_goto C (tgt := 12) dX1_read_158 (by decide) ?_
          refine g_lv [0, 1, 2, 3, 4] rfl ?_
          exact ih1 (k + 1) a2 a4 c5 c6 to le km kp nn x y cv sv (by omega) (hn.trans (rdc_b hk.1 (show isB (tpS (g 8) k) by show andI (g 8 k) 255 = 32 ∨ andI (g 8 k) 255 = 10; omega)).symm) (hto.trans (rdp_b hk.1 (show isB (tpS (g 8) k) by show andI (g 8 k) 255 = 32 ∨ andI (g 8 k) 255 = 10; omega)).symm) hto2 hpi (RDo_b hk.1 hR (show isB (tpS (g 8) k) by show andI (g 8 k) 255 = 32 ∨ andI (g 8 k) 255 = 10; omega)) (fun j h0 h1 => (hx j h0 h1).trans (by rw [rdv_b hk.1 (show isB (tpS (g 8) k) by show andI (g 8 k) 255 = 32 ∨ andI (g 8 k) 255 = 10; omega)])) hy hle (by omega) (by omega) (by omega)
        ·
          refine g_iload C dX1_read_38 5 rfl ?_
          refine g_bipush C dX1_read_40 (z := 10) rfl ?_
          refine g_icmp_ne C (tgt := 48) dX1_read_42 (by decide) (by omega) (by omega) (fun hc42_4 => ?_) (fun hc42_4 => ?_)
          ·
            refine g_ldcS C C.hG.2.1.1 dX1_read_48 ?_
            refine g_iload C dX1_read_50 5 rfl ?_
            refine kX1_sIx (andI ((g 8) k) 255) C (by omega) ⟨Nat.le_of_ble_eq_true rfl, Nat.le_of_ble_eq_true rfl⟩ (Nat.le_of_ble_eq_true rfl) ⟨(by show _ ≤ 810; omega), (by show _ ≤ 5000; omega)⟩ (rv := sgf (andI ((g 8) k) 255)) rfl dX1_read_52 ?_
            have hsg := sgf_rg (andI ((g 8) k) 255)
            refine g_istore C dX1_read_55 (lv' := [(0, .ref (h 0)), (1, .int (iI n1)), (2, .int (iI fr)), (3, .ref a0), (4, .int (iI k)), (5, .int (iI (andI ((g 8) k) 255))), (6, .int (iI (sgf (andI ((g 8) k) 255))))]) [1, 2, 3, 4, 5, 6, 0] rfl (Nat.le_of_ble_eq_true rfl) ?_
            refine g_iload C dX1_read_57 6 rfl ?_
            refine g_if_ge C (tgt := 73) dX1_read_59 (by decide) (by omega) (fun hc59_5 => ?_) (fun hc59_5 => ?_)
            ·
              refine g_aload_n C dX1_read_73 rfl 0 rfl ?_
              refine g_aload_n C dX1_read_74 rfl 3 rfl ?_
              refine gr_get1 C (v := to) rfl dX1_read_75 ?_
              refine g_iload C dX1_read_78 6 rfl ?_
              refine kX1_X1_leads h f g N M (T ++ plR D a0 a1 a2 a3 a4 c5 c6 fr to le km kp nn nn x y) to (sgf (andI ((g 8) k) 255)) C hF hS hkd (by omega) (by omega) ⟨Nat.le_of_ble_eq_true rfl, Nat.le_of_ble_eq_true rfl⟩ (Nat.le_of_ble_eq_true rfl) ⟨(by show _ ≤ 810; omega), (by show _ ≤ 5000; omega)⟩ (rv := lead (f 0) (f 1) (g 5) to (sgf (andI ((g 8) k) 255))) rfl Sb.rf dX1_read_80 ?_
              have hlr := lead_rg (kd := g 5) (m := sgf (andI (g 8 k) 255)) hF hS ⟨hp4.1, hp4.2.1⟩ hp4.2.2.1
              refine g_istore C dX1_read_83 (lv' := [(0, .ref (h 0)), (1, .int (iI n1)), (2, .int (iI fr)), (3, .ref a0), (4, .int (iI k)), (5, .int (iI (andI ((g 8) k) 255))), (6, .int (iI (sgf (andI ((g 8) k) 255)))), (7, .int (iI (lead (f 0) (f 1) (g 5) to (sgf (andI ((g 8) k) 255)))))]) [1, 2, 3, 4, 5, 6, 7, 0] rfl (Nat.le_of_ble_eq_true rfl) ?_
              refine g_iload C dX1_read_85 7 rfl ?_
              refine g_iconst C dX1_read_87 ?_
              refine g_icmp_ne C (tgt := 102) dX1_read_88 (by decide) (by omega) (by omega) (fun hc88_6 => ?_) (fun hc88_6 => ?_)
              ·
                have hPLk : PLok (f 0) (f 1) (g 5) fr nn (rdv (tpS (g 8)) k) := by rw [hn]; exact RDo_ok hpf ⟨by omega, by omega⟩ hR
                have hPLx : PLok (f 0) (f 1) (g 5) fr nn x := PLok_cg hPLk hx
                have hok9 := hPLk.2.2
                have hpl9 : ∀ j, 0 ≤ j → j < nn → PIn (f 0) (f 1) (plc (f 0) (f 1) (g 5) fr x j) := fun j h0 h1 => hPLx.at hF hS h0 (by omega)
                refine g_aload_n C dX1_read_102 rfl 3 rfl ?_
                refine g_dup C dX1_read_103 rfl ?_
                refine gr_get2 C (v := le) rfl dX1_read_104 ?_
                refine g_aload_n C dX1_read_107 rfl 0 rfl ?_
                refine g_aload_n C dX1_read_108 rfl 3 rfl ?_
                refine gr_get1 C (v := to) rfl dX1_read_109 ?_
                refine g_iload C dX1_read_112 6 rfl ?_
                refine kX1_X1_length h f g N M (T ++ plR D a0 a1 a2 a3 a4 c5 c6 fr to le km kp nn nn x y) to (sgf (andI ((g 8) k) 255)) C hF hS hth hht (by omega) (by omega) (by omega) (show to / 2 / 6 < f 0 by omega) (show to / 2 % 6 < f 1 by omega) ⟨Nat.le_of_ble_eq_true rfl, Nat.le_of_ble_eq_true rfl⟩ (Nat.le_of_ble_eq_true rfl) ⟨(by show _ ≤ 810; omega), (by show _ ≤ 5000; omega)⟩ (rv := leng (g 4) (g 3) to (sgf (andI ((g 8) k) 255))) rfl Sb.rf dX1_read_114 ?_
                refine g_iadd C dX1_read_117 ?_
                refine gr_put2 C (v := le + (leng (g 4) (g 3) to (sgf (andI ((g 8) k) 255)))) dX1_read_118 ?_
                refine g_aload_n C dX1_read_121 rfl 3 rfl ?_
                refine gr_get3 C dX1_read_122 ?_
                refine g_iload C dX1_read_125 6 rfl ?_
                refine kX1_ivalueOf (sgf (andI ((g 8) k) 255)) C (by omega) ⟨Nat.le_of_ble_eq_true rfl, Nat.le_of_ble_eq_true rfl⟩ (Nat.le_of_ble_eq_true rfl) ⟨(by show _ ≤ 810; omega), (by show _ ≤ 5000; omega)⟩ dX1_read_127 ?_
                have hgc8 := gr_cap (c := c5) (n := nn) (by omega)
                refine gr_addM C (v := sgf (andI ((g 8) k) 255)) (by omega) (fun j h0 h1 => by rw [hx j h0 h1]; exact ⟨(hok9 j h0 h1).1.1, by have := (hok9 j h0 h1).1.2; omega⟩) (by omega) ⟨Nat.le_of_ble_eq_true rfl, Nat.le_of_ble_eq_true rfl⟩ (Nat.le_of_ble_eq_true rfl) ⟨(show cv + 1 ≤ 810 by omega), (show sv + grS c5 nn ≤ 5000 by omega)⟩ dX1_read_130 (fun b7 => ?_)
                refine g_pop C dX1_read_133 rfl ?_
                refine g_aload_n C dX1_read_134 rfl 3 rfl ?_
                refine gr_get4 C dX1_read_135 ?_
                refine g_aload_n C dX1_read_138 rfl 3 rfl ?_
                refine gr_get1 C (v := to) rfl dX1_read_139 ?_
                refine kX1_ivalueOf to C (by omega) ⟨Nat.le_of_ble_eq_true rfl, Nat.le_of_ble_eq_true rfl⟩ (Nat.le_of_ble_eq_true rfl) ⟨(by show _ ≤ 810; omega), (by show _ ≤ 5000; omega)⟩ dX1_read_142 ?_
                have hgc10 := gr_cap (c := c6) (n := nn) (by omega)
                refine gr_addP C (v := to) (by omega) (fun j h0 h1 => by rw [hy j h0 h1]; have := (hpl9 j h0 h1); unfold PIn at this; omega) (by omega) ⟨Nat.le_of_ble_eq_true rfl, Nat.le_of_ble_eq_true rfl⟩ (Nat.le_of_ble_eq_true rfl) ⟨(show cv + 1 + 1 ≤ 810 by omega), (show sv + grS c5 nn + grS c6 nn ≤ 5000 by omega)⟩ dX1_read_145 (fun b9 => ?_)
                refine g_pop C dX1_read_148 rfl ?_
                refine g_aload_n C dX1_read_149 rfl 3 rfl ?_
                refine g_iload C dX1_read_150 7 rfl ?_
                refine gr_put1 C (v := lead (f 0) (f 1) (g 5) to (sgf (andI ((g 8) k) 255))) dX1_read_152 ?_
                refine g_iinc C dX1_read_155 4 rfl (lv' := [(0, .ref (h 0)), (1, .int (iI n1)), (2, .int (iI fr)), (3, .ref a0), (4, .int (iI (k + 1))), (5, .int (iI (andI ((g 8) k) 255))), (6, .int (iI (sgf (andI ((g 8) k) 255)))), (7, .int (iI (lead (f 0) (f 1) (g 5) to (sgf (andI ((g 8) k) 255)))))]) [1, 2, 3, 4, 0, 5, 6, 7] rfl (Nat.le_of_ble_eq_true rfl) ?_
                refine g_goto C (tgt := 12) dX1_read_158 (by decide) ?_
                refine g_lv [0, 1, 2, 3, 4] rfl ?_
                exact ih1 (k + 1) b7 b9 (grC c5 nn) (grC c6 nn) (lead (f 0) (f 1) (g 5) to (sgf (andI ((g 8) k) 255))) (le + (leng (g 4) (g 3) to (sgf (andI ((g 8) k) 255)))) (km + 1) (kp + 1) (nn + 1) (uI x nn (sgf (andI ((g 8) k) 255))) (uI y nn to) (cv + 1 + 1) (sv + grS c5 nn + grS c6 nn) (by omega) (by rw [rdc_m hk.1 (show ¬ isB (tpS (g 8) k) by show ¬ (andI (g 8 k) 255 = 32 ∨ andI (g 8 k) 255 = 10); omega), hn]) (by rw [rdp_m hk.1 (show ¬ isB (tpS (g 8) k) by show ¬ (andI (g 8 k) 255 = 32 ∨ andI (g 8 k) 255 = 10); omega), ← hto]; rfl) (by rw [plc_s (by omega), plc_u (Int.le_refl _), uI_s, ← hto2]) (lead_in hF hS hpi (by assumption)) (RDo_m hk.1 hR (by show sgf (andI (g 8 k) 255) ≠ -1; omega) (by rw [← hto]; assumption)) (fun j h0 h1 => by rw [rdv_m hk.1 (show ¬ isB (tpS (g 8) k) by show ¬ (andI (g 8 k) 255 = 32 ∨ andI (g 8 k) 255 = 10); omega), ← hn]; by_cases e9 : j = nn; (subst e9; rw [uI_s, uI_s]; rfl); (rw [uI_n e9, uI_n e9]; exact hx j h0 (by omega))) (fun j h0 h1 => by rw [plc_u (by omega)]; by_cases e9 : j = nn; (subst e9; rw [uI_s]; exact hto2); (rw [uI_n e9]; exact hy j h0 (by omega))) (by rw [fle_s (by omega), fle_u (by omega), plc_u (Int.le_refl _), uI_s, ← hle, ← hto2]) (by omega) (by omega) (by omega)
              ·
                refine g_throwF C (z := 2) (x := k) (i := 4) (j := 4) rfl dX1_read_91 dX1_read_94 dX1_read_95 dX1_read_96 dX1_read_98 dX1_read_101 ⟨Nat.le_of_ble_eq_true rfl, Nat.le_of_ble_eq_true rfl⟩ (Nat.le_of_ble_eq_true rfl) ⟨(by show _ + 1 ≤ 810; omega), (by show _ + 8 ≤ 5000; omega)⟩ (fun q fs hfs => ?_)
                exact x_sb sb_flt (x_out C htab (by omega) (by omega) ⟨rfl, -3, k, fs, hfs, ⟨⟨by omega, by omega⟩, hR, (show ¬ isB (tpS (g 8) k) by show ¬ (andI (g 8 k) 255 = 32 ∨ andI (g 8 k) 255 = 10); omega), Or.inr ⟨by show sgf (andI (g 8 k) 255) ≠ -1; omega, by show lead (f 0) (f 1) (g 5) _ (sgf (andI (g 8 k) 255)) = -1; rw [← hto]; omega, rfl⟩⟩, rfl⟩)
            ·
              refine g_throwF C (z := 1) (x := k) (i := 4) (j := 4) rfl dX1_read_62 dX1_read_65 dX1_read_66 dX1_read_67 dX1_read_69 dX1_read_72 ⟨Nat.le_of_ble_eq_true rfl, Nat.le_of_ble_eq_true rfl⟩ (Nat.le_of_ble_eq_true rfl) ⟨(by show _ + 1 ≤ 810; omega), (by show _ + 8 ≤ 5000; omega)⟩ (fun q fs hfs => ?_)
              exact x_sb sb_flt (x_out C htab (by omega) (by omega) ⟨rfl, -2, k, fs, hfs, ⟨⟨by omega, by omega⟩, hR, (show ¬ isB (tpS (g 8) k) by show ¬ (andI (g 8 k) 255 = 32 ∨ andI (g 8 k) 255 = 10); omega), Or.inl ⟨by show sgf (andI (g 8 k) 255) = -1; omega, rfl⟩⟩, rfl⟩)
          ·
            refine g_goto C (tgt := 155) dX1_read_45 (by decide) ?_
            refine g_iinc C dX1_read_155 4 rfl (lv' := [(0, .ref (h 0)), (1, .int (iI n1)), (2, .int (iI fr)), (3, .ref a0), (4, .int (iI (k + 1))), (5, .int (iI (andI ((g 8) k) 255)))]) [1, 2, 3, 4, 0, 5] rfl (Nat.le_of_ble_eq_true rfl) ?_
            refine g_goto C (tgt := 12) dX1_read_158 (by decide) ?_
            refine g_lv [0, 1, 2, 3, 4] rfl ?_
            exact ih1 (k + 1) a2 a4 c5 c6 to le km kp nn x y cv sv (by omega) (hn.trans (rdc_b hk.1 (show isB (tpS (g 8) k) by show andI (g 8 k) 255 = 32 ∨ andI (g 8 k) 255 = 10; omega)).symm) (hto.trans (rdp_b hk.1 (show isB (tpS (g 8) k) by show andI (g 8 k) 255 = 32 ∨ andI (g 8 k) 255 = 10; omega)).symm) hto2 hpi (RDo_b hk.1 hR (show isB (tpS (g 8) k) by show andI (g 8 k) 255 = 32 ∨ andI (g 8 k) 255 = 10; omega)) (fun j h0 h1 => (hx j h0 h1).trans (by rw [rdv_b hk.1 (show isB (tpS (g 8) k) by show andI (g 8 k) 255 = 32 ∨ andI (g 8 k) 255 = 10; omega)])) hy hle (by omega) (by omega) (by omega)
  exact L1 _ 0 a2 a4 8 8 fr 0 0 0 0 (fun _ => 0) (fun _ => 0) 5 27 (by omega) rfl rfl rfl hpf trivial (fun j h0 h1 => absurd h1 (by omega)) (fun j h0 h1 => absurd h1 (by omega)) rfl (by omega) (by omega) (Nat.lt_succ_self _)

end PL4
