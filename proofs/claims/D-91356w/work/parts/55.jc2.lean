/-! ===== JDK contracts: ArrayList, Arrays.copyOf, newLength, Integer ===== -/
/-- a list's elements -/
def eR (n : Int) (pa : Nat → Nat) (j : Nat) : Option Nat := if (j : Int) < n then some (pa j) else none
def LW (D : va_G) (a b : Nat) (k : Int) (N : Nat) (n : Int) (pa : Nat → Nat) : va_W := [(a, .inr (5, [.int (iI k), .ref b, .int (iI n)])), (b, .inl (D.1 104, N, .inr (.inr (.inr (.inr (eR n pa))))))]
def paU (pa : Nat → Nat) (n : Int) (x : Nat) (j : Nat) : Nat := if (j : Int) = n then x else pa j
def grN (N : Nat) : Nat := N + (if 1 < N / 2 then N / 2 else 1)
def grC (N : Nat) (n : Int) : Nat := if n = N then grN N else N
def grS (N : Nat) (n : Int) : Nat := if n = N then grN N else 0
theorem eR_at {n i : Int} {pa : Nat → Nat} (h : 0 ≤ i ∧ i < n) : va_rf (eR n pa i.toNat) = .ref (pa i.toNat) := by
  unfold eR; rw [if_pos (by omega)]; rfl
theorem eR_add {n : Int} {pa : Nat → Nat} {x : Nat} (h : 0 ≤ n) : va_up (eR n pa) n.toNat (some x) = eR (n + 1) (paU pa n x) := by
  funext j
  unfold va_up eR paU
  by_cases e : j = n.toNat
  · rw [if_pos e, if_pos (by omega), if_pos (by omega)]
  · rw [if_neg e]
    by_cases q : (j : Int) < n
    · rw [if_pos q, if_pos (by omega), if_neg (by omega)]
    · rw [if_neg q, if_neg (by omega)]
theorem eR_cpy {N : Nat} {n : Int} {pa : Nat → Nat} (h : n ≤ N) : va_cpy (eR n pa) (fun _ => none) 0 0 N = eR n pa := by
  funext j
  unfold va_cpy eR
  by_cases q : j < N
  · rw [if_pos (by omega), Nat.zero_add, Nat.sub_zero]
  · rw [if_neg (by omega), if_neg (by omega)]
/-- an element that a list may hold, out of the world wx -/
def AnyX (D : va_G) (x : Nat) (wx : va_W) : Prop := ∀ (p : Program) (l : Launch) (s : State) (m : MethodId) (args : Array Value) (meth : Method) (c : Code) (own : String) (cc : ByteArray) (nL : Nat) (ret : Option FieldType) (A : Nat → Prop) (H : Heap) (locs : List Loc), CX p l s m args meth c own cc nL ret D A → va_P D clX wx H → va_S A s.heap H locs → va_Any "java/lang/Object" s H x
theorem iI_add0 (z : Int) : iI z = iI z := rfl
set_option maxRecDepth 100000 in
theorem shrI_1 {z : Int} (h : 0 ≤ z ∧ z < 1000) : iI z >>> (iI 1 &&& 31) = iI (z / 2) := by
  obtain ⟨n, rfl⟩ := Int.eq_ofNat_of_zero_le h.1
  have hn : n < 1000 := by omega
  have key : ∀ n : Nat, n < 1000 → iI (n : Int) >>> (iI 1 &&& 31) = iI ((n : Int) / 2) := by decide +kernel
  exact key n hn
theorem box_c {v : Int} (h : -128 ≤ v ∧ v < 128) : (.int (vb_c (v + 128).toNat) : Value) = .int (iI v) := by
  congr 1
  unfold vb_c
  rw [show (Int32.ofNat (v + 128).toNat) = iI (v + 128) from by unfold iI; rw [← Int32.ofInt_eq_ofNat, Int.toNat_of_nonneg (by omega)]]
  show iI (v + 128) - iI 128 = iI v
  rw [iI_sub]; congr 1; omega
section RCV
variable {p : Program} {l : Launch} {s : State} {m : MethodId} {args : Array Value} {meth : Method} {c : Code} {own : String} {cc : ByteArray} {nL : Nat} {ret : Option FieldType} {D : va_G} {A : Nat → Prop} {ws : va_W}
theorem rcvB (C : CX p l s m args meth c own cc nL ret D A) {k : Nat} (hk : k < 256) : ∀ (H : Heap) (locs : List Loc), va_P D clX ws H → va_S A s.heap H locs → ∃ cellB : Cell, H[D.2 1000 k]? = some cellB ∧ cellB.vm.isStatics = false ∧ s.vm.findClass "java/lang/Integer" = some cellB.cls := by
  intro H locs _ hS
  obtain ⟨cell, h1, h2, h3, -⟩ := (C.hG.2.2.1.1 k hk).kept hS.2.1
  exact ⟨cell, h1, h2, h3⟩
end RCV
theorem any_of {args : Array Value} {s : State} {H : Heap} {x : Nat} {E : String} {cell : Cell} (h1 : H[x]? = some cell) (h2 : cell.vm.isStatics = false) (h3 : s.vm.findClass E = some cell.cls) (hc : (Cond.castable E "java/lang/Object").before args s = true) : va_Any "java/lang/Object" s H x := by
  obtain ⟨c3, c4, hc3, hc4, hasg⟩ := Cond.castable_spec hc
  obtain ⟨kC, hkC, -⟩ := Vm.findClass_spec h3
  refine ⟨cell, h1, h2, ⟨kC, hkC⟩, fun comp h => ?_⟩
  cases h3.symm.trans hc3
  cases h.symm.trans hc4
  exact hasg
/-- a box is such an element -/
theorem AnyX.box {D : va_G} {k : Nat} (hk : k < 256) {wx : va_W} : AnyX D (D.2 1000 k) wx := by
  intro p l s m args meth c own cc nL ret A H locs C hP hS
  obtain ⟨cell, h1, h2, h3⟩ := rcvB (ws := wx) C hk H locs hP hS
  exact any_of (args := args) h1 h2 h3 (va_Nw.use rfl (C.hG.1.1 ("java/lang/Integer", "java/lang/Object") (by decide)))
theorem AnyX.obj {D : va_G} {x q0 ci : Nat} {fs : List Value} {r : vw_C} {wx : va_W} (he : wx[q0]? = some (x, .inr (ci, fs))) (hc : clX[ci]? = some r) (hr : (r.1, "java/lang/Object") ∈ castX) : AnyX D x wx := by
  intro p l s m args meth c own cc nL ret A H locs C hP hS
  obtain ⟨cell, h1, h2, h3⟩ := va_recv C.hK hP hc he
  exact any_of (args := args) h1 h2 h3 (va_Nw.use rfl (C.hG.1.1 _ hr))
section JC2
set_option maxHeartbeats 4000000 in
set_option maxRecDepth 100000 in
theorem c_lsize (l : Launch) (D : va_G) (hst : l.stackTraces = false) (a b : Nat) (k : Int) (N : Nat) (sz : Int) (pa : Nat → Nat)  : CT l D yJ2_size (ws_ yJ2_size cJ2_size 1 (some .int)) (rmD 0 0 0) (0) (0) mdR [.ref a] (LW D a b k N sz pa) exT (pI fun z _ => z = sz) (xN) := by
  refine ct_R (lv := [(0, .ref a)]) RJ2 (by decide) rfl rfl hst (Nat.le_of_ble_eq_true rfl) rfl ?_
  intro p e s mm args below meth c A C htab hex
  refine g_ws (ws' := [(a, .inr (5, [.int (iI k), .ref b, .int (iI sz)])), (b, .inl (D.1 104, N, .inr (.inr (.inr (.inr (eR sz pa))))))]) rfl ?_
  refine g_aload_n C dJ2_size_0 rfl 0 rfl ?_
  refine g_get C in_J2 0 2 rfl rfl (Nat.le_of_ble_eq_true rfl) (v := .int (iI sz)) rfl q414 rfl dJ2_size_1 ?_
  refine g_nilA ?_
  exact g_iret C dJ2_size_4 rfl (Nat.le_of_ble_eq_true rfl) (Nat.le_of_ble_eq_true rfl) ⟨_, rfl, rfl⟩

set_option maxHeartbeats 4000000 in
set_option maxRecDepth 100000 in
theorem c_lelem (l : Launch) (D : va_G) (hst : l.stackTraces = false) (a b : Nat) (k : Int) (N : Nat) (sz : Int) (pa : Nat → Nat) (i : Int) (hi : 0 ≤ i ∧ i < sz) (hn : 0 ≤ sz ∧ sz ≤ N ∧ N ≤ 3000) : CT l D yJ2_elementData (ws_ yJ2_elementData cJ2_elementData 2 (some (.object "java/lang/Object"))) (rmD 0 0 0) (0) (0) mdR [.ref a, .int (iI i)] (LW D a b k N sz pa) exT (fun v _ => v = some (.ref (pa i.toNat))) (xN) := by
  refine ct_R (lv := [(0, .ref a), (1, .int (iI i))]) RJ2 (by decide) rfl rfl hst (Nat.le_of_ble_eq_true rfl) rfl ?_
  intro p e s mm args below meth c A C htab hex
  refine g_ws (ws' := [(a, .inr (5, [.int (iI k), .ref b, .int (iI sz)])), (b, .inl (D.1 104, N, .inr (.inr (.inr (.inr (eR sz pa))))))]) rfl ?_
  refine g_aload_n C dJ2_elementData_0 rfl 0 rfl ?_
  refine g_get C in_J2 0 1 rfl rfl (Nat.le_of_ble_eq_true rfl) (v := .ref b) rfl q413 rfl dJ2_elementData_1 ?_
  refine g_iload_n C dJ2_elementData_4 rfl 1 rfl ?_
  refine g_aldq C 1 (v := .ref (pa i.toNat)) rfl (by omega) (by omega) (eR_at hi) dJ2_elementData_5 ?_
  refine g_nilA ?_
  exact g_aret C (Or.inl ⟨_, rfl⟩) (Or.inr ⟨_, rfl⟩) dJ2_elementData_6 (Nat.le_of_ble_eq_true rfl) (Nat.le_of_ble_eq_true rfl) rfl

theorem rcvL {p : Program} {l : Launch} {s : State} {m : MethodId} {args : Array Value} {meth : Method} {c : Code} {own : String} {cc : ByteArray} {nL : Nat} {ret : Option FieldType} {D : va_G} {A : Nat → Prop} {ws : va_W} {a b N : Nat} {k n : Int} {pa : Nat → Nat} (C : CX p l s m args meth c own cc nL ret D A) (h : Sb ws (LW D a b k N n pa)) : ∀ (H : Heap) (locs : List Loc), va_P D clX ws H → va_S A s.heap H locs → ∃ cellB : Cell, H[a]? = some cellB ∧ cellB.vm.isStatics = false ∧ s.vm.findClass "java/util/ArrayList" = some cellB.cls := fun H _ hP _ => va_recv C.hK (h.1 _ _ _ hP) (show clX[5]? = some _ from rfl) (show (LW D a b k N n pa)[0]? = some _ from rfl)
section MK
variable {p : Program} {l : Launch} {e : Env} {R : Room} {s : State} {mm : MethodId} {args : Array Value} {below : List Frame} {meth : Method} {c : Code} {cc : ByteArray} {nL : Nat} {ret : Option FieldType} {D : va_G} {A B : Nat → Prop} {cells slots : Nat} {Q : State → Prop} {pc : Nat} {lv : List (Nat × Value)} {st : List Value}
theorem kJ2_ockI {ws : va_W} (i n : Int) (C : CX p l s mm args meth c RJ2 cc nL ret D A) (hi : 0 ≤ i ∧ i < n ∧ n < 2147483648) (hR : 1 + 1 ≤ R.frames ∧ 8 + (2 + 11) + 64 * 1 ≤ R.locals) (hcat : (st.map fun v => v.category).sum ≤ 8) (hroom : cells ≤ R.cells ∧ slots ≤ R.slots) {rv : Int} (hr : i = rv) (d : decode cc pc = .ok (.invokestatic 118, 3)) (K : GO p l e R s mm args below meth c nL D A B cells slots Q (ws) (pc + 3) lv (.int (iI rv) :: st)) : GO p l e R s mm args below meth c nL D A B cells slots Q (ws) (pc) lv (.int (iI n) :: .int (iI i) :: st) := by
  refine g_callSR C (c_ockI l D C.hl i n hi) (As := [.int (iI i), .int (iI n)]) (n := 2) (lw_S q639 q640 q71 q641) (by decide +kernel) rfl rfl hR rfl rfl hcat ⟨hroom.1, hroom.2⟩ d Sb.nil exT_b hex_t (fun v w hp => ?_) kx_n
  obtain ⟨z, rfl, rfl⟩ := hp
  rw [hr]
  exact K
end MK

section MK
variable {p : Program} {l : Launch} {e : Env} {R : Room} {s : State} {mm : MethodId} {args : Array Value} {below : List Frame} {meth : Method} {c : Code} {cc : ByteArray} {nL : Nat} {ret : Option FieldType} {D : va_G} {A B : Nat → Prop} {cells slots : Nat} {Q : State → Prop} {pc : Nat} {lv : List (Nat × Value)} {st : List Value}
theorem kJ2_lelem {ws : va_W} (a b : Nat) (k : Int) (N : Nat) (sz : Int) (pa : Nat → Nat) (i : Int) (C : CX p l s mm args meth c RJ2 cc nL ret D A) (hi : 0 ≤ i ∧ i < sz) (hn : 0 ≤ sz ∧ sz ≤ N ∧ N ≤ 3000) (hR : 0 + 1 ≤ R.frames ∧ 8 + (2 + 11) + 64 * 0 ≤ R.locals) (hcat : (st.map fun v => v.category).sum ≤ 8) (hroom : cells ≤ R.cells ∧ slots ≤ R.slots) (hsb : Sb ws (LW D a b k N sz pa)) (d : decode cc pc = .ok (.invokevirtual 123, 3)) (K : GO p l e R s mm args below meth c nL D A B cells slots Q (ws) (pc + 3) lv (.ref (pa i.toNat) :: st)) : GO p l e R s mm args below meth c nL D A B cells slots Q (ws) (pc) lv (.int (iI i) :: .ref a :: st) := by
  refine g_callVR C (c_lelem l D C.hl a b k N sz pa i hi hn) (As := [.int (iI i)]) (n := 1) (lw_V q645 q646 q647 q51 q648) (by decide +kernel) rfl rfl hR (rcvL C hsb) rfl rfl hcat ⟨hroom.1, hroom.2⟩ d hsb exT_b hex_t (fun v w hp => ?_) kx_n
  subst hp
  exact K
end MK

set_option maxHeartbeats 4000000 in
set_option maxRecDepth 100000 in
theorem c_lget (l : Launch) (D : va_G) (hst : l.stackTraces = false) (a b : Nat) (k : Int) (N : Nat) (sz : Int) (pa : Nat → Nat) (i : Int) (hi : 0 ≤ i ∧ i < sz) (hn : 0 ≤ sz ∧ sz ≤ N ∧ N ≤ 3000) : CT l D yJ2_get (ws_ yJ2_get cJ2_get 2 (some (.object "java/lang/Object"))) (rmD 2 0 0) (0) (0) mdR [.ref a, .int (iI i)] (LW D a b k N sz pa) exT (fun v _ => v = some (.ref (pa i.toNat))) (xN) := by
  refine ct_R (lv := [(0, .ref a), (1, .int (iI i))]) RJ2 (by decide) rfl rfl hst (Nat.le_of_ble_eq_true rfl) rfl ?_
  intro p e s mm args below meth c A C htab hex
  refine g_ws (ws' := [(a, .inr (5, [.int (iI k), .ref b, .int (iI sz)])), (b, .inl (D.1 104, N, .inr (.inr (.inr (.inr (eR sz pa))))))]) rfl ?_
  refine g_iload_n C dJ2_get_0 rfl 1 rfl ?_
  refine g_aload_n C dJ2_get_1 rfl 0 rfl ?_
  refine g_get C in_J2 0 2 rfl rfl (Nat.le_of_ble_eq_true rfl) (v := .int (iI sz)) rfl q414 rfl dJ2_get_2 ?_
  refine kJ2_ockI i sz C (by omega) ⟨Nat.le_of_ble_eq_true rfl, Nat.le_of_ble_eq_true rfl⟩ (Nat.le_of_ble_eq_true rfl) ⟨Nat.le_of_ble_eq_true rfl, Nat.le_of_ble_eq_true rfl⟩ (rv := i) rfl dJ2_get_5 ?_
  refine g_pop C dJ2_get_8 rfl ?_
  refine g_aload_n C dJ2_get_9 rfl 0 rfl ?_
  refine g_iload_n C dJ2_get_10 rfl 1 rfl ?_
  refine kJ2_lelem a b k N sz pa i C (by omega) hn ⟨Nat.le_of_ble_eq_true rfl, Nat.le_of_ble_eq_true rfl⟩ (Nat.le_of_ble_eq_true rfl) ⟨Nat.le_of_ble_eq_true rfl, Nat.le_of_ble_eq_true rfl⟩ Sb.rf dJ2_get_11 ?_
  refine g_nilA ?_
  exact g_aret C (Or.inl ⟨_, rfl⟩) (Or.inr ⟨_, rfl⟩) dJ2_get_14 (Nat.le_of_ble_eq_true rfl) (Nat.le_of_ble_eq_true rfl) rfl

set_option maxHeartbeats 4000000 in
set_option maxRecDepth 100000 in
theorem c_lclear (l : Launch) (D : va_G) (hst : l.stackTraces = false) (a b : Nat) (k : Int) (N : Nat) (sz : Int) (pa : Nat → Nat) (hn : 0 ≤ sz ∧ sz ≤ N ∧ N ≤ 3000) : CT l D yJ2_clear (ws_ yJ2_clear cJ2_clear 4 none) (rmD 0 0 0) (0) (0) va_A [.ref a] (LW D a b k N sz pa) exT (pV fun w => w = LW D a b (k + 1) N 0 pa) (xN) := by
  refine ct_U (lv := [(0, .ref a)]) RJ2 (by decide) rfl rfl hst (Nat.le_of_ble_eq_true rfl) rfl ?_
  intro p e s mm args below meth c A C htab hex hnm
  refine g_ws (ws' := [(a, .inr (5, [.int (iI k), .ref b, .int (iI sz)])), (b, .inl (D.1 104, N, .inr (.inr (.inr (.inr (eR sz pa))))))]) rfl ?_
  refine g_aload_n C dJ2_clear_0 rfl 0 rfl ?_
  refine g_dup C dJ2_clear_1 rfl ?_
  refine g_getI C in_J2 0 0 rfl rfl (Nat.le_of_ble_eq_true rfl) (v := .int (iI k)) rfl q416 q417 dJ2_clear_2 ?_
  refine g_iconst C dJ2_clear_5 ?_
  refine g_iadd C dJ2_clear_6 ?_
  refine g_putI C in_J2 tyJ2 tyJ2_ok nmJ2 0 0 (ws' := [(a, .inr (5, [.int (iI (k + 1)), .ref b, .int (iI sz)])), (b, .inl (D.1 104, N, .inr (.inr (.inr (.inr (eR sz pa))))))]) rfl rfl (Nat.le_of_ble_eq_true rfl) q416 q417 rfl rfl rfl (Nat.le_of_ble_eq_true rfl) rfl dJ2_clear_7 ?_
  refine g_aload_n C dJ2_clear_10 rfl 0 rfl ?_
  refine g_get C in_J2 0 1 rfl rfl (Nat.le_of_ble_eq_true rfl) (v := .ref b) rfl q413 rfl dJ2_clear_11 ?_
  refine g_astore_n C dJ2_clear_14 rfl (lv' := [(0, .ref a), (1, .ref b)]) [1, 0] rfl (Nat.le_of_ble_eq_true rfl) ?_
  refine g_aload_n C dJ2_clear_15 rfl 0 rfl ?_
  refine g_get C in_J2 0 2 rfl rfl (Nat.le_of_ble_eq_true rfl) (v := .int (iI sz)) rfl q414 rfl dJ2_clear_16 ?_
  refine g_istore_n C dJ2_clear_19 rfl (lv' := [(0, .ref a), (1, .ref b), (2, .int (iI sz))]) [1, 2, 0] rfl (Nat.le_of_ble_eq_true rfl) ?_
  refine g_aload_n C dJ2_clear_20 rfl 0 rfl ?_
  refine g_iconst C dJ2_clear_21 ?_
  refine g_dup_x1 C dJ2_clear_22 rfl rfl ?_
  refine g_put C in_J2 tyJ2 tyJ2_ok nmJ2 0 2 (ws' := [(a, .inr (5, [.int (iI (k + 1)), .ref b, .int (iI 0)])), (b, .inl (D.1 104, N, .inr (.inr (.inr (.inr (eR sz pa))))))]) rfl rfl (Nat.le_of_ble_eq_true rfl) q414 rfl rfl rfl rfl (Nat.le_of_ble_eq_true rfl) dJ2_clear_23 rfl ?_
  refine g_istore_n C dJ2_clear_26 rfl (lv' := [(0, .ref a), (1, .ref b), (2, .int (iI sz)), (3, .int (iI 0))]) [1, 2, 3, 0] rfl (Nat.le_of_ble_eq_true rfl) ?_
  have L1 : ∀ (n : Nat) (i : Int) (e9 : Nat → Option Nat), (0 ≤ i ∧ i ≤ sz) → (∀ j : Nat, e9 j = if (j : Int) < i then none else eR sz pa j) → (sz - i).toNat < n → GO p l e (rmD 0 0 0) s mm args below meth c 4 D A A 0 0 (MX below D A (pV fun w => w = LW D a b (k + 1) N 0 pa) (xN) args s (0) (0)) ([(a, .inr (5, [.int (iI (k + 1)), .ref b, .int (iI 0)])), (b, .inl (D.1 104, N, .inr (.inr (.inr (.inr (e9))))))]) 27 [(0, .ref a), (1, .ref b), (2, .int (iI sz)), (3, .int (iI i))] [] := by
    intro n
    induction n with
    | zero => intro i e9 hi he hm; exact absurd hm (Nat.not_lt_zero _)
    | succ n ih1 =>
      intro i e9 hi he hm1
      refine g_iload_n C dJ2_clear_27 rfl 3 rfl ?_
      refine g_iload_n C dJ2_clear_28 rfl 2 rfl ?_
      refine g_icmp_ge C (tgt := 42) dJ2_clear_29 (by decide) (by omega) (by omega) (fun hc29_2 => ?_) (fun hc29_2 => ?_)
      ·
        refine g_conq 1 (x := eR 0 pa) (ws' := [(a, .inr (5, [.int (iI (k + 1)), .ref b, .int (iI 0)])), (b, .inl (D.1 104, N, .inr (.inr (.inr (.inr (eR 0 pa))))))]) rfl (fun j hj => by rw [he j]; unfold eR; split; (rw [if_neg (by omega)]); (rw [if_neg (by omega), if_neg (by omega)])) rfl ?_
        exact g_vret C dJ2_clear_42 (Nat.le_of_ble_eq_true rfl) (Nat.le_of_ble_eq_true rfl) ⟨rfl, rfl⟩
      ·
        refine g_aload_n C dJ2_clear_32 rfl 1 rfl ?_
        refine g_iload_n C dJ2_clear_33 rfl 3 rfl ?_
        refine g_null C dJ2_clear_34 ?_
        refine g_astqN C 1 (ws' := [(a, .inr (5, [.int (iI (k + 1)), .ref b, .int (iI 0)])), (b, .inl (D.1 104, N, .inr (.inr (.inr (.inr (va_up e9 i.toNat none))))))]) rfl (by omega) (by omega) rfl dJ2_clear_35 ?_
        refine g_iinc C dJ2_clear_36 3 rfl (lv' := [(0, .ref a), (1, .ref b), (2, .int (iI sz)), (3, .int (iI (i + 1)))]) [1, 2, 3, 0] rfl (Nat.le_of_ble_eq_true rfl) ?_
        refine g_goto C (tgt := 27) dJ2_clear_39 (by decide) ?_
        exact ih1 (i + 1) (va_up e9 i.toNat none) (by omega) (fun j => by unfold va_up; by_cases e8 : j = i.toNat; (rw [if_pos e8, if_pos (by omega)]); (rw [if_neg e8, he j]; by_cases e7 : (j : Int) < i; (rw [if_pos e7, if_pos (by omega)]); (rw [if_neg e7, if_neg (by omega)]))) (by omega)
  exact L1 _ 0 (eR sz pa) (by omega) (fun j => by rw [if_neg (by omega)]) (Nat.lt_succ_self _)

set_option maxHeartbeats 4000000 in
set_option maxRecDepth 100000 in
theorem c_newLen (l : Launch) (D : va_G) (hst : l.stackTraces = false) (o m q : Int) (ho : 0 ≤ o ∧ o ≤ 5000 ∧ 1 ≤ m ∧ m ≤ 5000 ∧ 0 ≤ q ∧ q ≤ 5000) : CT l D yJ11_newLength (ws_ yJ11_newLength cJ11_newLength 4 (some .int)) (rmD 1 0 0) (0) (0) mdR [.int (iI o), .int (iI m), .int (iI q)] ([]) exT (pI fun z _ => z = o + (if m < q then q else m)) (xN) := by
  refine ct_R (lv := [(0, .int (iI o)), (1, .int (iI m)), (2, .int (iI q))]) RJ11 (by decide) rfl rfl hst (Nat.le_of_ble_eq_true rfl) rfl ?_
  intro p e s mm args below meth c A C htab hex
  refine g_iload_n C dJ11_newLength_0 rfl 0 rfl ?_
  refine g_iload_n C dJ11_newLength_1 rfl 1 rfl ?_
  refine g_iload_n C dJ11_newLength_2 rfl 2 rfl ?_
  refine g_mmax C (x := m) (y := q) (z := (if m < q then q else m)) q197 ⟨q198, q61, q199⟩ (by omega) (by omega) rfl (Nat.le_of_ble_eq_true rfl) (Nat.le_of_ble_eq_true rfl) ⟨Nat.le_of_ble_eq_true rfl, Nat.le_of_ble_eq_true rfl⟩ dJ11_newLength_3 ?_
  refine g_iadd C dJ11_newLength_6 ?_
  refine g_istore_n C dJ11_newLength_7 rfl (lv' := [(0, .int (iI o)), (1, .int (iI m)), (2, .int (iI q)), (3, .int (iI (o + (if m < q then q else m))))]) [1, 2, 3, 0] rfl (Nat.le_of_ble_eq_true rfl) ?_
  refine g_iconst C dJ11_newLength_8 ?_
  refine g_iload_n C dJ11_newLength_9 rfl 3 rfl ?_
  refine g_icmp_ge C (tgt := 21) dJ11_newLength_10 (by decide) (by omega) (by omega) (fun hc10_1 => ?_) (fun hc10_1 => ?_)
  · exact absurd hc10_1 (by omega)
  ·
    refine g_iload_n C dJ11_newLength_13 rfl 3 rfl ?_
    refine g_ldc C q200 dJ11_newLength_14 (z := 2147483639) rfl ?_
    refine g_icmp_gt C (tgt := 21) dJ11_newLength_16 (by decide) (by omega) (by omega) (fun hc16_2 => ?_) (fun hc16_2 => ?_)
    · exact absurd hc16_2 (by omega)
    ·
      refine g_iload_n C dJ11_newLength_19 rfl 3 rfl ?_
      refine g_nilA ?_
      exact g_iret C dJ11_newLength_20 rfl (Nat.le_of_ble_eq_true rfl) (Nat.le_of_ble_eq_true rfl) ⟨_, rfl, rfl⟩

section MK
variable {p : Program} {l : Launch} {e : Env} {R : Room} {s : State} {mm : MethodId} {args : Array Value} {below : List Frame} {meth : Method} {c : Code} {cc : ByteArray} {nL : Nat} {ret : Option FieldType} {D : va_G} {A B : Nat → Prop} {cells slots : Nat} {Q : State → Prop} {pc : Nat} {lv : List (Nat × Value)} {st : List Value}
theorem kJ2_newLen {ws : va_W} (o m q : Int) (C : CX p l s mm args meth c RJ2 cc nL ret D A) (ho : 0 ≤ o ∧ o ≤ 5000 ∧ 1 ≤ m ∧ m ≤ 5000 ∧ 0 ≤ q ∧ q ≤ 5000) (hR : 1 + 1 ≤ R.frames ∧ 8 + (4 + 11) + 64 * 1 ≤ R.locals) (hcat : (st.map fun v => v.category).sum ≤ 8) (hroom : cells ≤ R.cells ∧ slots ≤ R.slots) {rv : Int} (hr : o + (if m < q then q else m) = rv) (d : decode cc pc = .ok (.invokestatic 73, 3)) (K : GO p l e R s mm args below meth c nL D A B cells slots Q (ws) (pc + 3) lv (.int (iI rv) :: st)) : GO p l e R s mm args below meth c nL D A B cells slots Q (ws) (pc) lv (.int (iI q) :: .int (iI m) :: .int (iI o) :: st) := by
  refine g_callSR C (c_newLen l D C.hl o m q ho) (As := [.int (iI o), .int (iI m), .int (iI q)]) (n := 3) (lw_S q481 q195 q60 q196) (by decide +kernel) rfl rfl hR rfl rfl hcat ⟨hroom.1, hroom.2⟩ d Sb.nil exT_b hex_t (fun v w hp => ?_) kx_n
  obtain ⟨z, rfl, rfl⟩ := hp
  rw [hr]
  exact K
end MK

set_option maxHeartbeats 4000000 in
set_option maxRecDepth 100000 in
theorem c_ivalueOf (l : Launch) (D : va_G) (hst : l.stackTraces = false) (v : Int) (hv : -128 ≤ v ∧ v < 128) : CT l D yJ17_valueOf (ws_ yJ17_valueOf cJ17_valueOf 1 (some (.object "java/lang/Integer"))) (rmD 0 0 0) (0) (0) mdR [.int (iI v)] ([]) exT (fun r _ => r = some (.ref (D.2 1000 (v + 128).toNat))) (xN) := by
  refine ct_R (lv := [(0, .int (iI v))]) RJ17 (by decide) rfl rfl hst (Nat.le_of_ble_eq_true rfl) rfl ?_
  intro p e s mm args below meth c A C htab hex
  refine g_iload_n C dJ17_valueOf_0 rfl 0 rfl ?_
  refine g_bipush C dJ17_valueOf_1 (z := -128) rfl ?_
  refine g_icmp_lt C (tgt := 23) dJ17_valueOf_3 (by decide) (by omega) (by omega) (fun hc3_1 => ?_) (fun hc3_1 => ?_)
  · exact absurd hc3_1 (by omega)
  ·
    refine g_iload_n C dJ17_valueOf_6 rfl 0 rfl ?_
    refine g_gets C C.hG.2.2.2.2.2.1 q850 rfl dJ17_valueOf_7 ?_
    show GO p l e (rmD 0 0 0) s mm args below meth c 1 D A (fun _ => True) 0 0 (MX below D A (fun r _ => r = some (.ref (D.2 1000 (v + 128).toNat))) (xN) args s (0) (0)) ([]) 10 [(0, .int (iI v))] [.int (iI 127), .int (iI v)]
    refine g_icmp_gt C (tgt := 23) dJ17_valueOf_10 (by decide) (by omega) (by omega) (fun hc10_2 => ?_) (fun hc10_2 => ?_)
    · exact absurd hc10_2 (by omega)
    ·
      refine g_gets C C.hG.2.2.2.2.1 q852 rfl dJ17_valueOf_13 ?_
      refine g_iload_n C dJ17_valueOf_16 rfl 0 rfl ?_
      refine g_sipush C dJ17_valueOf_17 (z := 128) rfl ?_
      refine g_iadd C dJ17_valueOf_20 ?_
      refine g_tq C C.hG.2.2.2.1 (v := .ref (D.2 1000 (v + 128).toNat)) (show _ ∧ _ < ((256 : Nat) : Int) by omega) (by decide) rfl dJ17_valueOf_21 ?_
      refine g_nilA ?_
      exact g_aret C (Or.inl ⟨_, rfl⟩) (Or.inr ⟨_, rfl⟩) dJ17_valueOf_22 (Nat.le_of_ble_eq_true rfl) (Nat.le_of_ble_eq_true rfl) rfl

set_option maxHeartbeats 4000000 in
set_option maxRecDepth 100000 in
theorem c_iintV (l : Launch) (D : va_G) (hst : l.stackTraces = false) (v : Int) (hv : -128 ≤ v ∧ v < 128) : CT l D yJ17_intValue (ws_ yJ17_intValue cJ17_intValue 1 (some .int)) (rmD 0 0 0) (0) (0) mdR [.ref (D.2 1000 (v + 128).toNat)] ([]) exT (pI fun z _ => z = v) (xN) := by
  refine ct_R (lv := [(0, .ref (D.2 1000 (v + 128).toNat))]) RJ17 (by decide) rfl rfl hst (Nat.le_of_ble_eq_true rfl) rfl ?_
  intro p e s mm args below meth c A C htab hex
  refine g_aload_n C dJ17_intValue_0 rfl 0 rfl ?_
  refine g_getB (x := .int (iI v)) C C.hG.2.2.1.2 (by omega) (box_c (by omega)) q863 rfl dJ17_intValue_1 ?_
  refine g_nilA ?_
  exact g_iret C dJ17_intValue_4 rfl (Nat.le_of_ble_eq_true rfl) (Nat.le_of_ble_eq_true rfl) ⟨_, rfl, rfl⟩

end JC2
