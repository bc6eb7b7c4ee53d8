/-! ===== contracts of the class: tests that throw, the book's settings ===== -/
def ss_thick (f : Nat → Int) (g : Nat → Int → Int) (a v : Int) (z : Int) (f' : Nat → Int) (g' : Nat → Int → Int) : Prop :=
  (((0 ≤ a ∧ a < f 0) ∧ (0 < f 7 ∨ v < 1 ∨ 50 < v)) ∧ z = 0 ∧ f' = f ∧ g' = g) ∨
  (((0 ≤ a ∧ a < f 0) ∧ f 7 = 0 ∧ 1 ≤ v ∧ v ≤ 50) ∧ z = 1 ∧ f' = f ∧ g' = (ug g 3 (uI (g 3) a v)))
def ss_thread (f : Nat → Int) (g : Nat → Int → Int) (v : Int) (z : Int) (f' : Nat → Int) (g' : Nat → Int → Int) : Prop :=
  ((0 < f 7 ∨ v < 0 ∨ 9 < v) ∧ z = 0 ∧ f' = f ∧ g' = g) ∨
  ((f 7 = 0 ∧ 0 ≤ v ∧ v ≤ 9) ∧ z = 1 ∧ f' = (up f 2 v) ∧ g' = g)
section SC2
theorem rcvL' {p : Program} {l : Launch} {s : State} {m : MethodId} {args : Array Value} {meth : Method} {c : Code} {own : String} {cc : ByteArray} {nL : Nat} {ret : Option FieldType} {D : va_G} {A : Nat → Prop} {ws : va_W} {a b N : Nat} {k n : Int} {pa : Nat → Nat} (C : CX p l s m args meth c own cc nL ret D A) (h : Sb ws (LW D a b k N n pa)) : ∀ (H : Heap) (locs : List Loc), va_P D clX ws H → va_S A s.heap H locs → ∃ cellB : Cell, H[a]? = some cellB ∧ cellB.vm.isStatics = false ∧ s.vm.findClass "java/util/ArrayList" = some cellB.cls := rcvL C h
section MK
variable {p : Program} {l : Launch} {e : Env} {R : Room} {s : State} {mm : MethodId} {args : Array Value} {below : List Frame} {meth : Method} {c : Code} {cc : ByteArray} {nL : Nat} {ret : Option FieldType} {D : va_G} {A B : Nat → Prop} {cells slots : Nat} {Q : State → Prop} {pc : Nat} {lv : List (Nat × Value)} {st : List Value}
theorem kX1_lsize {ws : va_W} (a b : Nat) (k : Int) (N : Nat) (sz : Int) (pa : Nat → Nat) (C : CX p l s mm args meth c RX1 cc nL ret D A)  (hR : 0 + 1 ≤ R.frames ∧ 8 + (1 + 11) + 64 * 0 ≤ R.locals) (hcat : (st.map fun v => v.category).sum ≤ 8) (hroom : cells ≤ R.cells ∧ slots ≤ R.slots) {rv : Int} (hr : sz = rv) (hsb : Sb ws (LW D a b k N sz pa)) (d : decode cc pc = .ok (.invokevirtual 110, 3)) (K : GO p l e R s mm args below meth c nL D A B cells slots Q (ws) (pc + 3) lv (.int (iI rv) :: st)) : GO p l e R s mm args below meth c nL D A B cells slots Q (ws) (pc) lv (.ref a :: st) := by
  refine g_callVR C (c_lsize l D C.hl a b k N sz pa ) (As := []) (n := 0) (lw_V q575 q576 q577 q51 q578) (by decide +kernel) rfl rfl hR (rcvL' C hsb) rfl rfl hcat ⟨hroom.1, hroom.2⟩ d hsb exT_b hex_t (fun v w hp => ?_) kx_n
  obtain ⟨z, rfl, rfl⟩ := hp
  rw [hr]
  exact K
end MK

section MK
variable {p : Program} {l : Launch} {e : Env} {R : Room} {s : State} {mm : MethodId} {args : Array Value} {below : List Frame} {meth : Method} {c : Code} {cc : ByteArray} {nL : Nat} {ret : Option FieldType} {D : va_G} {A B : Nat → Prop} {cells slots : Nat} {Q : State → Prop} {pc : Nat} {lv : List (Nat × Value)} {st : List Value}
theorem kX1_lget {ws : va_W} (a b : Nat) (k : Int) (N : Nat) (sz : Int) (pa : Nat → Nat) (i : Int) (C : CX p l s mm args meth c RX1 cc nL ret D A) (hi : 0 ≤ i ∧ i < sz) (hn : 0 ≤ sz ∧ sz ≤ N ∧ N ≤ 3000) (hR : 2 + 1 ≤ R.frames ∧ 8 + (2 + 11) + 64 * 2 ≤ R.locals) (hcat : (st.map fun v => v.category).sum ≤ 8) (hroom : cells ≤ R.cells ∧ slots ≤ R.slots) (hsb : Sb ws (LW D a b k N sz pa)) (d : decode cc pc = .ok (.invokevirtual 114, 3)) (K : GO p l e R s mm args below meth c nL D A B cells slots Q (ws) (pc + 3) lv (.ref (pa i.toNat) :: st)) : GO p l e R s mm args below meth c nL D A B cells slots Q (ws) (pc) lv (.int (iI i) :: .ref a :: st) := by
  refine g_callVR C (c_lget l D C.hl a b k N sz pa i hi hn) (As := [.int (iI i)]) (n := 1) (lw_V q635 q636 q637 q51 q638) (by decide +kernel) rfl rfl hR (rcvL' C hsb) rfl rfl hcat ⟨hroom.1, hroom.2⟩ d hsb exT_b hex_t (fun v w hp => ?_) kx_n
  subst hp
  exact K
end MK

set_option maxHeartbeats 4000000 in
set_option maxRecDepth 100000 in
theorem c_X1_isFold (l : Launch) (D : va_G) (hst : l.stackTraces = false) (h : Nat → Nat) (f : Nat → Int) (g : Nat → Int → Int) (N : Nat → Nat) (M : Nat → Nat → Nat) (T : va_W) (a : Int) (hF : 1 ≤ f 0 ∧ f 0 ≤ 5) (har : -2147483648 ≤ a ∧ a < 2147483648) : CT l D yX1_isFold (ws_ yX1_isFold cX1_isFold 2 none) (rmD 7 1 6) (1) (6) mdR [.ref (h 0), .int (iI a)] (sW D h f g N M T) exT (fun v _ => v = none ∧ (0 ≤ a ∧ a < f 0)) (fun E _ w => E = EN ∧ ¬ (0 ≤ a ∧ a < f 0) ∧ w = []) := by
  refine ct_R (lv := [(0, .ref (h 0)), (1, .int (iI a))]) RX1 (by decide) rfl rfl hst (Nat.le_of_ble_eq_true rfl) rfl ?_
  intro p e s mm args below meth c A C htab hex
  refine g_iload_n C dX1_isFold_0 rfl 1 rfl ?_
  refine g_if_lt C (tgt := 16) dX1_isFold_1 (by decide) (by omega) (fun hc1_1 => ?_) (fun hc1_1 => ?_)
  ·
    refine g_iconst C dX1_isFold_16 ?_
    refine kX1_there 0 C (by omega) ⟨Nat.le_of_ble_eq_true rfl, Nat.le_of_ble_eq_true rfl⟩ (Nat.le_of_ble_eq_true rfl) ⟨Nat.le_of_ble_eq_true rfl, Nat.le_of_ble_eq_true rfl⟩ dX1_isFold_17 (fun hN2 => ?_) (fun hT3 q4 => ?_)
    ·
      exact absurd hN2 (by decide)
    ·
      exact x_nilA (x_out C htab (Nat.le_of_ble_eq_true rfl) (Nat.le_of_ble_eq_true rfl) ⟨rfl, by omega, rfl⟩)
  ·
    refine g_iload_n C dX1_isFold_4 rfl 1 rfl ?_
    refine g_aload_n C dX1_isFold_5 rfl 0 rfl ?_
    refine gs_get0 C (v := f 0) rfl dX1_isFold_6 ?_
    refine g_icmp_ge C (tgt := 16) dX1_isFold_9 (by decide) (by omega) (by omega) (fun hc9_5 => ?_) (fun hc9_5 => ?_)
    ·
      refine g_iconst C dX1_isFold_16 ?_
      refine kX1_there 0 C (by omega) ⟨Nat.le_of_ble_eq_true rfl, Nat.le_of_ble_eq_true rfl⟩ (Nat.le_of_ble_eq_true rfl) ⟨Nat.le_of_ble_eq_true rfl, Nat.le_of_ble_eq_true rfl⟩ dX1_isFold_17 (fun hN6 => ?_) (fun hT7 q8 => ?_)
      ·
        exact absurd hN6 (by decide)
      ·
        exact x_nilA (x_out C htab (Nat.le_of_ble_eq_true rfl) (Nat.le_of_ble_eq_true rfl) ⟨rfl, by omega, rfl⟩)
    ·
      refine g_iconst C dX1_isFold_12 ?_
      refine g_goto C (tgt := 17) dX1_isFold_13 (by decide) ?_
      refine kX1_there 1 C (by omega) ⟨Nat.le_of_ble_eq_true rfl, Nat.le_of_ble_eq_true rfl⟩ (Nat.le_of_ble_eq_true rfl) ⟨Nat.le_of_ble_eq_true rfl, Nat.le_of_ble_eq_true rfl⟩ dX1_isFold_17 (fun hN9 => ?_) (fun hT10 q11 => ?_)
      ·
        refine g_nilA ?_
        exact g_vret C dX1_isFold_20 (Nat.le_of_ble_eq_true rfl) (Nat.le_of_ble_eq_true rfl) ⟨rfl, by omega⟩
      ·
        exact absurd hT10 (by decide)

section MK
variable {p : Program} {l : Launch} {e : Env} {R : Room} {s : State} {mm : MethodId} {args : Array Value} {below : List Frame} {meth : Method} {c : Code} {cc : ByteArray} {nL : Nat} {ret : Option FieldType} {D : va_G} {A B : Nat → Prop} {cells slots : Nat} {Q : State → Prop} {pc : Nat} {lv : List (Nat × Value)} {st : List Value}
theorem kX1_X1_isFold {ws : va_W} (h : Nat → Nat) (f : Nat → Int) (g : Nat → Int → Int) (N : Nat → Nat) (M : Nat → Nat → Nat) (T : va_W) (a : Int) (C : CX p l s mm args meth c RX1 cc nL ret D A) (hF : 1 ≤ f 0 ∧ f 0 ≤ 5) (har : -2147483648 ≤ a ∧ a < 2147483648) (hR : 7 + 1 ≤ R.frames ∧ 8 + (2 + 11) + 64 * 7 ≤ R.locals) (hcat : (st.map fun v => v.category).sum ≤ 8) (hroom : cells + 1 ≤ R.cells ∧ slots + 6 ≤ R.slots) (hsb : Sb ws (sW D h f g N M T)) (d : decode cc pc = .ok (.invokevirtual 120, 3)) (K : (0 ≤ a ∧ a < f 0) → GO p l e R s mm args below meth c nL D A B (cells + 1) (slots + 6) Q ws (pc + 3) lv (st)) (KX : (¬ (0 ≤ a ∧ a < f 0)) → ∀ q : Addr, GT p l e R s mm args below meth c nL D A B (cells + 1) (slots + 6) Q ws (pc) lv (st) EN q) : GO p l e R s mm args below meth c nL D A B cells slots Q (ws) (pc) lv (.int (iI a) :: .ref (h 0) :: st) := by
  refine g_callVR C (c_X1_isFold l D C.hl h f g N M T a hF har) (As := [.int (iI a)]) (n := 1) (lw_V q669 q671 qs14 q48 q672) (by decide +kernel) rfl rfl hR (rcvH C hsb) rfl rfl hcat hroom d hsb exT_b hex_t (fun v w hp => ?_) (fun E q w hp => ?_)
  · obtain ⟨rfl, h1⟩ := hp
    exact K h1
  · obtain ⟨rfl, h1, -⟩ := hp
    exact KX h1 q
end MK

set_option maxHeartbeats 4000000 in
set_option maxRecDepth 100000 in
theorem c_X1_isStation (l : Launch) (D : va_G) (hst : l.stackTraces = false) (h : Nat → Nat) (f : Nat → Int) (g : Nat → Int → Int) (N : Nat → Nat) (M : Nat → Nat → Nat) (T : va_W) (a : Int) (hS : 2 ≤ f 1 ∧ f 1 ≤ 6) (har : -2147483648 ≤ a ∧ a < 2147483648) : CT l D yX1_isStation (ws_ yX1_isStation cX1_isStation 2 none) (rmD 7 1 6) (1) (6) mdR [.ref (h 0), .int (iI a)] (sW D h f g N M T) exT (fun v _ => v = none ∧ (0 ≤ a ∧ a < f 1)) (fun E _ w => E = EN ∧ ¬ (0 ≤ a ∧ a < f 1) ∧ w = []) := by
  refine ct_R (lv := [(0, .ref (h 0)), (1, .int (iI a))]) RX1 (by decide) rfl rfl hst (Nat.le_of_ble_eq_true rfl) rfl ?_
  intro p e s mm args below meth c A C htab hex
  refine g_iload_n C dX1_isStation_0 rfl 1 rfl ?_
  refine g_if_lt C (tgt := 16) dX1_isStation_1 (by decide) (by omega) (fun hc1_1 => ?_) (fun hc1_1 => ?_)
  ·
    refine g_iconst C dX1_isStation_16 ?_
    refine kX1_there 0 C (by omega) ⟨Nat.le_of_ble_eq_true rfl, Nat.le_of_ble_eq_true rfl⟩ (Nat.le_of_ble_eq_true rfl) ⟨Nat.le_of_ble_eq_true rfl, Nat.le_of_ble_eq_true rfl⟩ dX1_isStation_17 (fun hN2 => ?_) (fun hT3 q4 => ?_)
    ·
      exact absurd hN2 (by decide)
    ·
      exact x_nilA (x_out C htab (Nat.le_of_ble_eq_true rfl) (Nat.le_of_ble_eq_true rfl) ⟨rfl, by omega, rfl⟩)
  ·
    refine g_iload_n C dX1_isStation_4 rfl 1 rfl ?_
    refine g_aload_n C dX1_isStation_5 rfl 0 rfl ?_
    refine gs_get1 C (v := f 1) rfl dX1_isStation_6 ?_
    refine g_icmp_ge C (tgt := 16) dX1_isStation_9 (by decide) (by omega) (by omega) (fun hc9_5 => ?_) (fun hc9_5 => ?_)
    ·
      refine g_iconst C dX1_isStation_16 ?_
      refine kX1_there 0 C (by omega) ⟨Nat.le_of_ble_eq_true rfl, Nat.le_of_ble_eq_true rfl⟩ (Nat.le_of_ble_eq_true rfl) ⟨Nat.le_of_ble_eq_true rfl, Nat.le_of_ble_eq_true rfl⟩ dX1_isStation_17 (fun hN6 => ?_) (fun hT7 q8 => ?_)
      ·
        exact absurd hN6 (by decide)
      ·
        exact x_nilA (x_out C htab (Nat.le_of_ble_eq_true rfl) (Nat.le_of_ble_eq_true rfl) ⟨rfl, by omega, rfl⟩)
    ·
      refine g_iconst C dX1_isStation_12 ?_
      refine g_goto C (tgt := 17) dX1_isStation_13 (by decide) ?_
      refine kX1_there 1 C (by omega) ⟨Nat.le_of_ble_eq_true rfl, Nat.le_of_ble_eq_true rfl⟩ (Nat.le_of_ble_eq_true rfl) ⟨Nat.le_of_ble_eq_true rfl, Nat.le_of_ble_eq_true rfl⟩ dX1_isStation_17 (fun hN9 => ?_) (fun hT10 q11 => ?_)
      ·
        refine g_nilA ?_
        exact g_vret C dX1_isStation_20 (Nat.le_of_ble_eq_true rfl) (Nat.le_of_ble_eq_true rfl) ⟨rfl, by omega⟩
      ·
        exact absurd hT10 (by decide)

section MK
variable {p : Program} {l : Launch} {e : Env} {R : Room} {s : State} {mm : MethodId} {args : Array Value} {below : List Frame} {meth : Method} {c : Code} {cc : ByteArray} {nL : Nat} {ret : Option FieldType} {D : va_G} {A B : Nat → Prop} {cells slots : Nat} {Q : State → Prop} {pc : Nat} {lv : List (Nat × Value)} {st : List Value}
theorem kX1_X1_isStation {ws : va_W} (h : Nat → Nat) (f : Nat → Int) (g : Nat → Int → Int) (N : Nat → Nat) (M : Nat → Nat → Nat) (T : va_W) (a : Int) (C : CX p l s mm args meth c RX1 cc nL ret D A) (hS : 2 ≤ f 1 ∧ f 1 ≤ 6) (har : -2147483648 ≤ a ∧ a < 2147483648) (hR : 7 + 1 ≤ R.frames ∧ 8 + (2 + 11) + 64 * 7 ≤ R.locals) (hcat : (st.map fun v => v.category).sum ≤ 8) (hroom : cells + 1 ≤ R.cells ∧ slots + 6 ≤ R.slots) (hsb : Sb ws (sW D h f g N M T)) (d : decode cc pc = .ok (.invokevirtual 123, 3)) (K : (0 ≤ a ∧ a < f 1) → GO p l e R s mm args below meth c nL D A B (cells + 1) (slots + 6) Q ws (pc + 3) lv (st)) (KX : (¬ (0 ≤ a ∧ a < f 1)) → ∀ q : Addr, GT p l e R s mm args below meth c nL D A B (cells + 1) (slots + 6) Q ws (pc) lv (st) EN q) : GO p l e R s mm args below meth c nL D A B cells slots Q (ws) (pc) lv (.int (iI a) :: .ref (h 0) :: st) := by
  refine g_callVR C (c_X1_isStation l D C.hl h f g N M T a hS har) (As := [.int (iI a)]) (n := 1) (lw_V q704 q706 qs15 q48 q707) (by decide +kernel) rfl rfl hR (rcvH C hsb) rfl rfl hcat hroom d hsb exT_b hex_t (fun v w hp => ?_) (fun E q w hp => ?_)
  · obtain ⟨rfl, h1⟩ := hp
    exact K h1
  · obtain ⟨rfl, h1, -⟩ := hp
    exact KX h1 q
end MK

set_option maxHeartbeats 4000000 in
set_option maxRecDepth 100000 in
theorem c_X1_thick (l : Launch) (D : va_G) (hst : l.stackTraces = false) (h : Nat → Nat) (f : Nat → Int) (g : Nat → Int → Int) (N : Nat → Nat) (M : Nat → Nat → Nat) (T : va_W) (a v : Int) (hF : 1 ≤ f 0 ∧ f 0 ≤ 5) (hpl : 0 ≤ f 7 ∧ f 7 ≤ 8) (har : -2147483648 ≤ a ∧ a < 2147483648) (hvr : -2147483648 ≤ v ∧ v < 2147483648) : CT l D yX1_thick (ws_ yX1_thick cX1_thick 3 (some .boolean)) (rmD 8 1 6) (1) (6) va_A [.ref (h 0), .int (iI a), .int (iI v)] (sW D h f g N M T) exT (pI fun z w => ∃ f' g', ss_thick f g a v z f' g' ∧ w = sW D h f' g' N M T) (fun E _ w => E = EN ∧ (¬ (0 ≤ a ∧ a < f 0)) ∧ w = sW D h f g N M T) := by
  refine ct_U (lv := [(0, .ref (h 0)), (1, .int (iI a)), (2, .int (iI v))]) RX1 (by decide) rfl rfl hst (Nat.le_of_ble_eq_true rfl) rfl ?_
  intro p e s mm args below meth c A C htab hex hnm
  refine g_aload_n C dX1_thick_0 rfl 0 rfl ?_
  refine g_iload_n C dX1_thick_1 rfl 1 rfl ?_
  refine kX1_X1_isFold h f g N M T a C hF (by omega) ⟨Nat.le_of_ble_eq_true rfl, Nat.le_of_ble_eq_true rfl⟩ (Nat.le_of_ble_eq_true rfl) ⟨Nat.le_of_ble_eq_true rfl, Nat.le_of_ble_eq_true rfl⟩ Sb.rf dX1_thick_2 (fun hN1 => ?_) (fun hT2 q3 => ?_)
  ·
    refine g_aload_n C dX1_thick_5 rfl 0 rfl ?_
    refine gs_get7 C dX1_thick_6 ?_
    refine kX1_lsize (h 7) (h 22) (f 22) (N 7) (f 7) (M 7) C ⟨Nat.le_of_ble_eq_true rfl, Nat.le_of_ble_eq_true rfl⟩ (Nat.le_of_ble_eq_true rfl) ⟨Nat.le_of_ble_eq_true rfl, Nat.le_of_ble_eq_true rfl⟩ (rv := f 7) rfl sb_l7 dX1_thick_9 ?_
    refine g_if_gt C (tgt := 26) dX1_thick_12 (by decide) (by omega) (fun hc12_4 => ?_) (fun hc12_4 => ?_)
    ·
      refine g_iconst C dX1_thick_26 ?_
      exact g_iret C dX1_thick_27 rfl (Nat.le_of_ble_eq_true rfl) (Nat.le_of_ble_eq_true rfl) ⟨_, rfl, _, _, (Or.inl ⟨by omega, rfl, rfl, rfl⟩), rfl⟩
    ·
      refine g_iload_n C dX1_thick_15 rfl 2 rfl ?_
      refine g_iconst C dX1_thick_16 ?_
      refine g_icmp_lt C (tgt := 26) dX1_thick_17 (by decide) (by omega) (by omega) (fun hc17_5 => ?_) (fun hc17_5 => ?_)
      ·
        refine g_iconst C dX1_thick_26 ?_
        exact g_iret C dX1_thick_27 rfl (Nat.le_of_ble_eq_true rfl) (Nat.le_of_ble_eq_true rfl) ⟨_, rfl, _, _, (Or.inl ⟨by omega, rfl, rfl, rfl⟩), rfl⟩
      ·
        refine g_iload_n C dX1_thick_20 rfl 2 rfl ?_
        refine g_bipush C dX1_thick_21 (z := 50) rfl ?_
        refine g_icmp_le C (tgt := 28) dX1_thick_23 (by decide) (by omega) (by omega) (fun hc23_6 => ?_) (fun hc23_6 => ?_)
        ·
          refine g_aload_n C dX1_thick_28 rfl 0 rfl ?_
          refine gs_get3 C dX1_thick_29 ?_
          refine g_iload_n C dX1_thick_32 rfl 1 rfl ?_
          refine g_iload_n C dX1_thick_33 rfl 2 rfl ?_
          refine gs_ast3 C (g' := (ug g 3 (uI (g 3) a v))) rfl dX1_thick_34 (by omega) ?_
          refine g_iconst C dX1_thick_35 ?_
          exact g_iret C dX1_thick_36 rfl (Nat.le_of_ble_eq_true rfl) (Nat.le_of_ble_eq_true rfl) ⟨_, rfl, _, _, (Or.inr (⟨by omega, rfl, rfl, rfl⟩)), rfl⟩
        ·
          refine g_iconst C dX1_thick_26 ?_
          exact g_iret C dX1_thick_27 rfl (Nat.le_of_ble_eq_true rfl) (Nat.le_of_ble_eq_true rfl) ⟨_, rfl, _, _, (Or.inl ⟨by omega, rfl, rfl, rfl⟩), rfl⟩
  ·
    exact x_out C htab (Nat.le_of_ble_eq_true rfl) (Nat.le_of_ble_eq_true rfl) ⟨rfl, by omega, rfl⟩

set_option maxHeartbeats 4000000 in
set_option maxRecDepth 100000 in
theorem c_X1_thread (l : Launch) (D : va_G) (hst : l.stackTraces = false) (h : Nat → Nat) (f : Nat → Int) (g : Nat → Int → Int) (N : Nat → Nat) (M : Nat → Nat → Nat) (T : va_W) (v : Int) (hpl : 0 ≤ f 7 ∧ f 7 ≤ 8) (hvr : -2147483648 ≤ v ∧ v < 2147483648) : CT l D yX1_thread (ws_ yX1_thread cX1_thread 2 (some .boolean)) (rmD 1 0 0) (0) (0) va_A [.ref (h 0), .int (iI v)] (sW D h f g N M T) exT (pI fun z w => ∃ f' g', ss_thread f g v z f' g' ∧ w = sW D h f' g' N M T) (xN) := by
  refine ct_U (lv := [(0, .ref (h 0)), (1, .int (iI v))]) RX1 (by decide) rfl rfl hst (Nat.le_of_ble_eq_true rfl) rfl ?_
  intro p e s mm args below meth c A C htab hex hnm
  refine g_aload_n C dX1_thread_0 rfl 0 rfl ?_
  refine gs_get7 C dX1_thread_1 ?_
  refine kX1_lsize (h 7) (h 22) (f 22) (N 7) (f 7) (M 7) C ⟨Nat.le_of_ble_eq_true rfl, Nat.le_of_ble_eq_true rfl⟩ (Nat.le_of_ble_eq_true rfl) ⟨Nat.le_of_ble_eq_true rfl, Nat.le_of_ble_eq_true rfl⟩ (rv := f 7) rfl sb_l7 dX1_thread_4 ?_
  refine g_if_gt C (tgt := 20) dX1_thread_7 (by decide) (by omega) (fun hc7_1 => ?_) (fun hc7_1 => ?_)
  ·
    refine g_iconst C dX1_thread_20 ?_
    exact g_iret C dX1_thread_21 rfl (Nat.le_of_ble_eq_true rfl) (Nat.le_of_ble_eq_true rfl) ⟨_, rfl, _, _, (Or.inl ⟨by omega, rfl, rfl, rfl⟩), rfl⟩
  ·
    refine g_iload_n C dX1_thread_10 rfl 1 rfl ?_
    refine g_if_lt C (tgt := 20) dX1_thread_11 (by decide) (by omega) (fun hc11_2 => ?_) (fun hc11_2 => ?_)
    ·
      refine g_iconst C dX1_thread_20 ?_
      exact g_iret C dX1_thread_21 rfl (Nat.le_of_ble_eq_true rfl) (Nat.le_of_ble_eq_true rfl) ⟨_, rfl, _, _, (Or.inl ⟨by omega, rfl, rfl, rfl⟩), rfl⟩
    ·
      refine g_iload_n C dX1_thread_14 rfl 1 rfl ?_
      refine g_bipush C dX1_thread_15 (z := 9) rfl ?_
      refine g_icmp_le C (tgt := 22) dX1_thread_17 (by decide) (by omega) (by omega) (fun hc17_3 => ?_) (fun hc17_3 => ?_)
      ·
        refine g_aload_n C dX1_thread_22 rfl 0 rfl ?_
        refine g_iload_n C dX1_thread_23 rfl 1 rfl ?_
        refine gs_put2 C (f' := (up f 2 v)) rfl dX1_thread_24 ?_
        refine g_iconst C dX1_thread_27 ?_
        exact g_iret C dX1_thread_28 rfl (Nat.le_of_ble_eq_true rfl) (Nat.le_of_ble_eq_true rfl) ⟨_, rfl, _, _, (Or.inr (⟨by omega, rfl, rfl, rfl⟩)), rfl⟩
      ·
        refine g_iconst C dX1_thread_20 ?_
        exact g_iret C dX1_thread_21 rfl (Nat.le_of_ble_eq_true rfl) (Nat.le_of_ble_eq_true rfl) ⟨_, rfl, _, _, (Or.inl ⟨by omega, rfl, rfl, rfl⟩), rfl⟩

set_option maxHeartbeats 4000000 in
set_option maxRecDepth 100000 in
theorem c_X1_fault (l : Launch) (D : va_G) (hst : l.stackTraces = false) (h : Nat → Nat) (f : Nat → Int) (g : Nat → Int → Int) (N : Nat → Nat) (M : Nat → Nat → Nat) (T : va_W)   : CT l D yX1_fault (ws_ yX1_fault cX1_fault 1 (some .int)) (rmD 0 0 0) (0) (0) mdR [.ref (h 0)] (sW D h f g N M T) exT (pI fun z _ => z = f 10) (xN) := by
  refine ct_R (lv := [(0, .ref (h 0))]) RX1 (by decide) rfl rfl hst (Nat.le_of_ble_eq_true rfl) rfl ?_
  intro p e s mm args below meth c A C htab hex
  refine g_aload_n C dX1_fault_0 rfl 0 rfl ?_
  refine gs_get10 C (v := f 10) rfl dX1_fault_1 ?_
  refine g_nilA ?_
  exact g_iret C dX1_fault_4 rfl (Nat.le_of_ble_eq_true rfl) (Nat.le_of_ble_eq_true rfl) ⟨_, rfl, rfl⟩

set_option maxHeartbeats 4000000 in
set_option maxRecDepth 100000 in
theorem c_X1_parts (l : Launch) (D : va_G) (hst : l.stackTraces = false) (h : Nat → Nat) (f : Nat → Int) (g : Nat → Int → Int) (N : Nat → Nat) (M : Nat → Nat → Nat) (T : va_W)   : CT l D yX1_parts (ws_ yX1_parts cX1_parts 1 (some .int)) (rmD 1 0 0) (0) (0) mdR [.ref (h 0)] (sW D h f g N M T) exT (pI fun z _ => z = f 6) (xN) := by
  refine ct_R (lv := [(0, .ref (h 0))]) RX1 (by decide) rfl rfl hst (Nat.le_of_ble_eq_true rfl) rfl ?_
  intro p e s mm args below meth c A C htab hex
  refine g_aload_n C dX1_parts_0 rfl 0 rfl ?_
  refine gs_get6 C dX1_parts_1 ?_
  refine kX1_lsize (h 6) (h 21) (f 21) (N 6) (f 6) (M 6) C ⟨Nat.le_of_ble_eq_true rfl, Nat.le_of_ble_eq_true rfl⟩ (Nat.le_of_ble_eq_true rfl) ⟨Nat.le_of_ble_eq_true rfl, Nat.le_of_ble_eq_true rfl⟩ (rv := f 6) rfl sb_l6 dX1_parts_4 ?_
  refine g_nilA ?_
  exact g_iret C dX1_parts_7 rfl (Nat.le_of_ble_eq_true rfl) (Nat.le_of_ble_eq_true rfl) ⟨_, rfl, rfl⟩

end SC2
