/-! ===== contracts of the class: best ===== -/
section MK
variable {p : Program} {l : Launch} {e : Env} {R : Room} {s : State} {mm : MethodId} {args : Array Value} {below : List Frame} {meth : Method} {c : Code} {cc : ByteArray} {nL : Nat} {ret : Option FieldType} {D : va_G} {A B : Nat → Prop} {cells slots : Nat} {Q : State → Prop} {pc : Nat} {lv : List (Nat × Value)} {st : List Value}
theorem gs_addKept {h : Nat → Nat} {f : Nat → Int} {g : Nat → Int → Int} {N : Nat → Nat} {M : Nat → Nat → Nat} {T : va_W} {v : Int} (C : CX p l s mm args meth c RX1 cc nL ret D A) (hn : 0 ≤ f 11 ∧ f 11 ≤ N 11 ∧ 1 ≤ N 11 ∧ N 11 < 1000) (hx : ∀ j : Nat, (j : Int) < f 11 → AnyX D (M 11 j) []) (hv : 0 ≤ v ∧ v < 64) (hR : 7 + 1 ≤ R.frames ∧ 8 + (2 + 11) + 64 * 7 ≤ R.locals) (hcat : (st.map fun v => v.category).sum ≤ 8) (hroom : cells + 1 ≤ R.cells ∧ slots + grS (N 11) (f 11) ≤ R.slots) (d : decode cc pc = .ok (.invokevirtual 102, 3))
  (K : ∀ b1 : Nat, GO p l e R s mm args below meth c nL D A A (cells + 1) (slots + grS (N 11) (f 11)) Q (sW D (uN h 23 b1) (up (up f 11 (f 11 + 1)) 23 (f 23 + 1)) g (uN N 11 (grC (N 11) (f 11))) (uM M 11 (paU (M 11) (f 11) (D.2 1000 (v + 128).toNat))) T) (pc + 3) lv (.int (iI 1) :: st)) :
  GO p l e R s mm args below meth c nL D A A cells slots Q (sW D h f g N M T) pc lv (.ref (D.2 1000 (v + 128).toNat) :: .ref (h 11) :: st) := by
  refine kX1_ladd (wr := sR11 D h f g N M ++ T) (h 11) (h 23) (f 23) (N 11) (f 11) (M 11) [] (D.2 1000 (v + 128).toNat) C hn hx (AnyX.box (by omega)) hR hcat hroom (Sb.tr (Sb.part (X := sF D h f g N M) (cx := LW D (h 11) (h 23) (f 23) (N 11) (f 11) (M 11) ++ sR11 D h f g N M) (pl := T) [18, 19, 0, 1, 2, 3, 4, 5, 6, 7, 8, 9, 10, 11, 12, 13, 14, 15, 16, 17] rfl rfl) (Sb.comm (a := LW D (h 11) (h 23) (f 23) (N 11) (f 11) (M 11)) (b := sR11 D h f g N M ++ T))) d ?_
  intro b1
  refine g_sb (ws' := sW D (uN h 23 b1) (up (up f 11 (f 11 + 1)) 23 (f 23 + 1)) g (uN N 11 (grC (N 11) (f 11))) (uM M 11 (paU (M 11) (f 11) (D.2 1000 (v + 128).toNat))) T) ?_ (K b1)
  exact Sb.tr (Sb.comm (a := sR11 D h f g N M ++ T) (b := LW D (h 11) b1 (f 23 + 1) (grC (N 11) (f 11)) (f 11 + 1) (paU (M 11) (f 11) (D.2 1000 (v + 128).toNat)))) (Sb.part (X := LW D (h 11) b1 (f 23 + 1) (grC (N 11) (f 11)) (f 11 + 1) (paU (M 11) (f 11) (D.2 1000 (v + 128).toNat)) ++ sR11 D h f g N M) (cx := sF D (uN h 23 b1) (up (up f 11 (f 11 + 1)) 23 (f 23 + 1)) g (uN N 11 (grC (N 11) (f 11))) (uM M 11 (paU (M 11) (f 11) (D.2 1000 (v + 128).toNat)))) (pl := T) [2, 3, 4, 5, 6, 7, 8, 9, 10, 11, 12, 13, 14, 15, 16, 17, 18, 19, 0, 1] rfl rfl)
end MK
theorem gr_cp2 {c : Nat} {n : Int} (h : 8 ≤ c ∧ c ≤ 990 ∧ n ≤ c ∧ 0 ≤ n ∧ n ≤ 659) : 8 ≤ grC c n ∧ grC c n ≤ 990 ∧ n + 1 ≤ (grC c n : Int) ∧ 4 * c + grS c n ≤ 4 * grC c n := by
  unfold grC grS grN
  by_cases e : n = c
  · rw [if_pos e, if_pos e, if_pos (by omega)]; omega
  · rw [if_neg e, if_neg e]; omega
theorem pfirst {LD LN CV V : Int → Int} {cl en set at_ : Int} {n : Nat} {FAR ST : Int} (hs : 0 ≤ set ∧ set < 2 ^ n) (ha : 0 ≤ at_ ∧ at_ < 60) (hB : Bel FAR ST LD LN CV cl (2 ^ n) en V) (h0 : 0 < V (60 * set + at_)) (h1 : V (60 * set + at_) < FAR) :
    mvK FAR ST V LD LN CV cl set (8 * at_ + fstM FAR ST V LD LN CV cl set at_ 0 8) = V (60 * set + at_) ∧ ∀ j, 0 ≤ j → j < fstM FAR ST V LD LN CV cl set at_ 0 8 → mvK FAR ST V LD LN CV cl set (8 * at_ + j) ≠ V (60 * set + at_) := by
  obtain ⟨b1, b2, b3⟩ := hB
  have hne : ¬ (set = 2 ^ n - 1 ∧ at_ = en) := by
    rintro ⟨rfl, rfl⟩
    omega
  have e := b3 set at_ hs.1 hs.2 ha.1 ha.2 hne
  obtain ⟨m, f1, f2, f3, f4⟩ := fst_ok (f0 := 0) 8 (show bstM FAR ST V LD LN CV cl set at_ 8 < FAR by omega)
  rw [f2]
  refine ⟨by rw [← mvK_V]; omega, fun j h0 h2 => ?_⟩
  have := f4 j.toNat (by omega)
  rw [mvK_V, Int.toNat_of_nonneg h0] at this
  omega
theorem bhS_bhd {ld gp bt : Int → Int} {set k cl : Int} (h : ld k ≠ -1) : bhS ld gp bt set k cl = bhd set (cvS gp bt k) cl := by unfold bhS; rw [if_neg h]
/-- the class's tables are the model's -/
theorem TS_a {F S np : Int} {kd ht th pf ps pk pn bt a b c : Int → Int} (hnp : 0 ≤ np) (hpn : ∀ j, 0 ≤ j → j < np → 0 ≤ pn j ∧ pn j ≤ 1) (h : TSk F S kd ht th np pf ps pk 480 a b c) (hb : ∀ j, 0 ≤ j → j < np → bt j = if pn j = 0 then -1 else ndc pn j) : TBa a (LNc ht th) (cvS c bt) (LDc F S kd) (LNc ht th) (CVc np pf ps pk pn) := by
  intro k h0 h1
  obtain ⟨t1, t2, t3⟩ := h k h0 h1
  refine ⟨t1, fun q => ⟨rfl, ?_⟩⟩
  rw [t1] at q
  rw [if_neg q] at t3
  unfold cvS CVc cvT
  rw [t3]
  by_cases e : alg np pf ps pk (k / 8) (k % 8) = -1
  · rw [if_pos e, if_pos e]
  · have hr := alg_rg (np := np) (pf := pf) (ps := ps) (pk := pk) (p := k / 8) (m := k % 8) hnp
    have h9 := ndc_rg hpn (k := alg np pf ps pk (k / 8) (k % 8)) (by omega) (by omega)
    rw [if_neg e, if_neg e, hb _ (by omega) (by omega)]
    by_cases z : pn (alg np pf ps pk (k / 8) (k % 8)) = 0
    · rw [if_pos z, if_pos rfl, if_neg (fun w => w z)]
    · rw [if_neg z, if_neg (by omega), if_pos z]
theorem TS_r {F S np : Int} {kd ht th pf ps pk a b c LN CV : Int → Int} {n : Int} (hnp : 0 ≤ np) (h : TSk F S kd ht th np pf ps pk 480 a b c) (hT : TBok n (LDc F S kd) (LNc ht th) CV) : (∀ j, 0 ≤ j → j < 480 → (-1 ≤ a j ∧ a j < 60) ∧ (-1 ≤ c j ∧ c j < np)) ∨ np = 0 ∧ ∀ j, 0 ≤ j → j < 480 → (-1 ≤ a j ∧ a j < 60) ∧ c j = -1 := by
  by_cases e : np = 0
  · refine Or.inr ⟨e, fun j h0 h1 => ?_⟩
    obtain ⟨t1, t2, t3⟩ := h j h0 h1
    have hr := alg_rg (np := np) (pf := pf) (ps := ps) (pk := pk) (p := j / 8) (m := j % 8) hnp
    have := (hT j h0 h1).1
    rw [t1, t3]
    refine ⟨this, ?_⟩
    split <;> omega
  · refine Or.inl (fun j h0 h1 => ?_)
    obtain ⟨t1, t2, t3⟩ := h j h0 h1
    have hr := alg_rg (np := np) (pf := pf) (ps := ps) (pk := pk) (p := j / 8) (m := j % 8) hnp
    have := (hT j h0 h1).1
    rw [t1, t3]
    refine ⟨this, ?_⟩
    split <;> omega
theorem TS_r' {F S np : Int} {kd ht th pf ps pk a b c CV : Int → Int} {n : Int} (hnp : 0 ≤ np) (h : TSk F S kd ht th np pf ps pk 480 a b c) (hT : TBok n (LDc F S kd) (LNc ht th) CV) : ∀ j, 0 ≤ j → j < 480 → (-1 ≤ a j ∧ a j < 60) ∧ (-1 ≤ c j ∧ c j < np) := by
  intro j h0 h1
  rcases TS_r (LN := LNc ht th) hnp h hT with q | ⟨q, r⟩
  · exact q j h0 h1
  · have := r j h0 h1; exact ⟨this.1, by omega⟩
theorem TS_co {F S np : Int} {kd ht th pf ps pk a b c CV : Int → Int} {n : Int} (h : TSk F S kd ht th np pf ps pk 480 a b c) (hT : TBok n (LDc F S kd) (LNc ht th) CV) : (∀ j, 0 ≤ j → j < 480 → 0 ≤ b j ∧ b j ≤ 1000000) ∧ ∀ k, 0 ≤ k → k < 480 → a k ≠ -1 → b k = 1024 * LNc ht th k + 1 := by
  refine ⟨fun j h0 h1 => ?_, fun j h0 h1 h2 => ?_⟩
  · obtain ⟨t1, t2, t3⟩ := h j h0 h1
    have := (hT j h0 h1).2
    rw [t2]
    split
    · omega
    · rename_i q; have := (this q).1; omega
  · obtain ⟨t1, t2, t3⟩ := h j h0 h1
    rw [t1] at h2
    rw [t2, if_neg h2]

section MK
variable {p : Program} {l : Launch} {e : Env} {R : Room} {s : State} {mm : MethodId} {args : Array Value} {below : List Frame} {meth : Method} {c : Code} {cc : ByteArray} {nL : Nat} {ret : Option FieldType} {D : va_G} {A B : Nat → Prop} {cells slots : Nat} {Q : State → Prop} {pc : Nat} {lv : List (Nat × Value)} {st : List Value}
theorem kX1_X1_settles (h : Nat → Nat) (f : Nat → Int) (g : Nat → Int → Int) (N : Nat → Nat) (M : Nat → Nat → Nat) (T : va_W) (nb : Nat) (LN : Int → Int) (en set cl : Int) (C : CX p l s mm args meth c RX1 cc nL ret D A) (hnp : 0 ≤ f 6 ∧ f 6 ≤ 55) (htb : ∀ j, 0 ≤ j → j < 480 → (-1 ≤ g 14 j ∧ g 14 j < 60) ∧ (-1 ≤ g 16 j ∧ g 16 j < f 6)) (hbt : ∀ j, 0 ≤ j → j < f 6 → -1 ≤ g 13 j ∧ g 13 j < 10) (hv : ∀ j, 0 ≤ j → j < 61440 → 0 ≤ g 12 j ∧ g 12 j ≤ 1000000000) (hco : ∀ j, 0 ≤ j → j < 480 → 0 ≤ g 15 j ∧ g 15 j ≤ 1000000) (hnb : nb ≤ 10) (hTB : TBok nb (g 14) LN (cvS (g 16) (g 13))) (hcost : ∀ k, 0 ≤ k → k < 480 → g 14 k ≠ -1 → g 15 k = 1024 * LN k + 1) (hCM : CMok (g 14) (g 17) (g 18)) (hse : 0 ≤ set ∧ set < 2 ^ nb) (hen : 0 ≤ en ∧ en < 60) (hcl : 0 ≤ cl ∧ cl ≤ 1) (hRK0 : RK 1000000000 1024 (g 14) LN (cvS (g 16) (g 13)) cl (2 ^ nb) en set (g 12)) (hR : 2 + 1 ≤ R.frames ∧ 8 + (7 + 11) + 64 * 2 ≤ R.locals) (hcat : (st.map fun v => v.category).sum ≤ 8) (hroom : cells ≤ R.cells ∧ slots ≤ R.slots) (d : decode cc pc = .ok (.invokevirtual 265, 3)) (K : ∀ (y12 : Int → Int) (y19 : Int → Int) , (∀ j, 0 ≤ j → j < 61440 → 0 ≤ y12 j ∧ y12 j ≤ 1000000000) → (RK 1000000000 1024 (g 14) LN (cvS (g 16) (g 13)) cl (2 ^ nb) en (set - 1) y12) → GO p l e R s mm args below meth c nL D A A (cells) (slots) Q (sW D h f (ug (ug g 12 y12) 19 y19) N M T) (pc + 3) lv (st)) : GO p l e R s mm args below meth c nL D A A cells slots Q (sW D h f g N M T) (pc) lv (.int (iI cl) :: .int (iI set) :: .ref (h 0) :: st) := by
  refine g_callVU C (c_X1_settles l D C.hl h f g N M T nb LN en set cl hnp htb hbt hv hco hnb hTB hcost hCM hse hen hcl hRK0) (As := [.int (iI set), .int (iI cl)]) (n := 2) (lw_V q954 q956 qs25 q48 q957) (by decide +kernel) rfl rfl hR (rcvM C) rfl rfl hcat hroom d (wr := []) Sb.rf exT_b hex_t (fun v w hp => ?_) kx_nu
  obtain ⟨rfl, y12, y19, h0_, h1_, rfl⟩ := hp
  exact K y12 y19 h0_ h1_
end MK

section SC17
set_option maxHeartbeats 4000000 in
set_option maxRecDepth 100000 in
theorem c_X1_best (l : Launch) (D : va_G) (hst : l.stackTraces = false) (h : Nat → Nat) (f : Nat → Int) (g : Nat → Int → Int) (N : Nat → Nat) (M : Nat → Nat → Nat) (U : va_W) (a cl : Int) (hF : 1 ≤ f 0 ∧ f 0 ≤ 5) (hS : 2 ≤ f 1 ∧ f 1 ≤ 6) (hkd : ∀ j, 0 ≤ j → j < 6 → 0 ≤ g 5 j ∧ g 5 j ≤ 3) (hth : ∀ j, 0 ≤ j → j < 5 → 1 ≤ g 3 j ∧ g 3 j ≤ 50) (hht : ∀ j, 0 ≤ j → j < 6 → 0 ≤ g 4 j ∧ g 4 j ≤ 400) (hri : ∀ j, 0 ≤ j → j + 1 < f 1 → g 4 j < g 4 (j + 1)) (hnp : 0 ≤ f 6 ∧ f 6 ≤ 55) (hN6 : N 6 = 55) (hpt : ∀ j, 0 ≤ j → j < f 6 → (0 ≤ g 24 j ∧ g 24 j ≤ 4) ∧ (0 ≤ g 25 j ∧ g 25 j ≤ 5) ∧ (0 ≤ g 26 j ∧ g 26 j ≤ 2) ∧ (0 ≤ g 27 j ∧ g 27 j ≤ 1)) (hkc : 8 ≤ N 11 ∧ N 11 ≤ 990 ∧ 0 ≤ f 11 ∧ f 11 ≤ N 11) (hv : ∀ j, 0 ≤ j → j < 61440 → 0 ≤ g 12 j ∧ g 12 j ≤ 1000000000) (har : -2147483648 ≤ a ∧ a < 2147483648) (hcl : 0 ≤ cl ∧ cl ≤ 1) : CT l D yX1_best (ws_ yX1_best cX1_best 10 (some .int)) (rmD 8 670 4100) (670) (4100) va_A [.ref (h 0), .int (iI a), .int (iI cl)] (sW D h f g N M (ptW (M 6) (g 24) (g 25) (g 26) (g 27) (f 6) ++ U)) exT (pI fun z w => (0 ≤ a ∧ a < f 1) ∧ ((10 < ndc (g 27) (f 6) ∧ z = -1 ∧ w = sW D h f g N M (ptW (M 6) (g 24) (g 25) (g 26) (g 27) (f 6) ++ U)) ∨ (ndc (g 27) (f 6) ≤ 10 ∧ ∃ y12 : Int → Int, ∃ y13 : Int → Int, ∃ y14 : Int → Int, ∃ y15 : Int → Int, ∃ y16 : Int → Int, ∃ y17 : Int → Int, ∃ y18 : Int → Int, ∃ y19 : Int → Int, z = -1 ∧ Bel 1000000000 1024 (LDc (f 0) (f 1) (g 5)) (LNc (g 4) (g 3)) (CVc (f 6) (g 24) (g 25) (g 26) (g 27)) cl (2 ^ (ndc (g 27) (f 6)).toNat) (2 * (6 * 0 + a) + 0) y12 ∧ 1000000000 ≤ y12 (2 * (6 * 0 + a) + 0) ∧ (∀ j, 0 ≤ j → j < 61440 → 0 ≤ y12 j ∧ y12 j ≤ 1000000000) ∧ w = sW D h f (ug (ug (ug (ug (ug (ug (ug (ug g 12 y12) 13 y13) 14 y14) 15 y15) 16 y16) 17 y17) 18 y18) 19 y19) N M (ptW (M 6) (g 24) (g 25) (g 26) (g 27) (f 6) ++ U)) ∨ (ndc (g 27) (f 6) ≤ 10 ∧ ∃ y12 : Int → Int, ∃ y13 : Int → Int, ∃ y14 : Int → Int, ∃ y15 : Int → Int, ∃ y16 : Int → Int, ∃ y17 : Int → Int, ∃ y18 : Int → Int, ∃ y19 : Int → Int, ∃ (km k23 : Int) (kb kc : Nat) (ky : Int → Int), z = y12 (2 * (6 * 0 + a) + 0) / 1024 ∧ Bel 1000000000 1024 (LDc (f 0) (f 1) (g 5)) (LNc (g 4) (g 3)) (CVc (f 6) (g 24) (g 25) (g 26) (g 27)) cl (2 ^ (ndc (g 27) (f 6)).toNat) (2 * (6 * 0 + a) + 0) y12 ∧ y12 (2 * (6 * 0 + a) + 0) < 1000000000 ∧ KP 1000000000 1024 y12 (LDc (f 0) (f 1) (g 5)) (LNc (g 4) (g 3)) (CVc (f 6) (g 24) (g 25) (g 26) (g 27)) cl (2 * (6 * 0 + a) + 0) km ky ∧ (∀ j, 0 ≤ j → j < km → 0 ≤ ky j ∧ ky j < 8) ∧ (8 ≤ kc ∧ kc ≤ 990 ∧ km ≤ kc) ∧ (∀ j, 0 ≤ j → j < 61440 → 0 ≤ y12 j ∧ y12 j ≤ 1000000000) ∧ w = sW D (uN h 23 kb) (up (up f 11 km) 23 k23) (ug (ug (ug (ug (ug (ug (ug (ug g 12 y12) 13 y13) 14 y14) 15 y15) 16 y16) 17 y17) 18 y18) 19 y19) (uN N 11 kc) (uM M 11 (bxA D ky)) (ptW (M 6) (g 24) (g 25) (g 26) (g 27) (f 6) ++ U)))) (fun E _ w => E = EN ∧ ¬ (0 ≤ a ∧ a < f 1) ∧ w = sW D h f g N M (ptW (M 6) (g 24) (g 25) (g 26) (g 27) (f 6) ++ U)) := by
  refine ct_U (lv := [(0, .ref (h 0)), (1, .int (iI a)), (2, .int (iI cl))]) RX1 (by decide) rfl rfl hst (Nat.le_of_ble_eq_true rfl) rfl ?_
  intro p e s mm args below meth c A C htab hex hnm
  have hpn : ∀ j, 0 ≤ j → j < f 6 → 0 ≤ g 27 j ∧ g 27 j ≤ 1 := fun j h0 h1 => (hpt j h0 h1).2.2.2
  have hnd := ndc_rg hpn hnp.1 (Int.le_refl _)
  refine g_aload_n C dX1_best_0 rfl 0 rfl ?_
  refine g_iload_n C dX1_best_1 rfl 1 rfl ?_
  refine kX1_X1_isStation h f g N M (ptW (M 6) (g 24) (g 25) (g 26) (g 27) (f 6) ++ U) a C hS (by omega) ⟨Nat.le_of_ble_eq_true rfl, Nat.le_of_ble_eq_true rfl⟩ (Nat.le_of_ble_eq_true rfl) ⟨Nat.le_of_ble_eq_true rfl, Nat.le_of_ble_eq_true rfl⟩ Sb.rf dX1_best_2 (fun hN1 => ?_) (fun hT2 q3 => ?_)
  ·
    refine g_aload_n C dX1_best_5 rfl 0 rfl ?_
    refine kX1_X1_needed h f g N M U C hnp hN6 hpt ⟨Nat.le_of_ble_eq_true rfl, Nat.le_of_ble_eq_true rfl⟩ (Nat.le_of_ble_eq_true rfl) ⟨(by show _ ≤ 670; omega), (by show _ ≤ 4100; omega)⟩ (rv := ndc (g 27) (f 6)) rfl Sb.rf dX1_best_6 ?_
    refine g_bipush C dX1_best_9 (z := 10) rfl ?_
    refine g_icmp_le C (tgt := 16) dX1_best_11 (by decide) (by omega) (by omega) (fun hc11_4 => ?_) (fun hc11_4 => ?_)
    ·
      refine g_iconst C dX1_best_16 ?_
      refine g_istore_n C dX1_best_17 rfl (lv' := [(0, .ref (h 0)), (1, .int (iI a)), (2, .int (iI cl)), (3, .int (iI 0))]) [1, 2, 3, 0] rfl (Nat.le_of_ble_eq_true rfl) ?_
      refine g_iconst C dX1_best_18 ?_
      refine g_istore C dX1_best_19 (lv' := [(0, .ref (h 0)), (1, .int (iI a)), (2, .int (iI cl)), (3, .int (iI 0)), (4, .int (iI 0))]) [1, 2, 3, 4, 0] rfl (Nat.le_of_ble_eq_true rfl) ?_
      have L5 : ∀ (n : Nat) (k : Int) (nn : Int) (y13 : Int → Int), (0 ≤ k ∧ k ≤ f 6) → (nn = ndc (g 27) k) → (∀ j, 0 ≤ j → j < k → y13 j = if g 27 j = 0 then -1 else ndc (g 27) j) → (f 6 - k).toNat < n → GO p l e (rmD 8 670 4100) s mm args below meth c 10 D A A (0 + 1) (0 + 6) (MX below D A (pI fun z w => (0 ≤ a ∧ a < f 1) ∧ ((10 < ndc (g 27) (f 6) ∧ z = -1 ∧ w = sW D h f g N M (ptW (M 6) (g 24) (g 25) (g 26) (g 27) (f 6) ++ U)) ∨ (ndc (g 27) (f 6) ≤ 10 ∧ ∃ y12 : Int → Int, ∃ y13 : Int → Int, ∃ y14 : Int → Int, ∃ y15 : Int → Int, ∃ y16 : Int → Int, ∃ y17 : Int → Int, ∃ y18 : Int → Int, ∃ y19 : Int → Int, z = -1 ∧ Bel 1000000000 1024 (LDc (f 0) (f 1) (g 5)) (LNc (g 4) (g 3)) (CVc (f 6) (g 24) (g 25) (g 26) (g 27)) cl (2 ^ (ndc (g 27) (f 6)).toNat) (2 * (6 * 0 + a) + 0) y12 ∧ 1000000000 ≤ y12 (2 * (6 * 0 + a) + 0) ∧ (∀ j, 0 ≤ j → j < 61440 → 0 ≤ y12 j ∧ y12 j ≤ 1000000000) ∧ w = sW D h f (ug (ug (ug (ug (ug (ug (ug (ug g 12 y12) 13 y13) 14 y14) 15 y15) 16 y16) 17 y17) 18 y18) 19 y19) N M (ptW (M 6) (g 24) (g 25) (g 26) (g 27) (f 6) ++ U)) ∨ (ndc (g 27) (f 6) ≤ 10 ∧ ∃ y12 : Int → Int, ∃ y13 : Int → Int, ∃ y14 : Int → Int, ∃ y15 : Int → Int, ∃ y16 : Int → Int, ∃ y17 : Int → Int, ∃ y18 : Int → Int, ∃ y19 : Int → Int, ∃ (km k23 : Int) (kb kc : Nat) (ky : Int → Int), z = y12 (2 * (6 * 0 + a) + 0) / 1024 ∧ Bel 1000000000 1024 (LDc (f 0) (f 1) (g 5)) (LNc (g 4) (g 3)) (CVc (f 6) (g 24) (g 25) (g 26) (g 27)) cl (2 ^ (ndc (g 27) (f 6)).toNat) (2 * (6 * 0 + a) + 0) y12 ∧ y12 (2 * (6 * 0 + a) + 0) < 1000000000 ∧ KP 1000000000 1024 y12 (LDc (f 0) (f 1) (g 5)) (LNc (g 4) (g 3)) (CVc (f 6) (g 24) (g 25) (g 26) (g 27)) cl (2 * (6 * 0 + a) + 0) km ky ∧ (∀ j, 0 ≤ j → j < km → 0 ≤ ky j ∧ ky j < 8) ∧ (8 ≤ kc ∧ kc ≤ 990 ∧ km ≤ kc) ∧ (∀ j, 0 ≤ j → j < 61440 → 0 ≤ y12 j ∧ y12 j ≤ 1000000000) ∧ w = sW D (uN h 23 kb) (up (up f 11 km) 23 k23) (ug (ug (ug (ug (ug (ug (ug (ug g 12 y12) 13 y13) 14 y14) 15 y15) 16 y16) 17 y17) 18 y18) 19 y19) (uN N 11 kc) (uM M 11 (bxA D ky)) (ptW (M 6) (g 24) (g 25) (g 26) (g 27) (f 6) ++ U)))) (fun E _ w => E = EN ∧ ¬ (0 ≤ a ∧ a < f 1) ∧ w = sW D h f g N M (ptW (M 6) (g 24) (g 25) (g 26) (g 27) (f 6) ++ U)) args s (670) (4100)) (sW D h f (ug g 13 y13) N M (ptW (M 6) (g 24) (g 25) (g 26) (g 27) (f 6) ++ U)) 21 [(0, .ref (h 0)), (1, .int (iI a)), (2, .int (iI cl)), (3, .int (iI nn)), (4, .int (iI k))] [] := by
        intro n
        induction n with
        | zero => intro k nn y13 hk hn hy13 hm; exact absurd hm (Nat.not_lt_zero _)
        | succ n ih5 =>
          intro k nn y13 hk hn hy13 hm5
          have hnr := ndc_rg hpn hk.1 hk.2
          refine g_iload C dX1_best_21 4 rfl ?_
          refine g_aload_n C dX1_best_23 rfl 0 rfl ?_
          refine gs_get6 C dX1_best_24 ?_
          refine kX1_lsize (h 6) (h 21) (f 21) (N 6) (f 6) (M 6) C ⟨Nat.le_of_ble_eq_true rfl, Nat.le_of_ble_eq_true rfl⟩ (Nat.le_of_ble_eq_true rfl) ⟨(by show _ ≤ 670; omega), (by show _ ≤ 4100; omega)⟩ (rv := f 6) rfl sb_l6 dX1_best_27 ?_
          refine g_icmp_ge C (tgt := 95) dX1_best_30 (by decide) (by omega) (by omega) (fun hc30_6 => ?_) (fun hc30_6 => ?_)
          ·
            have ek : k = f 6 := by omega
            subst ek
            subst hn
            have hnb : (ndc (g 27) (f 6)).toNat ≤ 10 := by omega
            have hp2 := p2_le hnb
            have hp1 := p2_pos (ndc (g 27) (f 6)).toNat
            refine g_aload_n C dX1_best_95 rfl 0 rfl ?_
            refine kX1_X1_tables h f (ug g 13 y13) N M U C hF hS hkd hth hht hnp hN6 hpt ⟨Nat.le_of_ble_eq_true rfl, Nat.le_of_ble_eq_true rfl⟩ (Nat.le_of_ble_eq_true rfl) ⟨(by show _ ≤ 670; omega), (by show _ ≤ 4100; omega)⟩ dX1_best_96 ?_
            intro y14 y15 y16 y17 y18 hTS hCMp
            refine g_ws (ws' := sW D h f (ug (ug (ug (ug (ug (ug g 13 y13) 14 y14) 15 y15) 16 y16) 17 y17) 18 y18) N M (ptW (M 6) (g 24) (g 25) (g 26) (g 27) (f 6) ++ U)) rfl ?_
            have hTa : TBa y14 (LNc (g 4) (g 3)) (cvS y16 y13) (LDc (f 0) (f 1) (g 5)) (LNc (g 4) (g 3)) (CVc (f 6) (g 24) (g 25) (g 26) (g 27)) := TS_a hnp.1 hpn hTS hy13
            have hTc := TB_c (kd := g 5) (pf := g 24) (ps := g 25) (pk := g 26) hF hS hnp.1 hpn hth hht hri
            have hTB : TBok (((ndc (g 27) (f 6)).toNat : Nat) : Int) y14 (LNc (g 4) (g 3)) (cvS y16 y13) := TBok_T hTa hTc
            have htb := TS_r' hnp.1 hTS hTc
            have hco := (TS_co hTS hTc).1
            have hcost := (TS_co hTS hTc).2
            have hCM := CMp_ok hCMp (fun k h0 h1 => (hTS k h0 h1).1)
            have hbt : ∀ j, 0 ≤ j → j < f 6 → -1 ≤ y13 j ∧ y13 j < 10 := fun j h0 h1 => by have q1 := ndc_rg hpn h0 (by omega); rw [hy13 j h0 h1]; split; (omega); (rename_i q9; have q2 := ndc_lt hpn h0 h1 q9; omega)
            refine g_iconst C dX1_best_99 ?_
            refine g_iload_n C dX1_best_100 rfl 1 rfl ?_
            refine g_iconst C dX1_best_101 ?_
            refine kX1_X1_place 0 a 0 C (by omega) (by omega) (by omega) ⟨Nat.le_of_ble_eq_true rfl, Nat.le_of_ble_eq_true rfl⟩ (Nat.le_of_ble_eq_true rfl) ⟨(by show _ ≤ 670; omega), (by show _ ≤ 4100; omega)⟩ (rv := 2 * (6 * 0 + a) + 0) rfl dX1_best_102 ?_
            refine g_istore C dX1_best_105 (lv' := [(0, .ref (h 0)), (1, .int (iI a)), (2, .int (iI cl)), (3, .int (iI (ndc (g 27) (f 6)))), (4, .int (iI (2 * (6 * 0 + a) + 0)))]) [1, 2, 3, 4, 0] rfl (Nat.le_of_ble_eq_true rfl) ?_
            refine g_iconst C dX1_best_107 ?_
            refine g_iload_n C dX1_best_108 rfl 3 rfl ?_
            refine g_ishl C dX1_best_109 (z := 2 ^ (ndc (g 27) (f 6)).toNat) (shl_p2 ⟨by omega, by omega⟩) ?_
            refine g_iconst C dX1_best_110 ?_
            refine g_isub C dX1_best_111 ?_
            refine g_istore C dX1_best_112 (lv' := [(0, .ref (h 0)), (1, .int (iI a)), (2, .int (iI cl)), (3, .int (iI (ndc (g 27) (f 6)))), (4, .int (iI (2 * (6 * 0 + a) + 0))), (5, .int (iI ((2 ^ (ndc (g 27) (f 6)).toNat) - 1)))]) [1, 2, 3, 4, 5, 0] rfl (Nat.le_of_ble_eq_true rfl) ?_
            refine g_iconst C dX1_best_114 ?_
            refine g_istore C dX1_best_115 (lv' := [(0, .ref (h 0)), (1, .int (iI a)), (2, .int (iI cl)), (3, .int (iI (ndc (g 27) (f 6)))), (4, .int (iI (2 * (6 * 0 + a) + 0))), (5, .int (iI ((2 ^ (ndc (g 27) (f 6)).toNat) - 1))), (6, .int (iI 0))]) [1, 2, 3, 4, 5, 6, 0] rfl (Nat.le_of_ble_eq_true rfl) ?_
            have L7 : ∀ (n : Nat) (k : Int) (y12 : Int → Int), (0 ≤ k ∧ k ≤ 60 * 2 ^ (ndc (g 27) (f 6)).toNat) → (∀ j, 0 ≤ j → j < 61440 → 0 ≤ y12 j ∧ y12 j ≤ 1000000000) → (∀ j, 0 ≤ j → j < k → y12 j = 1000000000) → (60 * 2 ^ (ndc (g 27) (f 6)).toNat - k).toNat < n → GO p l e (rmD 8 670 4100) s mm args below meth c 10 D A A (0 + 1) (0 + 6) (MX below D A (pI fun z w => (0 ≤ a ∧ a < f 1) ∧ ((10 < ndc (g 27) (f 6) ∧ z = -1 ∧ w = sW D h f g N M (ptW (M 6) (g 24) (g 25) (g 26) (g 27) (f 6) ++ U)) ∨ (ndc (g 27) (f 6) ≤ 10 ∧ ∃ y12 : Int → Int, ∃ y13 : Int → Int, ∃ y14 : Int → Int, ∃ y15 : Int → Int, ∃ y16 : Int → Int, ∃ y17 : Int → Int, ∃ y18 : Int → Int, ∃ y19 : Int → Int, z = -1 ∧ Bel 1000000000 1024 (LDc (f 0) (f 1) (g 5)) (LNc (g 4) (g 3)) (CVc (f 6) (g 24) (g 25) (g 26) (g 27)) cl (2 ^ (ndc (g 27) (f 6)).toNat) (2 * (6 * 0 + a) + 0) y12 ∧ 1000000000 ≤ y12 (2 * (6 * 0 + a) + 0) ∧ (∀ j, 0 ≤ j → j < 61440 → 0 ≤ y12 j ∧ y12 j ≤ 1000000000) ∧ w = sW D h f (ug (ug (ug (ug (ug (ug (ug (ug g 12 y12) 13 y13) 14 y14) 15 y15) 16 y16) 17 y17) 18 y18) 19 y19) N M (ptW (M 6) (g 24) (g 25) (g 26) (g 27) (f 6) ++ U)) ∨ (ndc (g 27) (f 6) ≤ 10 ∧ ∃ y12 : Int → Int, ∃ y13 : Int → Int, ∃ y14 : Int → Int, ∃ y15 : Int → Int, ∃ y16 : Int → Int, ∃ y17 : Int → Int, ∃ y18 : Int → Int, ∃ y19 : Int → Int, ∃ (km k23 : Int) (kb kc : Nat) (ky : Int → Int), z = y12 (2 * (6 * 0 + a) + 0) / 1024 ∧ Bel 1000000000 1024 (LDc (f 0) (f 1) (g 5)) (LNc (g 4) (g 3)) (CVc (f 6) (g 24) (g 25) (g 26) (g 27)) cl (2 ^ (ndc (g 27) (f 6)).toNat) (2 * (6 * 0 + a) + 0) y12 ∧ y12 (2 * (6 * 0 + a) + 0) < 1000000000 ∧ KP 1000000000 1024 y12 (LDc (f 0) (f 1) (g 5)) (LNc (g 4) (g 3)) (CVc (f 6) (g 24) (g 25) (g 26) (g 27)) cl (2 * (6 * 0 + a) + 0) km ky ∧ (∀ j, 0 ≤ j → j < km → 0 ≤ ky j ∧ ky j < 8) ∧ (8 ≤ kc ∧ kc ≤ 990 ∧ km ≤ kc) ∧ (∀ j, 0 ≤ j → j < 61440 → 0 ≤ y12 j ∧ y12 j ≤ 1000000000) ∧ w = sW D (uN h 23 kb) (up (up f 11 km) 23 k23) (ug (ug (ug (ug (ug (ug (ug (ug g 12 y12) 13 y13) 14 y14) 15 y15) 16 y16) 17 y17) 18 y18) 19 y19) (uN N 11 kc) (uM M 11 (bxA D ky)) (ptW (M 6) (g 24) (g 25) (g 26) (g 27) (f 6) ++ U)))) (fun E _ w => E = EN ∧ ¬ (0 ≤ a ∧ a < f 1) ∧ w = sW D h f g N M (ptW (M 6) (g 24) (g 25) (g 26) (g 27) (f 6) ++ U)) args s (670) (4100)) (sW D h f (ug (ug (ug (ug (ug (ug (ug g 12 y12) 13 y13) 14 y14) 15 y15) 16 y16) 17 y17) 18 y18) N M (ptW (M 6) (g 24) (g 25) (g 26) (g 27) (f 6) ++ U)) 117 [(0, .ref (h 0)), (1, .int (iI a)), (2, .int (iI cl)), (4, .int (iI (2 * (6 * 0 + a) + 0))), (5, .int (iI ((2 ^ (ndc (g 27) (f 6)).toNat) - 1))), (6, .int (iI k))] [] := by
              intro n
              induction n with
              | zero => intro k y12 hk hv hfar hm; exact absurd hm (Nat.not_lt_zero _)
              | succ n ih7 =>
                intro k y12 hk hv hfar hm7
                refine g_iload C dX1_best_117 5 rfl ?_
                refine g_bipush C dX1_best_119 (z := 60) rfl ?_
                refine g_iload C dX1_best_121 4 rfl ?_
                refine g_iconst C dX1_best_123 ?_
                refine g_iadd C dX1_best_124 ?_
                refine g_imul C dX1_best_125 ?_
                refine g_icmp_ge C (tgt := 144) dX1_best_126 (by decide) (by omega) (by omega) (fun hc126_8 => ?_) (fun hc126_8 => ?_)
                ·
                  refine g_aload_n C dX1_best_144 rfl 0 rfl ?_
                  refine gs_get12 C dX1_best_145 ?_
                  refine g_bipush C dX1_best_148 (z := 60) rfl ?_
                  refine g_iload C dX1_best_150 4 rfl ?_
                  refine g_imul C dX1_best_152 ?_
                  refine g_iload C dX1_best_153 3 rfl ?_
                  refine g_iadd C dX1_best_155 ?_
                  refine g_iconst C dX1_best_156 ?_
                  refine gs_ast12 C (g' := (ug (ug (ug (ug (ug (ug (ug g 12 (uI y12 ((60 * ((2 ^ (ndc (g 27) (f 6)).toNat) - 1)) + (2 * (6 * 0 + a) + 0)) 0)) 13 y13) 14 y14) 15 y15) 16 y16) 17 y17) 18 y18)) rfl dX1_best_157 (by omega) ?_
                  refine g_iload C dX1_best_158 4 rfl ?_
                  refine g_istore C dX1_best_160 (lv' := [(0, .ref (h 0)), (1, .int (iI a)), (2, .int (iI cl)), (4, .int (iI (2 * (6 * 0 + a) + 0))), (5, .int (iI ((2 ^ (ndc (g 27) (f 6)).toNat) - 1))), (6, .int (iI ((2 ^ (ndc (g 27) (f 6)).toNat) - 1)))]) [1, 2, 3, 4, 5, 0] rfl (Nat.le_of_ble_eq_true rfl) ?_
                  have L9 : ∀ (n : Nat) (mk : Int) (y12 : Int → Int) (y19 : Int → Int), (-1 ≤ mk ∧ mk < 2 ^ (ndc (g 27) (f 6)).toNat) → (∀ j, 0 ≤ j → j < 61440 → 0 ≤ y12 j ∧ y12 j ≤ 1000000000) → (RK 1000000000 1024 y14 (LNc (g 4) (g 3)) (cvS y16 y13) cl (2 ^ (ndc (g 27) (f 6)).toNat) (2 * (6 * 0 + a) + 0) mk y12) → (mk + 1).toNat < n → GO p l e (rmD 8 670 4100) s mm args below meth c 10 D A A (0 + 1) (0 + 6) (MX below D A (pI fun z w => (0 ≤ a ∧ a < f 1) ∧ ((10 < ndc (g 27) (f 6) ∧ z = -1 ∧ w = sW D h f g N M (ptW (M 6) (g 24) (g 25) (g 26) (g 27) (f 6) ++ U)) ∨ (ndc (g 27) (f 6) ≤ 10 ∧ ∃ y12 : Int → Int, ∃ y13 : Int → Int, ∃ y14 : Int → Int, ∃ y15 : Int → Int, ∃ y16 : Int → Int, ∃ y17 : Int → Int, ∃ y18 : Int → Int, ∃ y19 : Int → Int, z = -1 ∧ Bel 1000000000 1024 (LDc (f 0) (f 1) (g 5)) (LNc (g 4) (g 3)) (CVc (f 6) (g 24) (g 25) (g 26) (g 27)) cl (2 ^ (ndc (g 27) (f 6)).toNat) (2 * (6 * 0 + a) + 0) y12 ∧ 1000000000 ≤ y12 (2 * (6 * 0 + a) + 0) ∧ (∀ j, 0 ≤ j → j < 61440 → 0 ≤ y12 j ∧ y12 j ≤ 1000000000) ∧ w = sW D h f (ug (ug (ug (ug (ug (ug (ug (ug g 12 y12) 13 y13) 14 y14) 15 y15) 16 y16) 17 y17) 18 y18) 19 y19) N M (ptW (M 6) (g 24) (g 25) (g 26) (g 27) (f 6) ++ U)) ∨ (ndc (g 27) (f 6) ≤ 10 ∧ ∃ y12 : Int → Int, ∃ y13 : Int → Int, ∃ y14 : Int → Int, ∃ y15 : Int → Int, ∃ y16 : Int → Int, ∃ y17 : Int → Int, ∃ y18 : Int → Int, ∃ y19 : Int → Int, ∃ (km k23 : Int) (kb kc : Nat) (ky : Int → Int), z = y12 (2 * (6 * 0 + a) + 0) / 1024 ∧ Bel 1000000000 1024 (LDc (f 0) (f 1) (g 5)) (LNc (g 4) (g 3)) (CVc (f 6) (g 24) (g 25) (g 26) (g 27)) cl (2 ^ (ndc (g 27) (f 6)).toNat) (2 * (6 * 0 + a) + 0) y12 ∧ y12 (2 * (6 * 0 + a) + 0) < 1000000000 ∧ KP 1000000000 1024 y12 (LDc (f 0) (f 1) (g 5)) (LNc (g 4) (g 3)) (CVc (f 6) (g 24) (g 25) (g 26) (g 27)) cl (2 * (6 * 0 + a) + 0) km ky ∧ (∀ j, 0 ≤ j → j < km → 0 ≤ ky j ∧ ky j < 8) ∧ (8 ≤ kc ∧ kc ≤ 990 ∧ km ≤ kc) ∧ (∀ j, 0 ≤ j → j < 61440 → 0 ≤ y12 j ∧ y12 j ≤ 1000000000) ∧ w = sW D (uN h 23 kb) (up (up f 11 km) 23 k23) (ug (ug (ug (ug (ug (ug (ug (ug g 12 y12) 13 y13) 14 y14) 15 y15) 16 y16) 17 y17) 18 y18) 19 y19) (uN N 11 kc) (uM M 11 (bxA D ky)) (ptW (M 6) (g 24) (g 25) (g 26) (g 27) (f 6) ++ U)))) (fun E _ w => E = EN ∧ ¬ (0 ≤ a ∧ a < f 1) ∧ w = sW D h f g N M (ptW (M 6) (g 24) (g 25) (g 26) (g 27) (f 6) ++ U)) args s (670) (4100)) (sW D h f (ug (ug (ug (ug (ug (ug (ug (ug g 12 y12) 13 y13) 14 y14) 15 y15) 16 y16) 17 y17) 18 y18) 19 y19) N M (ptW (M 6) (g 24) (g 25) (g 26) (g 27) (f 6) ++ U)) 162 [(0, .ref (h 0)), (1, .int (iI a)), (2, .int (iI cl)), (4, .int (iI (2 * (6 * 0 + a) + 0))), (5, .int (iI ((2 ^ (ndc (g 27) (f 6)).toNat) - 1))), (6, .int (iI mk))] [] := by
                    intro n
                    induction n with
                    | zero => intro mk y12 y19 hmk hv hRK hm; exact absurd hm (Nat.not_lt_zero _)
                    | succ n ih9 =>
                      intro mk y12 y19 hmk hv hRK hm9
                      refine g_iload C dX1_best_162 5 rfl ?_
                      refine g_if_lt C (tgt := 180) dX1_best_164 (by decide) (by omega) (fun hc164_10 => ?_) (fun hc164_10 => ?_)
                      ·
                        have em : mk = -1 := by omega
                        subst em
                        have hBel := RK_Bel hRK
                        have hV0 := hBel.1 (2 * (6 * 0 + a) + 0) (by omega) (by omega)
                        refine g_aload_n C dX1_best_180 rfl 0 rfl ?_
                        refine gs_get12 C dX1_best_181 ?_
                        refine g_iload C dX1_best_184 3 rfl ?_
                        refine gs_ald12 C (v := y12 (2 * (6 * 0 + a) + 0)) rfl dX1_best_186 (by omega) ?_
                        have hf11 := hv (2 * (6 * 0 + a) + 0) (by omega) (by omega)
                        refine g_ldc C q953 dX1_best_187 (z := 1000000000) rfl ?_
                        refine g_icmp_lt C (tgt := 194) dX1_best_189 (by decide) (by omega) (by omega) (fun hc189_12 => ?_) (fun hc189_12 => ?_)
                        ·
                          refine g_aload_n C dX1_best_194 rfl 0 rfl ?_
                          refine gs_get11 C dX1_best_195 ?_
                          refine gs_clear11 C (show 0 ≤ (f 11) ∧ (f 11) ≤ ((N 11 : Nat) : Int) ∧ N 11 ≤ 3000 by omega) ⟨Nat.le_of_ble_eq_true rfl, Nat.le_of_ble_eq_true rfl⟩ (Nat.le_of_ble_eq_true rfl) ⟨(by show _ ≤ 670; omega), (by show _ ≤ 4100; omega)⟩ dX1_best_198 ?_
                          refine g_conq 19 (x := eR 0 (bxA D (fun _ => 0))) (ws' := sW D h (up (up f 11 0) 23 (f 23 + 1)) (ug (ug (ug (ug (ug (ug (ug (ug g 12 y12) 13 y13) 14 y14) 15 y15) 16 y16) 17 y17) 18 y18) 19 y19) N (uM M 11 (bxA D (fun _ => 0))) (ptW (M 6) (g 24) (g 25) (g 26) (g 27) (f 6) ++ U)) rfl (fun j _ => congrFun eR_00 j) rfl ?_
                          refine g_ws (ws' := sW D (uN h 23 (h 23)) (up (up f 11 0) 23 (f 23 + 1)) (ug (ug (ug (ug (ug (ug (ug (ug g 12 y12) 13 y13) 14 y14) 15 y15) 16 y16) 17 y17) 18 y18) 19 y19) (uN N 11 (N 11)) (uM M 11 (bxA D (fun _ => 0))) (ptW (M 6) (g 24) (g 25) (g 26) (g 27) (f 6) ++ U)) rfl ?_
                          refine g_iconst C dX1_best_201 ?_
                          refine g_istore C dX1_best_202 (lv' := [(0, .ref (h 0)), (1, .int (iI a)), (2, .int (iI cl)), (4, .int (iI (2 * (6 * 0 + a) + 0))), (5, .int (iI ((2 ^ (ndc (g 27) (f 6)).toNat) - 1))), (6, .int (iI 0))]) [1, 2, 3, 4, 5, 0] rfl (Nat.le_of_ble_eq_true rfl) ?_
                          refine g_iload C dX1_best_204 3 rfl ?_
                          refine g_istore C dX1_best_206 (lv' := [(0, .ref (h 0)), (1, .int (iI a)), (2, .int (iI cl)), (4, .int (iI (2 * (6 * 0 + a) + 0))), (5, .int (iI ((2 ^ (ndc (g 27) (f 6)).toNat) - 1))), (6, .int (iI 0)), (7, .int (iI (2 * (6 * 0 + a) + 0)))]) [1, 2, 3, 4, 5, 6, 0] rfl (Nat.le_of_ble_eq_true rfl) ?_
                          have L13 : ∀ (n : Nat) (st_ : Int) (at_ : Int) (km : Int) (k23 : Int) (ky : Int → Int) (kb : Nat) (kc : Nat) (cv : Nat) (sv : Nat), (0 ≤ st_ ∧ st_ < 2 ^ (ndc (g 27) (f 6)).toNat) → (0 ≤ at_ ∧ at_ < 60) → (y12 (60 * st_ + at_) < 1000000000) → (0 ≤ km ∧ km + mbd y12 st_ at_ ≤ 659) → (KPk 1000000000 1024 y12 y14 (LNc (g 4) (g 3)) (cvS y16 y13) cl (2 * (6 * 0 + a) + 0) km ky st_ at_) → (∀ j, 0 ≤ j → j < km → 0 ≤ ky j ∧ ky j < 8) → (8 ≤ kc ∧ kc ≤ 990 ∧ km ≤ kc) → (cv ≤ 4 + km.toNat ∧ sv + 4 * N 11 ≤ 20 + 4 * kc) → (y12 (60 * st_ + at_)).toNat < n → GO p l e (rmD 8 670 4100) s mm args below meth c 10 D A A cv sv (MX below D A (pI fun z w => (0 ≤ a ∧ a < f 1) ∧ ((10 < ndc (g 27) (f 6) ∧ z = -1 ∧ w = sW D h f g N M (ptW (M 6) (g 24) (g 25) (g 26) (g 27) (f 6) ++ U)) ∨ (ndc (g 27) (f 6) ≤ 10 ∧ ∃ y12 : Int → Int, ∃ y13 : Int → Int, ∃ y14 : Int → Int, ∃ y15 : Int → Int, ∃ y16 : Int → Int, ∃ y17 : Int → Int, ∃ y18 : Int → Int, ∃ y19 : Int → Int, z = -1 ∧ Bel 1000000000 1024 (LDc (f 0) (f 1) (g 5)) (LNc (g 4) (g 3)) (CVc (f 6) (g 24) (g 25) (g 26) (g 27)) cl (2 ^ (ndc (g 27) (f 6)).toNat) (2 * (6 * 0 + a) + 0) y12 ∧ 1000000000 ≤ y12 (2 * (6 * 0 + a) + 0) ∧ (∀ j, 0 ≤ j → j < 61440 → 0 ≤ y12 j ∧ y12 j ≤ 1000000000) ∧ w = sW D h f (ug (ug (ug (ug (ug (ug (ug (ug g 12 y12) 13 y13) 14 y14) 15 y15) 16 y16) 17 y17) 18 y18) 19 y19) N M (ptW (M 6) (g 24) (g 25) (g 26) (g 27) (f 6) ++ U)) ∨ (ndc (g 27) (f 6) ≤ 10 ∧ ∃ y12 : Int → Int, ∃ y13 : Int → Int, ∃ y14 : Int → Int, ∃ y15 : Int → Int, ∃ y16 : Int → Int, ∃ y17 : Int → Int, ∃ y18 : Int → Int, ∃ y19 : Int → Int, ∃ (km k23 : Int) (kb kc : Nat) (ky : Int → Int), z = y12 (2 * (6 * 0 + a) + 0) / 1024 ∧ Bel 1000000000 1024 (LDc (f 0) (f 1) (g 5)) (LNc (g 4) (g 3)) (CVc (f 6) (g 24) (g 25) (g 26) (g 27)) cl (2 ^ (ndc (g 27) (f 6)).toNat) (2 * (6 * 0 + a) + 0) y12 ∧ y12 (2 * (6 * 0 + a) + 0) < 1000000000 ∧ KP 1000000000 1024 y12 (LDc (f 0) (f 1) (g 5)) (LNc (g 4) (g 3)) (CVc (f 6) (g 24) (g 25) (g 26) (g 27)) cl (2 * (6 * 0 + a) + 0) km ky ∧ (∀ j, 0 ≤ j → j < km → 0 ≤ ky j ∧ ky j < 8) ∧ (8 ≤ kc ∧ kc ≤ 990 ∧ km ≤ kc) ∧ (∀ j, 0 ≤ j → j < 61440 → 0 ≤ y12 j ∧ y12 j ≤ 1000000000) ∧ w = sW D (uN h 23 kb) (up (up f 11 km) 23 k23) (ug (ug (ug (ug (ug (ug (ug (ug g 12 y12) 13 y13) 14 y14) 15 y15) 16 y16) 17 y17) 18 y18) 19 y19) (uN N 11 kc) (uM M 11 (bxA D ky)) (ptW (M 6) (g 24) (g 25) (g 26) (g 27) (f 6) ++ U)))) (fun E _ w => E = EN ∧ ¬ (0 ≤ a ∧ a < f 1) ∧ w = sW D h f g N M (ptW (M 6) (g 24) (g 25) (g 26) (g 27) (f 6) ++ U)) args s (670) (4100)) (sW D (uN h 23 kb) (up (up f 11 km) 23 k23) (ug (ug (ug (ug (ug (ug (ug (ug g 12 y12) 13 y13) 14 y14) 15 y15) 16 y16) 17 y17) 18 y18) 19 y19) (uN N 11 kc) (uM M 11 (bxA D ky)) (ptW (M 6) (g 24) (g 25) (g 26) (g 27) (f 6) ++ U)) 208 [(0, .ref (h 0)), (1, .int (iI a)), (2, .int (iI cl)), (4, .int (iI (2 * (6 * 0 + a) + 0))), (6, .int (iI st_)), (7, .int (iI at_))] [] := by
                            intro n
                            induction n with
                            | zero => intro st_ at_ km k23 ky kb kc cv sv hse hat hvf hkm hkp hk8 hkc2 hcv hm; exact absurd hm (Nat.not_lt_zero _)
                            | succ n ih13 =>
                              intro st_ at_ km k23 ky kb kc cv sv hse hat hvf hkm hkp hk8 hkc2 hcv hm13
                              have hVq := hBel.1 (60 * st_ + at_) (by omega) (by omega)
                              have hmb := mbd_rg (V := y12) (set := st_) hat
                              refine g_aload_n C dX1_best_208 rfl 0 rfl ?_
                              refine gs_get12 C dX1_best_209 ?_
                              refine g_bipush C dX1_best_212 (z := 60) rfl ?_
                              refine g_iload C dX1_best_214 4 rfl ?_
                              refine g_imul C dX1_best_216 ?_
                              refine g_iload C dX1_best_217 5 rfl ?_
                              refine g_iadd C dX1_best_219 ?_
                              refine gs_ald12 C (v := y12 ((60 * st_) + at_)) rfl dX1_best_220 (by omega) ?_
                              have hf14 := hv ((60 * st_) + at_) (by omega) (by omega)
                              refine g_if_le C (tgt := 306) dX1_best_221 (by decide) (by omega) (fun hc221_15 => ?_) (fun hc221_15 => ?_)
                              ·
                                refine g_aload_n C dX1_best_306 rfl 0 rfl ?_
                                refine gs_get12 C dX1_best_307 ?_
                                refine g_iload C dX1_best_310 3 rfl ?_
                                refine gs_ald12 C (v := y12 (2 * (6 * 0 + a) + 0)) rfl dX1_best_312 (by omega) ?_
                                have hf16 := hv (2 * (6 * 0 + a) + 0) (by omega) (by omega)
                                refine g_sipush C dX1_best_313 (z := 1024) rfl ?_
                                refine g_idiv C dX1_best_316 (by omega) (by omega) ?_
                                exact g_iret C dX1_best_317 rfl (by omega) (by omega) ⟨_, rfl, by omega, Or.inr (Or.inr ⟨by omega, y12, y13, y14, y15, y16, y17, y18, y19, km, k23, kb, kc, ky, rfl, Bel_T hTa hBel, by omega, KP_T (by omega) hnb hTB (by omega) hBel (by rw [show (60 : Int) * 0 + (2 * (6 * 0 + a) + 0) = 2 * (6 * 0 + a) + 0 by omega]; omega) hTa (hkp.end (by omega) (by omega)), hk8, hkc2, hv, rfl⟩)⟩
                              ·
                                obtain ⟨s1, s2, s3, s4, s5, s6, s7, s8⟩ := pstep (by omega) hnb hTB hse hat hBel (by omega) hvf
                                have hpf := pfirst hse hat hBel (by omega) hvf
                                refine g_iconst C dX1_best_224 ?_
                                refine g_istore C dX1_best_225 (lv' := [(0, .ref (h 0)), (1, .int (iI a)), (2, .int (iI cl)), (4, .int (iI (2 * (6 * 0 + a) + 0))), (6, .int (iI st_)), (7, .int (iI at_)), (8, .int (iI 0))]) [1, 2, 3, 4, 5, 6, 0] rfl (Nat.le_of_ble_eq_true rfl) ?_
                                have L17 : ∀ (n : Nat) (m : Int), (0 ≤ m ∧ m ≤ fstM 1000000000 1024 y12 y14 (LNc (g 4) (g 3)) (cvS y16 y13) cl st_ at_ 0 8) → (8 - m).toNat < n → GO p l e (rmD 8 670 4100) s mm args below meth c 10 D A A cv sv (MX below D A (pI fun z w => (0 ≤ a ∧ a < f 1) ∧ ((10 < ndc (g 27) (f 6) ∧ z = -1 ∧ w = sW D h f g N M (ptW (M 6) (g 24) (g 25) (g 26) (g 27) (f 6) ++ U)) ∨ (ndc (g 27) (f 6) ≤ 10 ∧ ∃ y12 : Int → Int, ∃ y13 : Int → Int, ∃ y14 : Int → Int, ∃ y15 : Int → Int, ∃ y16 : Int → Int, ∃ y17 : Int → Int, ∃ y18 : Int → Int, ∃ y19 : Int → Int, z = -1 ∧ Bel 1000000000 1024 (LDc (f 0) (f 1) (g 5)) (LNc (g 4) (g 3)) (CVc (f 6) (g 24) (g 25) (g 26) (g 27)) cl (2 ^ (ndc (g 27) (f 6)).toNat) (2 * (6 * 0 + a) + 0) y12 ∧ 1000000000 ≤ y12 (2 * (6 * 0 + a) + 0) ∧ (∀ j, 0 ≤ j → j < 61440 → 0 ≤ y12 j ∧ y12 j ≤ 1000000000) ∧ w = sW D h f (ug (ug (ug (ug (ug (ug (ug (ug g 12 y12) 13 y13) 14 y14) 15 y15) 16 y16) 17 y17) 18 y18) 19 y19) N M (ptW (M 6) (g 24) (g 25) (g 26) (g 27) (f 6) ++ U)) ∨ (ndc (g 27) (f 6) ≤ 10 ∧ ∃ y12 : Int → Int, ∃ y13 : Int → Int, ∃ y14 : Int → Int, ∃ y15 : Int → Int, ∃ y16 : Int → Int, ∃ y17 : Int → Int, ∃ y18 : Int → Int, ∃ y19 : Int → Int, ∃ (km k23 : Int) (kb kc : Nat) (ky : Int → Int), z = y12 (2 * (6 * 0 + a) + 0) / 1024 ∧ Bel 1000000000 1024 (LDc (f 0) (f 1) (g 5)) (LNc (g 4) (g 3)) (CVc (f 6) (g 24) (g 25) (g 26) (g 27)) cl (2 ^ (ndc (g 27) (f 6)).toNat) (2 * (6 * 0 + a) + 0) y12 ∧ y12 (2 * (6 * 0 + a) + 0) < 1000000000 ∧ KP 1000000000 1024 y12 (LDc (f 0) (f 1) (g 5)) (LNc (g 4) (g 3)) (CVc (f 6) (g 24) (g 25) (g 26) (g 27)) cl (2 * (6 * 0 + a) + 0) km ky ∧ (∀ j, 0 ≤ j → j < km → 0 ≤ ky j ∧ ky j < 8) ∧ (8 ≤ kc ∧ kc ≤ 990 ∧ km ≤ kc) ∧ (∀ j, 0 ≤ j → j < 61440 → 0 ≤ y12 j ∧ y12 j ≤ 1000000000) ∧ w = sW D (uN h 23 kb) (up (up f 11 km) 23 k23) (ug (ug (ug (ug (ug (ug (ug (ug g 12 y12) 13 y13) 14 y14) 15 y15) 16 y16) 17 y17) 18 y18) 19 y19) (uN N 11 kc) (uM M 11 (bxA D ky)) (ptW (M 6) (g 24) (g 25) (g 26) (g 27) (f 6) ++ U)))) (fun E _ w => E = EN ∧ ¬ (0 ≤ a ∧ a < f 1) ∧ w = sW D h f g N M (ptW (M 6) (g 24) (g 25) (g 26) (g 27) (f 6) ++ U)) args s (670) (4100)) (sW D (uN h 23 kb) (up (up f 11 km) 23 k23) (ug (ug (ug (ug (ug (ug (ug (ug g 12 y12) 13 y13) 14 y14) 15 y15) 16 y16) 17 y17) 18 y18) 19 y19) (uN N 11 kc) (uM M 11 (bxA D ky)) (ptW (M 6) (g 24) (g 25) (g 26) (g 27) (f 6) ++ U)) 227 [(0, .ref (h 0)), (1, .int (iI a)), (2, .int (iI cl)), (4, .int (iI (2 * (6 * 0 + a) + 0))), (6, .int (iI st_)), (7, .int (iI at_)), (8, .int (iI m))] [] := by
                                  intro n
                                  induction n with
                                  | zero => intro m hm hm; exact absurd hm (Nat.not_lt_zero _)
                                  | succ n ih17 =>
                                    intro m hm hm17
                                    refine g_aload_n C dX1_best_227 rfl 0 rfl ?_
                                    refine g_iload C dX1_best_228 4 rfl ?_
                                    refine g_iload C dX1_best_230 5 rfl ?_
                                    refine g_iload C dX1_best_232 6 rfl ?_
                                    refine g_iload_n C dX1_best_234 rfl 2 rfl ?_
                                    refine kX1_X1_byMove (uN h 23 kb) (up (up f 11 km) 23 k23) (ug (ug (ug (ug (ug (ug (ug (ug g 12 y12) 13 y13) 14 y14) 15 y15) 16 y16) 17 y17) 18 y18) 19 y19) (uN N 11 kc) (uM M 11 (bxA D ky)) (ptW (M 6) (g 24) (g 25) (g 26) (g 27) (f 6) ++ U) st_ at_ m cl C hnp htb hbt hv hco (by omega) (by omega) (by omega) hcl ⟨Nat.le_of_ble_eq_true rfl, Nat.le_of_ble_eq_true rfl⟩ (Nat.le_of_ble_eq_true rfl) ⟨(by show _ ≤ 670; omega), (by show _ ≤ 4100; omega)⟩ (rv := mvS (y12) (y14) (y15) (y16) (y13) st_ at_ m cl) rfl Sb.rf dX1_best_235 ?_
                                    have hmv : mvS y12 y14 y15 y16 y13 st_ at_ m cl = mvK 1000000000 1024 y12 y14 (LNc (g 4) (g 3)) (cvS y16 y13) cl st_ (8 * at_ + m) := mvS_K (hcost (8 * at_ + m) (by omega) (by omega))
                                    have hmk := mvK_nn (cl := cl) hnb hTB hse (k := 8 * at_ + m) ⟨by omega, by omega⟩ hBel.1
                                    refine g_aload_n C dX1_best_238 rfl 0 rfl ?_
                                    refine gs_get12 C dX1_best_239 ?_
                                    refine g_bipush C dX1_best_242 (z := 60) rfl ?_
                                    refine g_iload C dX1_best_244 4 rfl ?_
                                    refine g_imul C dX1_best_246 ?_
                                    refine g_iload C dX1_best_247 5 rfl ?_
                                    refine g_iadd C dX1_best_249 ?_
                                    refine gs_ald12 C (v := y12 ((60 * st_) + at_)) rfl dX1_best_250 (by omega) ?_
                                    have hf18 := hv ((60 * st_) + at_) (by omega) (by omega)
                                    refine g_icmp_eq C (tgt := 260) dX1_best_251 (by decide) (by omega) (by omega) (fun hc251_19 => ?_) (fun hc251_19 => ?_)
                                    ·
                                      have em : m = fstM 1000000000 1024 y12 y14 (LNc (g 4) (g 3)) (cvS y16 y13) cl st_ at_ 0 8 := by rcases Int.lt_or_eq_of_le hm.2 with q9 | q9; (exact absurd (show mvK 1000000000 1024 y12 y14 (LNc (g 4) (g 3)) (cvS y16 y13) cl st_ (8 * at_ + m) = y12 (60 * st_ + at_) by omega) (hpf.2 m hm.1 q9)); exact q9
                                      subst em
                                      refine g_aload_n C dX1_best_260 rfl 0 rfl ?_
                                      refine gs_get11 C dX1_best_261 ?_
                                      refine g_iload C dX1_best_264 6 rfl ?_
                                      refine kX1_ivalueOf (fstM 1000000000 1024 y12 y14 (LNc (g 4) (g 3)) (cvS y16 y13) cl st_ at_ 0 8) C (by omega) ⟨Nat.le_of_ble_eq_true rfl, Nat.le_of_ble_eq_true rfl⟩ (Nat.le_of_ble_eq_true rfl) ⟨(by show _ ≤ 670; omega), (by show _ ≤ 4100; omega)⟩ dX1_best_266 ?_
                                      have hgc := gr_cp2 (c := kc) (n := km) (by omega)
                                      refine gs_addKept C (v := (fstM 1000000000 1024 y12 y14 (LNc (g 4) (g 3)) (cvS y16 y13) cl st_ at_ 0 8)) (show 0 ≤ km ∧ km ≤ ((kc : Nat) : Int) ∧ 1 ≤ kc ∧ kc < 1000 by omega) (bx_any (fun j h0 h1 => by have := hk8 j h0 h1; omega)) (by omega) ⟨Nat.le_of_ble_eq_true rfl, Nat.le_of_ble_eq_true rfl⟩ (Nat.le_of_ble_eq_true rfl) ⟨(by show cv + 1 ≤ 670; omega), (by show sv + grS kc km ≤ 4100; omega)⟩ dX1_best_269 (fun b1 => ?_)
                                      refine g_ws (ws' := sW D (uN h 23 b1) (up (up f 11 (km + 1)) 23 (k23 + 1)) (ug (ug (ug (ug (ug (ug (ug (ug g 12 y12) 13 y13) 14 y14) 15 y15) 16 y16) 17 y17) 18 y18) 19 y19) (uN N 11 (grC kc km)) (uM M 11 (bxA D (uI ky km (fstM 1000000000 1024 y12 y14 (LNc (g 4) (g 3)) (cvS y16 y13) cl st_ at_ 0 8)))) (ptW (M 6) (g 24) (g 25) (g 26) (g 27) (f 6) ++ U)) (by rw [← bx_add hkm.1]; rfl) ?_
                                      refine g_widen (k := cv + 1) (n := sv + grS kc km) (Nat.le_refl _) (Nat.le_refl _) ?_
                                      refine g_pop C dX1_best_272 rfl ?_
                                      refine g_bipush C dX1_best_273 (z := 8) rfl ?_
                                      refine g_iload C dX1_best_275 5 rfl ?_
                                      refine g_imul C dX1_best_277 ?_
                                      refine g_iload C dX1_best_278 6 rfl ?_
                                      refine g_iadd C dX1_best_280 ?_
                                      have hbe : bhS y14 y16 y13 st_ (8 * at_ + fstM 1000000000 1024 y12 y14 (LNc (g 4) (g 3)) (cvS y16 y13) cl st_ at_ 0 8) cl = bhd st_ ((cvS y16 y13) (8 * at_ + fstM 1000000000 1024 y12 y14 (LNc (g 4) (g 3)) (cvS y16 y13) cl st_ at_ 0 8)) cl := bhS_bhd (by omega)
                                      refine g_istore C dX1_best_281 (lv' := [(0, .ref (h 0)), (1, .int (iI a)), (2, .int (iI cl)), (4, .int (iI (2 * (6 * 0 + a) + 0))), (6, .int (iI st_)), (7, .int (iI at_)), (8, .int (iI (fstM 1000000000 1024 y12 y14 (LNc (g 4) (g 3)) (cvS y16 y13) cl st_ at_ 0 8))), (9, .int (iI ((8 * at_) + (fstM 1000000000 1024 y12 y14 (LNc (g 4) (g 3)) (cvS y16 y13) cl st_ at_ 0 8))))]) [1, 2, 3, 4, 5, 6, 7, 0] rfl (Nat.le_of_ble_eq_true rfl) ?_
                                      refine g_aload_n C dX1_best_283 rfl 0 rfl ?_
                                      refine g_iload C dX1_best_284 4 rfl ?_
                                      refine g_iload C dX1_best_286 7 rfl ?_
                                      refine g_iload_n C dX1_best_288 rfl 2 rfl ?_
                                      refine kX1_X1_behind (uN h 23 b1) (up (up f 11 (km + 1)) 23 (k23 + 1)) (ug (ug (ug (ug (ug (ug (ug (ug g 12 y12) 13 y13) 14 y14) 15 y15) 16 y16) 17 y17) 18 y18) 19 y19) (uN N 11 (grC kc km)) (uM M 11 (bxA D (uI ky km (fstM 1000000000 1024 y12 y14 (LNc (g 4) (g 3)) (cvS y16 y13) cl st_ at_ 0 8)))) (ptW (M 6) (g 24) (g 25) (g 26) (g 27) (f 6) ++ U) st_ ((8 * at_) + (fstM 1000000000 1024 y12 y14 (LNc (g 4) (g 3)) (cvS y16 y13) cl st_ at_ 0 8)) cl C hnp htb hbt (by omega) (by omega) hcl ⟨Nat.le_of_ble_eq_true rfl, Nat.le_of_ble_eq_true rfl⟩ (Nat.le_of_ble_eq_true rfl) ⟨(by show _ ≤ 670; omega), (by show _ ≤ 4100; omega)⟩ (rv := bhS (y14) (y16) (y13) st_ ((8 * at_) + (fstM 1000000000 1024 y12 y14 (LNc (g 4) (g 3)) (cvS y16 y13) cl st_ at_ 0 8)) cl) rfl Sb.rf dX1_best_289 ?_
                                      refine g_istore C dX1_best_292 (lv' := [(0, .ref (h 0)), (1, .int (iI a)), (2, .int (iI cl)), (4, .int (iI (2 * (6 * 0 + a) + 0))), (6, .int (iI (bhS (y14) (y16) (y13) st_ ((8 * at_) + (fstM 1000000000 1024 y12 y14 (LNc (g 4) (g 3)) (cvS y16 y13) cl st_ at_ 0 8)) cl))), (7, .int (iI at_)), (8, .int (iI (fstM 1000000000 1024 y12 y14 (LNc (g 4) (g 3)) (cvS y16 y13) cl st_ at_ 0 8))), (9, .int (iI ((8 * at_) + (fstM 1000000000 1024 y12 y14 (LNc (g 4) (g 3)) (cvS y16 y13) cl st_ at_ 0 8))))]) [1, 2, 3, 4, 0, 5, 6, 7] rfl (Nat.le_of_ble_eq_true rfl) ?_
                                      refine g_aload_n C dX1_best_294 rfl 0 rfl ?_
                                      refine gs_get14 C dX1_best_295 ?_
                                      refine g_iload C dX1_best_298 7 rfl ?_
                                      refine gs_ald14 C (v := y14 ((8 * at_) + (fstM 1000000000 1024 y12 y14 (LNc (g 4) (g 3)) (cvS y16 y13) cl st_ at_ 0 8))) rfl dX1_best_300 (by omega) ?_
                                      refine g_istore C dX1_best_301 (lv' := [(0, .ref (h 0)), (1, .int (iI a)), (2, .int (iI cl)), (4, .int (iI (2 * (6 * 0 + a) + 0))), (6, .int (iI (bhS (y14) (y16) (y13) st_ ((8 * at_) + (fstM 1000000000 1024 y12 y14 (LNc (g 4) (g 3)) (cvS y16 y13) cl st_ at_ 0 8)) cl))), (7, .int (iI (y14 ((8 * at_) + (fstM 1000000000 1024 y12 y14 (LNc (g 4) (g 3)) (cvS y16 y13) cl st_ at_ 0 8))))), (8, .int (iI (fstM 1000000000 1024 y12 y14 (LNc (g 4) (g 3)) (cvS y16 y13) cl st_ at_ 0 8))), (9, .int (iI ((8 * at_) + (fstM 1000000000 1024 y12 y14 (LNc (g 4) (g 3)) (cvS y16 y13) cl st_ at_ 0 8))))]) [1, 2, 3, 4, 5, 0, 6, 7] rfl (Nat.le_of_ble_eq_true rfl) ?_
                                      refine g_goto C (tgt := 208) dX1_best_303 (by decide) ?_
                                      refine g_lv [0, 1, 2, 3, 4, 5] rfl ?_
                                      exact ih13 (bhS (y14) (y16) (y13) st_ ((8 * at_) + (fstM 1000000000 1024 y12 y14 (LNc (g 4) (g 3)) (cvS y16 y13) cl st_ at_ 0 8)) cl) (y14 ((8 * at_) + (fstM 1000000000 1024 y12 y14 (LNc (g 4) (g 3)) (cvS y16 y13) cl st_ at_ 0 8))) (km + 1) (k23 + 1) (uI ky km (fstM 1000000000 1024 y12 y14 (LNc (g 4) (g 3)) (cvS y16 y13) cl st_ at_ 0 8)) b1 (grC kc km) (cv + 1) (sv + grS kc km) (by rw [hbe]; omega) (by omega) (by rw [hbe]; omega) (by rw [hbe]; omega) (by rw [hbe]; exact KPk_s hkp hkm.1 (by omega)) (fun j h0 h1 => by unfold uI; split; (omega); (exact hk8 j h0 (by omega))) (by omega) (by omega) (by rw [hbe]; omega)
                                    ·
                                      refine g_iinc C dX1_best_254 6 rfl (lv' := [(0, .ref (h 0)), (1, .int (iI a)), (2, .int (iI cl)), (4, .int (iI (2 * (6 * 0 + a) + 0))), (6, .int (iI st_)), (7, .int (iI at_)), (8, .int (iI (m + 1)))]) [1, 2, 3, 4, 5, 6, 0] rfl (Nat.le_of_ble_eq_true rfl) ?_
                                      refine g_goto C (tgt := 227) dX1_best_257 (by decide) ?_
                                      exact ih17 (m + 1) (by have hne : m ≠ fstM 1000000000 1024 y12 y14 (LNc (g 4) (g 3)) (cvS y16 y13) cl st_ at_ 0 8 := (fun q9 => by have q8 := hpf.1; rw [← q9] at q8; omega); omega) (by omega)
                                exact L17 _ 0 (by omega) (Nat.lt_succ_self _)
                          refine g_lv [0, 1, 2, 3, 5, 6] rfl ?_
                          exact L13 _ 0 (2 * (6 * 0 + a) + 0) 0 (f 23 + 1) (fun _ => 0) (h 23) (N 11) (0 + 1) (0 + 6) (by omega) (by omega) (by rw [show (60 : Int) * 0 + (2 * (6 * 0 + a) + 0) = 2 * (6 * 0 + a) + 0 by omega]; omega) (by have := mbd_rg (V := y12) (set := 0) (at_ := 2 * (6 * 0 + a) + 0) (by omega); omega) KPk_0 (fun j h0 h1 => absurd h1 (by omega)) (by omega) (by omega) (Nat.lt_succ_self _)
                        ·
                          refine g_iconst C dX1_best_192 ?_
                          exact g_iret C dX1_best_193 rfl (by omega) (by omega) ⟨_, rfl, by omega, Or.inr (Or.inl ⟨by omega, y12, y13, y14, y15, y16, y17, y18, y19, rfl, Bel_T hTa hBel, by omega, hv, rfl⟩)⟩
                      ·
                        refine g_aload_n C dX1_best_167 rfl 0 rfl ?_
                        refine g_iload C dX1_best_168 5 rfl ?_
                        refine g_iload_n C dX1_best_170 rfl 2 rfl ?_
                        refine kX1_X1_settles h f (ug (ug (ug (ug (ug (ug (ug (ug g 12 y12) 13 y13) 14 y14) 15 y15) 16 y16) 17 y17) 18 y18) 19 y19) N M (ptW (M 6) (g 24) (g 25) (g 26) (g 27) (f 6) ++ U) (ndc (g 27) (f 6)).toNat (LNc (g 4) (g 3)) (2 * (6 * 0 + a) + 0) mk cl C hnp htb hbt hv hco hnb hTB hcost hCM (by omega) (by omega) hcl hRK ⟨Nat.le_of_ble_eq_true rfl, Nat.le_of_ble_eq_true rfl⟩ (Nat.le_of_ble_eq_true rfl) ⟨(by show _ ≤ 670; omega), (by show _ ≤ 4100; omega)⟩ dX1_best_171 ?_
                        intro z12 z19 hv2 hRK2
                        refine g_ws (ws' := sW D h f (ug (ug (ug (ug (ug (ug (ug (ug g 12 z12) 13 y13) 14 y14) 15 y15) 16 y16) 17 y17) 18 y18) 19 z19) N M (ptW (M 6) (g 24) (g 25) (g 26) (g 27) (f 6) ++ U)) rfl ?_
                        refine g_iinc C dX1_best_174 5 rfl (lv' := [(0, .ref (h 0)), (1, .int (iI a)), (2, .int (iI cl)), (4, .int (iI (2 * (6 * 0 + a) + 0))), (5, .int (iI ((2 ^ (ndc (g 27) (f 6)).toNat) - 1))), (6, .int (iI (mk + (-1))))]) [1, 2, 3, 4, 5, 0] rfl (Nat.le_of_ble_eq_true rfl) ?_
                        refine g_goto C (tgt := 162) dX1_best_177 (by decide) ?_
                        exact ih9 (mk + (-1)) z12 z19 (by omega) hv2 hRK2 (by omega)
                  exact L9 _ ((2 ^ (ndc (g 27) (f 6)).toNat) - 1) (uI y12 ((60 * ((2 ^ (ndc (g 27) (f 6)).toNat) - 1)) + (2 * (6 * 0 + a) + 0)) 0) (g 19) (by omega) (fun j h0 h1 => by unfold uI; split; (have := hv j h0 h1; omega); (exact hv j h0 h1)) (by rw [show 60 * (2 ^ (ndc (g 27) (f 6)).toNat - 1) + (2 * (6 * 0 + a) + 0) = 60 * ((2 ^ (ndc (g 27) (f 6)).toNat : Int) - 1) + (2 * (6 * 0 + a) + 0) from rfl]; exact RK_init (by omega) (by omega) (by omega) (fun q h0 h1 => hfar q h0 (by omega))) (Nat.lt_succ_self _)
                ·
                  refine g_aload_n C dX1_best_129 rfl 0 rfl ?_
                  refine gs_get12 C dX1_best_130 ?_
                  refine g_iload C dX1_best_133 5 rfl ?_
                  refine g_ldc C q953 dX1_best_135 (z := 1000000000) rfl ?_
                  refine gs_ast12 C (g' := (ug (ug (ug (ug (ug (ug (ug g 12 (uI y12 k 1000000000)) 13 y13) 14 y14) 15 y15) 16 y16) 17 y17) 18 y18)) rfl dX1_best_137 (by omega) ?_
                  refine g_iinc C dX1_best_138 5 rfl (lv' := [(0, .ref (h 0)), (1, .int (iI a)), (2, .int (iI cl)), (4, .int (iI (2 * (6 * 0 + a) + 0))), (5, .int (iI ((2 ^ (ndc (g 27) (f 6)).toNat) - 1))), (6, .int (iI (k + 1)))]) [1, 2, 3, 4, 5, 0] rfl (Nat.le_of_ble_eq_true rfl) ?_
                  refine g_goto C (tgt := 117) dX1_best_141 (by decide) ?_
                  exact ih7 (k + 1) (uI y12 k 1000000000) (by omega) (fun j h0 h1 => by unfold uI; split; (have := hv j h0 h1; omega); (exact hv j h0 h1)) (uI_all (P := fun j y => y = 1000000000) hfar rfl) (by omega)
            refine g_lv [0, 1, 2, 4, 5, 6] rfl ?_
            exact L7 _ 0 (g 12) (by omega) hv (fun j h0 h1 => absurd h1 (by omega)) (Nat.lt_succ_self _)
          ·
            refine g_aload_n C dX1_best_33 rfl 0 rfl ?_
            refine gs_get13 C dX1_best_34 ?_
            refine g_iload C dX1_best_37 4 rfl ?_
            refine g_aload_n C dX1_best_39 rfl 0 rfl ?_
            refine gs_get6 C dX1_best_40 ?_
            refine g_iload C dX1_best_43 4 rfl ?_
            refine kX1_lget (h 6) (h 21) (f 21) (N 6) (f 6) (M 6) k C (by omega) (show 0 ≤ (f 6) ∧ (f 6) ≤ ((N 6 : Nat) : Int) ∧ N 6 ≤ 3000 by omega) ⟨Nat.le_of_ble_eq_true rfl, Nat.le_of_ble_eq_true rfl⟩ (Nat.le_of_ble_eq_true rfl) ⟨(by show _ ≤ 670; omega), (by show _ ≤ 4100; omega)⟩ sb_l6 dX1_best_45 ?_
            refine g_castE C q438 (pt_rcv (j := k) C (by omega)) dX1_best_48 ?_
            refine gp_get3 C (j := k) (v := (g 27) k) (by omega) rfl dX1_best_51 ?_
            have hf20 := hpt (k) (by omega) (by omega)
            refine g_if_eq C (tgt := 61) dX1_best_54 (by decide) (by omega) (fun hc54_21 => ?_) (fun hc54_21 => ?_)
            ·
              refine g_iconst C dX1_best_61 ?_
              refine gs_ast13 C (g' := (ug g 13 (uI y13 k (-1)))) rfl dX1_best_62 (by omega) ?_
              refine g_iload_n C dX1_best_63 rfl 3 rfl ?_
              refine g_aload_n C dX1_best_64 rfl 0 rfl ?_
              refine gs_get6 C dX1_best_65 ?_
              refine g_iload C dX1_best_68 4 rfl ?_
              refine kX1_lget (h 6) (h 21) (f 21) (N 6) (f 6) (M 6) k C (by omega) (show 0 ≤ (f 6) ∧ (f 6) ≤ ((N 6 : Nat) : Int) ∧ N 6 ≤ 3000 by omega) ⟨Nat.le_of_ble_eq_true rfl, Nat.le_of_ble_eq_true rfl⟩ (Nat.le_of_ble_eq_true rfl) ⟨(by show _ ≤ 670; omega), (by show _ ≤ 4100; omega)⟩ sb_l6 dX1_best_70 ?_
              refine g_castE C q438 (pt_rcv (j := k) C (by omega)) dX1_best_73 ?_
              refine gp_get3 C (j := k) (v := (g 27) k) (by omega) rfl dX1_best_76 ?_
              have hf22 := hpt (k) (by omega) (by omega)
              refine g_if_eq C (tgt := 86) dX1_best_79 (by decide) (by omega) (fun hc79_23 => ?_) (fun hc79_23 => ?_)
              ·
                refine g_iconst C dX1_best_86 ?_
                refine g_iadd C dX1_best_87 ?_
                refine g_istore_n C dX1_best_88 rfl (lv' := [(0, .ref (h 0)), (1, .int (iI a)), (2, .int (iI cl)), (3, .int (iI (nn + 0))), (4, .int (iI k))]) [1, 2, 3, 0, 4] rfl (Nat.le_of_ble_eq_true rfl) ?_
                refine g_iinc C dX1_best_89 4 rfl (lv' := [(0, .ref (h 0)), (1, .int (iI a)), (2, .int (iI cl)), (3, .int (iI (nn + 0))), (4, .int (iI (k + 1)))]) [1, 2, 3, 4, 0] rfl (Nat.le_of_ble_eq_true rfl) ?_
                refine g_goto C (tgt := 21) dX1_best_92 (by decide) ?_
                exact ih5 (k + 1) (nn + 0) (uI y13 k (-1)) (by omega) (by rw [ndc_s hk.1, hn]; omega) (uI_all (P := fun j y => y = if g 27 j = 0 then -1 else ndc (g 27) j) hy13 (by first | (exfalso; omega) | (rw [if_pos (by omega)] <;> omega) | (rw [if_neg (by omega)] <;> omega))) (by omega)
              ·
                refine g_iconst C dX1_best_82 ?_
                refine g_goto C (tgt := 87) dX1_best_83 (by decide) ?_
                refine g_iadd C dX1_best_87 ?_
                refine g_istore_n C dX1_best_88 rfl (lv' := [(0, .ref (h 0)), (1, .int (iI a)), (2, .int (iI cl)), (3, .int (iI (nn + 1))), (4, .int (iI k))]) [1, 2, 3, 0, 4] rfl (Nat.le_of_ble_eq_true rfl) ?_
                refine g_iinc C dX1_best_89 4 rfl (lv' := [(0, .ref (h 0)), (1, .int (iI a)), (2, .int (iI cl)), (3, .int (iI (nn + 1))), (4, .int (iI (k + 1)))]) [1, 2, 3, 4, 0] rfl (Nat.le_of_ble_eq_true rfl) ?_
                refine g_goto C (tgt := 21) dX1_best_92 (by decide) ?_
                exact ih5 (k + 1) (nn + 1) (uI y13 k (-1)) (by omega) (by rw [ndc_s hk.1, hn]; omega) (uI_all (P := fun j y => y = if g 27 j = 0 then -1 else ndc (g 27) j) hy13 (by first | (exfalso; omega) | (rw [if_pos (by omega)] <;> omega) | (rw [if_neg (by omega)] <;> omega))) (by omega)
            ·
              refine g_iload_n C dX1_best_57 rfl 3 rfl ?_
              refine g_goto C (tgt := 62) dX1_best_58 (by decide) ?_
              refine gs_ast13 C (g' := (ug g 13 (uI y13 k nn))) rfl dX1_best_62 (by omega) ?_
              refine g_iload_n C dX1_best_63 rfl 3 rfl ?_
              refine g_aload_n C dX1_best_64 rfl 0 rfl ?_
              refine gs_get6 C dX1_best_65 ?_
              refine g_iload C dX1_best_68 4 rfl ?_
              refine kX1_lget (h 6) (h 21) (f 21) (N 6) (f 6) (M 6) k C (by omega) (show 0 ≤ (f 6) ∧ (f 6) ≤ ((N 6 : Nat) : Int) ∧ N 6 ≤ 3000 by omega) ⟨Nat.le_of_ble_eq_true rfl, Nat.le_of_ble_eq_true rfl⟩ (Nat.le_of_ble_eq_true rfl) ⟨(by show _ ≤ 670; omega), (by show _ ≤ 4100; omega)⟩ sb_l6 dX1_best_70 ?_
              refine g_castE C q438 (pt_rcv (j := k) C (by omega)) dX1_best_73 ?_
              refine gp_get3 C (j := k) (v := (g 27) k) (by omega) rfl dX1_best_76 ?_
              have hf24 := hpt (k) (by omega) (by omega)
              refine g_if_eq C (tgt := 86) dX1_best_79 (by decide) (by omega) (fun hc79_25 => ?_) (fun hc79_25 => ?_)
              ·
                refine g_iconst C dX1_best_86 ?_
                refine g_iadd C dX1_best_87 ?_
                refine g_istore_n C dX1_best_88 rfl (lv' := [(0, .ref (h 0)), (1, .int (iI a)), (2, .int (iI cl)), (3, .int (iI (nn + 0))), (4, .int (iI k))]) [1, 2, 3, 0, 4] rfl (Nat.le_of_ble_eq_true rfl) ?_
                refine g_iinc C dX1_best_89 4 rfl (lv' := [(0, .ref (h 0)), (1, .int (iI a)), (2, .int (iI cl)), (3, .int (iI (nn + 0))), (4, .int (iI (k + 1)))]) [1, 2, 3, 4, 0] rfl (Nat.le_of_ble_eq_true rfl) ?_
                refine g_goto C (tgt := 21) dX1_best_92 (by decide) ?_
                exact ih5 (k + 1) (nn + 0) (uI y13 k nn) (by omega) (by rw [ndc_s hk.1, hn]; omega) (uI_all (P := fun j y => y = if g 27 j = 0 then -1 else ndc (g 27) j) hy13 (by first | (exfalso; omega) | (rw [if_pos (by omega)] <;> omega) | (rw [if_neg (by omega)] <;> omega))) (by omega)
              ·
                refine g_iconst C dX1_best_82 ?_
                refine g_goto C (tgt := 87) dX1_best_83 (by decide) ?_
                refine g_iadd C dX1_best_87 ?_
                refine g_istore_n C dX1_best_88 rfl (lv' := [(0, .ref (h 0)), (1, .int (iI a)), (2, .int (iI cl)), (3, .int (iI (nn + 1))), (4, .int (iI k))]) [1, 2, 3, 0, 4] rfl (Nat.le_of_ble_eq_true rfl) ?_
                refine g_iinc C dX1_best_89 4 rfl (lv' := [(0, .ref (h 0)), (1, .int (iI a)), (2, .int (iI cl)), (3, .int (iI (nn + 1))), (4, .int (iI (k + 1)))]) [1, 2, 3, 4, 0] rfl (Nat.le_of_ble_eq_true rfl) ?_
                refine g_goto C (tgt := 21) dX1_best_92 (by decide) ?_
                exact ih5 (k + 1) (nn + 1) (uI y13 k nn) (by omega) (by rw [ndc_s hk.1, hn]; omega) (uI_all (P := fun j y => y = if g 27 j = 0 then -1 else ndc (g 27) j) hy13 (by first | (exfalso; omega) | (rw [if_pos (by omega)] <;> omega) | (rw [if_neg (by omega)] <;> omega))) (by omega)
      exact L5 _ 0 0 (g 13) (by omega) rfl (fun j h0 h1 => absurd h1 (by omega)) (Nat.lt_succ_self _)
    ·
      refine g_iconst C dX1_best_14 ?_
      exact g_iret C dX1_best_15 rfl (by omega) (by omega) ⟨_, rfl, by omega, Or.inl ⟨by omega, rfl, rfl⟩⟩
  ·
    exact x_out C htab (Nat.le_of_ble_eq_true rfl) (Nat.le_of_ble_eq_true rfl) ⟨rfl, by omega, rfl⟩

end SC17
