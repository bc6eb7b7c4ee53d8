/-! ===== contracts of the class: plan ===== -/
theorem AnyX.sb {D : va_G} {x : Nat} {wx wx' : va_W} (hs : Sb wx wx') (h : AnyX D x wx') : AnyX D x wx := fun p l s m args meth c own cc nL ret A H locs C hP hS => h p l s m args meth c own cc nL ret A H locs C (hs.1 _ _ _ hP) hS
theorem plC_any {D : va_G} {pq : Nat → Nat} {pz : Nat → Int} {pv : Nat → Int → Int} : AnyX D (pq 0) (plC D pq pz pv) := AnyX.obj (q0 := 0) (ci := 3) rfl rfl (by decide)
theorem plW_any {D : va_G} {P : List PR} {i : Nat} {r : PR} (h : P[i]? = some r) : AnyX D (r.1 0) (plW D P) := by
  obtain ⟨V, hV⟩ := plW_at (D := D) h
  exact AnyX.sb (Sb.tr (Sb.perm hV) Sb.lt) plC_any
section MK
variable {p : Program} {l : Launch} {e : Env} {R : Room} {s : State} {mm : MethodId} {args : Array Value} {below : List Frame} {meth : Method} {c : Code} {cc : ByteArray} {nL : Nat} {ret : Option FieldType} {D : va_G} {A B : Nat → Prop} {cells slots : Nat} {Q : State → Prop} {pc : Nat} {lv : List (Nat × Value)} {st : List Value}
theorem gs_addPlan {h : Nat → Nat} {f : Nat → Int} {g : Nat → Int → Int} {N : Nat → Nat} {M : Nat → Nat → Nat} {T : va_W} {P : List PR} {pq : Nat → Nat} {pz : Nat → Int} {pv : Nat → Int → Int} (C : CX p l s mm args meth c RX1 cc nL ret D A) (hn : 0 ≤ f 7 ∧ f 7 ≤ N 7 ∧ 1 ≤ N 7 ∧ N 7 < 1000) (hPS : PS f g M P) (hR : 7 + 1 ≤ R.frames ∧ 8 + (2 + 11) + 64 * 7 ≤ R.locals) (hcat : (st.map fun v => v.category).sum ≤ 8) (hroom : cells + 1 ≤ R.cells ∧ slots + grS (N 7) (f 7) ≤ R.slots) (d : decode cc pc = .ok (.invokevirtual 102, 3))
  (K : ∀ b1 : Nat, GO p l e R s mm args below meth c nL D A A (cells + 1) (slots + grS (N 7) (f 7)) Q (sW D (uN h 22 b1) (up (up f 7 (f 7 + 1)) 22 (f 22 + 1)) g (uN N 7 (grC (N 7) (f 7))) (uM M 7 (paU (M 7) (f 7) (pq 0))) (T ++ (plW D P ++ plC D pq pz pv))) (pc + 3) lv (.int (iI 1) :: st)) :
  GO p l e R s mm args below meth c nL D A A cells slots Q (sW D h f g N M (T ++ (plW D P ++ plC D pq pz pv))) pc lv (.ref (pq 0) :: .ref (h 7) :: st) := by
  have hsb : Sb (sF D h f g N M ++ (T ++ (plW D P ++ plC D pq pz pv))) (sR7 D h f g N M ++ (LW D (h 7) (h 22) (f 22) (N 7) (f 7) (M 7) ++ (T ++ (plW D P ++ plC D pq pz pv)))) := by
    rw [← List.append_assoc (sR7 D h f g N M)]
    exact Sb.part (cx := sR7 D h f g N M ++ LW D (h 7) (h 22) (f 22) (N 7) (f 7) (M 7)) [0, 1, 2, 3, 4, 5, 6, 7, 8, 9, 10, 11, 12, 13, 14, 15, 18, 19, 16, 17] rfl rfl
  refine kX1_ladd (wr := sR7 D h f g N M) (h 7) (h 22) (f 22) (N 7) (f 7) (M 7) (T ++ (plW D P ++ plC D pq pz pv)) (pq 0) C hn (fun j hj => ?_) (AnyX.sb (Sb.tr Sb.rt Sb.rt) plC_any) hR hcat hroom hsb d ?_
  · have hl := hPS.1
    obtain ⟨r, hr⟩ : ∃ r, P[j]? = some r := ⟨_, List.getElem?_eq_getElem (by omega)⟩
    rw [(hPS.2 j r hr).1]
    exact AnyX.sb (Sb.tr Sb.rt Sb.lt) (plW_any hr)
  intro b1
  refine g_sb (ws' := sW D (uN h 22 b1) (up (up f 7 (f 7 + 1)) 22 (f 22 + 1)) g (uN N 7 (grC (N 7) (f 7))) (uM M 7 (paU (M 7) (f 7) (pq 0))) (T ++ (plW D P ++ plC D pq pz pv))) ?_ (K b1)
  rw [← List.append_assoc (sR7 D h f g N M)]
  exact Sb.part (X := sR7 D h f g N M ++ LW D (h 7) b1 (f 22 + 1) (grC (N 7) (f 7)) (f 7 + 1) (paU (M 7) (f 7) (pq 0))) (cx := sF D (uN h 22 b1) (up (up f 7 (f 7 + 1)) 22 (f 22 + 1)) g (uN N 7 (grC (N 7) (f 7))) (uM M 7 (paU (M 7) (f 7) (pq 0)))) [0, 1, 2, 3, 4, 5, 6, 7, 8, 9, 10, 11, 12, 13, 14, 15, 18, 19, 16, 17] rfl rfl
end MK
section MK
variable {p : Program} {l : Launch} {e : Env} {R : Room} {s : State} {mm : MethodId} {args : Array Value} {below : List Frame} {meth : Method} {c : Code} {cc : ByteArray} {nL : Nat} {ret : Option FieldType} {D : va_G} {A B : Nat → Prop} {cells slots : Nat} {Q : State → Prop} {pc : Nat} {lv : List (Nat × Value)} {st : List Value}
theorem kX1_read (h : Nat → Nat) (f : Nat → Int) (g : Nat → Int → Int) (N : Nat → Nat) (M : Nat → Nat → Nat) (T : va_W) (n1 fr : Int) (C : CX p l s mm args meth c RX1 cc nL ret D A) (hF : 1 ≤ f 0 ∧ f 0 ≤ 5) (hS : 2 ≤ f 1 ∧ f 1 ≤ 6) (hkd : ∀ j, 0 ≤ j → j < 6 → 0 ≤ g 5 j ∧ g 5 j ≤ 3) (hth : ∀ j, 0 ≤ j → j < 5 → 1 ≤ g 3 j ∧ g 3 j ≤ 50) (hht : ∀ j, 0 ≤ j → j < 6 → 0 ≤ g 4 j ∧ g 4 j ≤ 400) (hn1 : 0 ≤ n1 ∧ n1 ≤ 400) (hpf : PIn (f 0) (f 1) fr) (hR : 8 + 1 ≤ R.frames ∧ 8 + (8 + 11) + 64 * 8 ≤ R.locals) (hcat : (st.map fun v => v.category).sum ≤ 8) (hroom : cells + 810 ≤ R.cells ∧ slots + 5000 ≤ R.slots) (d : decode cc pc = .ok (.invokevirtual 205, 3)) (K : RDo (f 0) (f 1) (g 5) (tpS (g 8)) fr n1 → ∀ (pq : Nat → Nat) (pz : Nat → Int) (pv : Nat → Int → Int), PV f g pq pz pv → pz 0 = fr → pz 5 = rdc (tpS (g 8)) n1 → (∀ j, 0 ≤ j → j < pz 5 → pv 0 j = rdv (tpS (g 8)) n1 j) → GO p l e R s mm args below meth c nL D A A (cells + 810) (slots + 5000) Q (sW D h f g N M (T ++ plC D pq pz pv)) (pc + 3) lv (.ref (pq 0) :: st)) (KX : ∀ (z x : Int) (fs : List Value) (q : Addr), fs.length = 8 → RDf (f 0) (f 1) (g 5) (tpS (g 8)) fr n1 x z → GT p l e R s mm args below meth c nL D A A (cells + 810) (slots + 5000) Q (sW D h f g N M T ++ [(q, .inr (4, (fs.set 6 (.int (iI (-1 - z)))).set 7 (.int (iI x))))]) pc lv st RX5 q) : GO p l e R s mm args below meth c nL D A A cells slots Q (sW D h f g N M T) (pc) lv (.int (iI fr) :: .int (iI n1) :: .ref (h 0) :: st) := by
  refine g_callVU C (c_X1_read l D C.hl h f g N M T n1 fr hF hS hkd hth hht hn1 hpf) (As := [.int (iI n1), .int (iI fr)]) (n := 2) (lw_V q743 q745 qs17 q48 q746) (by decide +kernel) rfl rfl hR (rcvM C) rfl rfl hcat hroom d (wr := []) Sb.rf exT_b hex_t (fun v w hp => ?_) (fun E q w hp => ?_)
  · obtain ⟨h1, pq, pz, pv, rfl, h2, h3, h4, h5, rfl⟩ := hp
    exact K h1 pq pz pv h2 h3 h4 h5
  · obtain ⟨rfl, z, x, fs, h1, h2, rfl⟩ := hp
    exact KX z x fs q h1 h2
end MK
section PL5
set_option maxHeartbeats 4000000 in
set_option maxRecDepth 100000 in
theorem c_X1_plan (l : Launch) (D : va_G) (hst : l.stackTraces = false) (h : Nat → Nat) (f : Nat → Int) (g : Nat → Int → Int) (N : Nat → Nat) (M : Nat → Nat → Nat) (P : List PR) (n1 a c1 : Int) (hF : 1 ≤ f 0 ∧ f 0 ≤ 5) (hS : 2 ≤ f 1 ∧ f 1 ≤ 6) (hkd : ∀ j, 0 ≤ j → j < 6 → 0 ≤ g 5 j ∧ g 5 j ≤ 3) (hth : ∀ j, 0 ≤ j → j < 5 → 1 ≤ g 3 j ∧ g 3 j ≤ 50) (hht : ∀ j, 0 ≤ j → j < 6 → 0 ≤ g 4 j ∧ g 4 j ≤ 400) (htp : 0 ≤ f 9 ∧ f 9 ≤ 400) (hpn : 0 ≤ f 7 ∧ f 7 ≤ N 7 ∧ N 7 ≤ 3000) (hN7 : f 7 ≤ N 7 ∧ 1 ≤ N 7 ∧ N 7 ≤ 12) (h78 : f 7 ≤ 8) (hPS : PS f g M P) (hn1r : -2147483648 ≤ n1 ∧ n1 < 2147483648) (har : -2147483648 ≤ a ∧ a < 2147483648) (hc1r : -2147483648 ≤ c1 ∧ c1 < 2147483648) : CT l D yX1_plan (wsW_ yX1_plan cX1_plan 5 (some .int) [((55 : Nat), (83 : Nat), (84 : Nat), (173 : Nat))]) (rmD 9 900 5100) (900) (5100) va_A [.ref (h 0), .int (iI n1), .int (iI a), .int (iI c1)] (sW D h f g N M (ptW (M 6) (g 24) (g 25) (g 26) (g 27) (f 6) ++ plW D P)) exT (pI fun z w => (((0 ≤ a ∧ a < f 0) ∧ (0 ≤ c1 ∧ c1 < f 1)) ∧ (0 ≤ n1 ∧ n1 ≤ f 9)) ∧ ((f 7 = 8 ∧ z = -9 ∧ w = sW D h (up (up f 9 0) 10 (-1)) g N M (ptW (M 6) (g 24) (g 25) (g 26) (g 27) (f 6) ++ plW D P)) ∨ (f 7 < 8 ∧ ∃ x : Int, RDf (f 0) (f 1) (g 5) (tpS (g 8)) (2 * (6 * a + c1) + 0) n1 x z ∧ w = sW D h (up (up f 9 0) 10 x) g N M (ptW (M 6) (g 24) (g 25) (g 26) (g 27) (f 6) ++ plW D P)) ∨ (f 7 < 8 ∧ RDo (f 0) (f 1) (g 5) (tpS (g 8)) (2 * (6 * a + c1) + 0) n1 ∧ z = f 7 ∧ ∃ (pq : Nat → Nat) (pz : Nat → Int) (pv : Nat → Int → Int) (b1 : Nat), PV f g pq pz pv ∧ pz 0 = 2 * (6 * a + c1) + 0 ∧ pz 5 = rdc (tpS (g 8)) n1 ∧ (∀ j, 0 ≤ j → j < pz 5 → pv 0 j = rdv (tpS (g 8)) n1 j) ∧ w = sW D (uN h 22 b1) (up (up (up (up f 7 (f 7 + 1)) 9 0) 10 (-1)) 22 (f 22 + 1)) g (uN N 7 (grC (N 7) (f 7))) (uM M 7 (paU (M 7) (f 7) (pq 0))) (ptW (M 6) (g 24) (g 25) (g 26) (g 27) (f 6) ++ plW D (P ++ [(pq, pz, pv)]))))) (fun E _ w => w = sW D h f g N M (ptW (M 6) (g 24) (g 25) (g 26) (g 27) (f 6) ++ plW D P) ∧ ((E = EN ∧ ¬ ((0 ≤ a ∧ a < f 0) ∧ (0 ≤ c1 ∧ c1 < f 1))) ∨ (E = EI ∧ ((0 ≤ a ∧ a < f 0) ∧ (0 ≤ c1 ∧ c1 < f 1)) ∧ ¬ (0 ≤ n1 ∧ n1 ≤ f 9)))) := by
  refine ct_HU (lv := [(0, .ref (h 0)), (1, .int (iI n1)), (2, .int (iI a)), (3, .int (iI c1))]) RX1 (by decide) rfl rfl hst (Nat.le_of_ble_eq_true rfl) rfl ?_
  intro p e s mm args below meth c A C htab hex
  have hgS : grS (N 7) (f 7) ≤ 40 := by unfold grS grN; split <;> (try split) <;> omega
  refine g_aload_n C dX1_plan_0 rfl 0 rfl ?_
  refine g_iload_n C dX1_plan_1 rfl 2 rfl ?_
  refine kX1_X1_isFold h f g N M (ptW (M 6) (g 24) (g 25) (g 26) (g 27) (f 6) ++ plW D P) a C hF (by omega) ⟨Nat.le_of_ble_eq_true rfl, Nat.le_of_ble_eq_true rfl⟩ (Nat.le_of_ble_eq_true rfl) ⟨(by show _ + 1 ≤ 900; omega), (by show _ + 6 ≤ 5100; omega)⟩ Sb.rf dX1_plan_2 (fun hN1 => ?_) (fun hT2 q3 => ?_)
  ·
    refine g_aload_n C dX1_plan_5 rfl 0 rfl ?_
    refine g_iload_n C dX1_plan_6 rfl 3 rfl ?_
    refine kX1_X1_isStation h f g N M (ptW (M 6) (g 24) (g 25) (g 26) (g 27) (f 6) ++ plW D P) c1 C hS (by omega) ⟨Nat.le_of_ble_eq_true rfl, Nat.le_of_ble_eq_true rfl⟩ (Nat.le_of_ble_eq_true rfl) ⟨(by show _ + 1 ≤ 900; omega), (by show _ + 6 ≤ 5100; omega)⟩ Sb.rf dX1_plan_7 (fun hN4 => ?_) (fun hT5 q6 => ?_)
    ·
      refine g_iload_n C dX1_plan_10 rfl 1 rfl ?_
      refine g_if_lt C (tgt := 26) dX1_plan_11 (by decide) (by omega) (fun hc11_7 => ?_) (fun hc11_7 => ?_)
      ·
        refine g_iconst C dX1_plan_26 ?_
        refine kX1_right 0 C (by omega) ⟨Nat.le_of_ble_eq_true rfl, Nat.le_of_ble_eq_true rfl⟩ (Nat.le_of_ble_eq_true rfl) ⟨(by show _ + 1 ≤ 900; omega), (by show _ + 6 ≤ 5100; omega)⟩ dX1_plan_27 (fun hN8 => ?_) (fun hT9 q10 => ?_)
        ·
          exact absurd hN8 (by decide)
        ·
          exact x_outH C (fun z hz => by rw [htab] at hz; cases List.mem_singleton.mp hz; exact Or.inl rfl) (by omega) (by omega) ⟨rfl, Or.inr ⟨rfl, by omega, by omega⟩⟩
      ·
        refine g_iload_n C dX1_plan_14 rfl 1 rfl ?_
        refine g_aload_n C dX1_plan_15 rfl 0 rfl ?_
        refine gs_get9 C (v := f 9) rfl dX1_plan_16 ?_
        refine g_icmp_gt C (tgt := 26) dX1_plan_19 (by decide) (by omega) (by omega) (fun hc19_11 => ?_) (fun hc19_11 => ?_)
        ·
          refine g_iconst C dX1_plan_26 ?_
          refine kX1_right 0 C (by omega) ⟨Nat.le_of_ble_eq_true rfl, Nat.le_of_ble_eq_true rfl⟩ (Nat.le_of_ble_eq_true rfl) ⟨(by show _ + 1 ≤ 900; omega), (by show _ + 6 ≤ 5100; omega)⟩ dX1_plan_27 (fun hN12 => ?_) (fun hT13 q14 => ?_)
          ·
            exact absurd hN12 (by decide)
          ·
            exact x_outH C (fun z hz => by rw [htab] at hz; cases List.mem_singleton.mp hz; exact Or.inl rfl) (by omega) (by omega) ⟨rfl, Or.inr ⟨rfl, by omega, by omega⟩⟩
        ·
          refine g_iconst C dX1_plan_22 ?_
          refine g_goto C (tgt := 27) dX1_plan_23 (by decide) ?_
          refine kX1_right 1 C (by omega) ⟨Nat.le_of_ble_eq_true rfl, Nat.le_of_ble_eq_true rfl⟩ (Nat.le_of_ble_eq_true rfl) ⟨(by show _ + 1 ≤ 900; omega), (by show _ + 6 ≤ 5100; omega)⟩ dX1_plan_27 (fun hN15 => ?_) (fun hT16 q17 => ?_)
          ·
            refine g_aload_n C dX1_plan_30 rfl 0 rfl ?_
            refine g_iconst C dX1_plan_31 ?_
            refine gs_put9 C (f' := (up f 9 0)) rfl dX1_plan_32 ?_
            refine g_aload_n C dX1_plan_35 rfl 0 rfl ?_
            refine g_iconst C dX1_plan_36 ?_
            refine gs_put10 C (f' := (up (up f 9 0) 10 (-1))) rfl dX1_plan_37 ?_
            refine g_aload_n C dX1_plan_40 rfl 0 rfl ?_
            refine gs_get7 C dX1_plan_41 ?_
            refine kX1_lsize (h 7) (h 22) ((up (up f 9 0) 10 (-1)) 22) (N 7) ((up (up f 9 0) 10 (-1)) 7) (M 7) C ⟨Nat.le_of_ble_eq_true rfl, Nat.le_of_ble_eq_true rfl⟩ (Nat.le_of_ble_eq_true rfl) ⟨(by show _ ≤ 900; omega), (by show _ ≤ 5100; omega)⟩ (rv := f 7) rfl sb_l7 dX1_plan_44 ?_
            refine g_bipush C dX1_plan_47 (z := 8) rfl ?_
            refine g_icmp_ne C (tgt := 55) dX1_plan_49 (by decide) (by omega) (by omega) (fun hc49_18 => ?_) (fun hc49_18 => ?_)
            ·
              refine g_aload_n C dX1_plan_55 rfl 0 rfl ?_
              refine gs_get7 C dX1_plan_56 ?_
              refine g_aload_n C dX1_plan_59 rfl 0 rfl ?_
              refine g_iload_n C dX1_plan_60 rfl 1 rfl ?_
              refine g_iload_n C dX1_plan_61 rfl 2 rfl ?_
              refine g_iload_n C dX1_plan_62 rfl 3 rfl ?_
              refine g_iconst C dX1_plan_63 ?_
              refine kX1_X1_place a c1 0 C (by omega) (by omega) (by omega) ⟨Nat.le_of_ble_eq_true rfl, Nat.le_of_ble_eq_true rfl⟩ (Nat.le_of_ble_eq_true rfl) ⟨(by show _ ≤ 900; omega), (by show _ ≤ 5100; omega)⟩ (rv := 2 * (6 * a + c1) + 0) rfl dX1_plan_64 ?_
              refine kX1_read h (up (up f 9 0) 10 (-1)) g N M (ptW (M 6) (g 24) (g 25) (g 26) (g 27) (f 6) ++ plW D P) n1 (2 * (6 * a + c1) + 0) C hF hS hkd hth hht (by omega) (by unfold PIn; show _ ∧ _ ∧ _ < f 0 ∧ _ < f 1; omega) ⟨Nat.le_of_ble_eq_true rfl, Nat.le_of_ble_eq_true rfl⟩ (Nat.le_of_ble_eq_true rfl) ⟨(by show 0 + 1 + 1 + 1 + 810 ≤ 900; omega), (by show 0 + 6 + 6 + 6 + 5000 ≤ 5100; omega)⟩ dX1_plan_67 (fun hRDo pq pz pv hPV2 hz0 hz5 hpv => ?_) (fun z x fs q hfs hRDf => ?_)
              ·
                refine g_ws (ws' := sW D h (up (up f 9 0) 10 (-1)) g N M (ptW (M 6) (g 24) (g 25) (g 26) (g 27) (f 6) ++ (plW D P ++ plC D pq pz pv))) (congrArg (sF D h (up (up f 9 0) 10 (-1)) g N M ++ ·) (List.append_assoc _ _ _)) ?_
                refine gs_addPlan C (show 0 ≤ f 7 ∧ f 7 ≤ N 7 ∧ 1 ≤ N 7 ∧ N 7 < 1000 by omega) hPS ⟨Nat.le_of_ble_eq_true rfl, Nat.le_of_ble_eq_true rfl⟩ (Nat.le_of_ble_eq_true rfl) ⟨(by show 0 + 1 + 1 + 1 + 810 + 1 ≤ 900; omega), (by show 0 + 6 + 6 + 6 + 5000 + grS (N 7) (f 7) ≤ 5100; omega)⟩ dX1_plan_70 (fun b1 => ?_)
                refine g_ws (ws' := sW D (uN h 22 b1) (up (up (up (up f 7 (f 7 + 1)) 9 0) 10 (-1)) 22 (f 22 + 1)) g (uN N 7 (grC (N 7) (f 7))) (uM M 7 (paU (M 7) (f 7) (pq 0))) (ptW (M 6) (g 24) (g 25) (g 26) (g 27) (f 6) ++ plW D (P ++ [(pq, pz, pv)]))) (by rw [plW_s]; rfl) ?_
                refine g_widen (k := 880) (n := 5070) (by omega) (by show _ + grS (N 7) (f 7) ≤ 5070; omega) ?_
                refine g_pop C dX1_plan_73 rfl ?_
                refine g_aload_n C dX1_plan_74 rfl 0 rfl ?_
                refine gs_get7 C dX1_plan_75 ?_
                refine kX1_lsize ((uN h 22 b1) 7) ((uN h 22 b1) 22) ((up (up (up (up f 7 (f 7 + 1)) 9 0) 10 (-1)) 22 (f 22 + 1)) 22) ((uN N 7 (grC (N 7) (f 7))) 7) ((up (up (up (up f 7 (f 7 + 1)) 9 0) 10 (-1)) 22 (f 22 + 1)) 7) ((uM M 7 (paU (M 7) (f 7) (pq 0))) 7) C ⟨Nat.le_of_ble_eq_true rfl, Nat.le_of_ble_eq_true rfl⟩ (Nat.le_of_ble_eq_true rfl) ⟨(by show _ ≤ 900; omega), (by show _ ≤ 5100; omega)⟩ (rv := f 7 + 1) rfl sb_l7 dX1_plan_78 ?_
                refine g_iconst C dX1_plan_81 ?_
                refine g_isub C dX1_plan_82 ?_
                exact g_iret C dX1_plan_83 rfl (by omega) (by omega) ⟨_, rfl, by omega, Or.inr (Or.inr ⟨by omega, hRDo, by omega, pq, pz, pv, b1, hPV2, hz0, hz5, hpv, rfl⟩)⟩
              ·
                refine x_catch C (name := RX5) [] ⟨55, 83, 84, 173⟩ [] htab (fun z hz => nomatch hz) rfl (by decide) q734 (by decide) ?_
                refine g_ws (ws' := sW D h (up (up f 9 0) 10 (-1)) g N M ((ptW (M 6) (g 24) (g 25) (g 26) (g 27) (f 6) ++ plW D P) ++ [(q, .inr (4, (fs.set 6 (.int (iI (-1 - z)))).set 7 (.int (iI x))))])) (List.append_assoc _ _ _) ?_
                refine g_astore C dX1_plan_84 (lv' := [(0, .ref (h 0)), (1, .int (iI n1)), (2, .int (iI a)), (3, .int (iI c1)), (4, .ref q)]) [1, 2, 3, 4, 0] rfl (Nat.le_of_ble_eq_true rfl) ?_
                refine g_aload_n C dX1_plan_86 rfl 0 rfl ?_
                refine g_aload C dX1_plan_87 4 rfl ?_
                refine g_getNs C in_X5 (wc := [(q, .inr (4, (fs.set 6 (.int (iI (-1 - z)))).set 7 (.int (iI x))))]) (Sb.tr Sb.rt Sb.rt) 0 7 rfl rfl (by decide) (v := .int (iI (x))) (by rw [List.getElem?_set_self (by rw [List.length_set, hfs]; decide)]) (by decide) rfl rfl dX1_plan_89 ?_
                refine gs_put10 C (f' := (up (up f 9 0) 10 x)) rfl dX1_plan_92 ?_
                refine g_iconst C dX1_plan_95 ?_
                refine g_aload C dX1_plan_96 4 rfl ?_
                refine g_getNs C in_X5 (wc := [(q, .inr (4, (fs.set 6 (.int (iI (-1 - z)))).set 7 (.int (iI x))))]) (Sb.tr Sb.rt Sb.rt) 0 6 rfl rfl (by decide) (v := .int (iI (-1 - z))) (by rw [List.getElem?_set_ne (by decide), List.getElem?_set_self (by rw [hfs]; decide)]) (by decide) rfl rfl dX1_plan_98 ?_
                refine g_isub C dX1_plan_101 ?_
                refine g_sb (ws' := sW D h (up (up f 9 0) 10 x) g N M (ptW (M 6) (g 24) (g 25) (g 26) (g 27) (f 6) ++ plW D P)) (by show Sb (sF D h _ _ N M ++ (_ ++ _)) _; rw [← List.append_assoc]; exact Sb.lt) ?_
                exact g_iret C dX1_plan_102 rfl (by omega) (by omega) ⟨z, (by rw [show -1 - (-1 - z) = z by omega]), by omega, Or.inr (Or.inl ⟨by omega, x, hRDf, rfl⟩)⟩
            ·
              refine g_bipush C dX1_plan_52 (z := -9) rfl ?_
              exact g_iret C dX1_plan_54 rfl (by omega) (by omega) ⟨_, rfl, by omega, Or.inl ⟨by omega, rfl, rfl⟩⟩
          ·
            exact absurd hT16 (by decide)
    ·
      exact x_outH C (fun z hz => by rw [htab] at hz; cases List.mem_singleton.mp hz; exact Or.inl rfl) (by omega) (by omega) ⟨rfl, Or.inl ⟨rfl, by omega⟩⟩
  ·
    exact x_outH C (fun z hz => by rw [htab] at hz; cases List.mem_singleton.mp hz; exact Or.inl rfl) (by omega) (by omega) ⟨rfl, Or.inl ⟨rfl, by omega⟩⟩

end PL5
