/-! ===== contracts of the class: thread that comes off ===== -/
theorem perm_co {α : Type} {a T m lp V : List α} {po x : α} : (a ++ (T ++ ((po :: (m ++ lp)) ++ (x :: V)))).Perm ((a ++ (T ++ (lp ++ V))) ++ (po :: (m ++ [x]))) := by
  rw [List.append_assoc, List.append_assoc]
  refine List.Perm.append_left _ (List.Perm.append_left _ ?_)
  refine List.Perm.trans ?_ List.perm_append_comm
  show (po :: ((m ++ lp) ++ (x :: V))).Perm (po :: ((m ++ [x]) ++ (lp ++ V)))
  refine List.Perm.cons _ ?_
  rw [List.append_assoc, List.append_assoc]
  exact List.Perm.append_left _ List.perm_middle
section SB3
variable {D : va_G} {h : Nat → Nat} {f : Nat → Int} {g : Nat → Int → Int} {N : Nat → Nat} {M : Nat → Nat → Nat} {T V w : va_W} {P : List PR} {x : Nat × va_E}
theorem sb_off : Sb (sW D h f g N M (T ++ (w ++ V)) ++ [x]) (sW D h f g N M (T ++ (w ++ (x :: V)))) := by
  refine Sb.perm ?_
  show ((sF D h f g N M ++ (T ++ (w ++ V))) ++ [x]).Perm (sF D h f g N M ++ (T ++ (w ++ (x :: V))))
  rw [List.append_assoc, List.append_assoc, List.append_assoc]
  exact (((List.perm_append_singleton x V).append_left _).append_left _).append_left _
theorem sb_two (hV : (plW D P).Perm (w ++ V)) : Sb (sW D h f g N M (T ++ (w ++ V))) (sW D h f g N M (T ++ plW D P)) := Sb.perm ((hV.symm.append_left _).append_left _)
theorem sb_drop : Sb (sW D h f g N M (T ++ (w ++ (x :: V)))) (sW D h f g N M (T ++ (w ++ V))) := by
  refine Sb.tr (Sb.perm (b := [x] ++ (sF D h f g N M ++ (T ++ (w ++ V)))) ?_) Sb.rt
  show (sF D h f g N M ++ (T ++ (w ++ (x :: V)))).Perm (x :: (sF D h f g N M ++ (T ++ (w ++ V))))
  refine List.Perm.trans ?_ List.perm_middle
  refine List.Perm.append_left _ ?_
  refine List.Perm.trans ?_ List.perm_middle
  exact List.Perm.append_left _ List.perm_middle
end SB3
theorem alg_pf {np : Int} {pf ps pk : Int → Int} {p m : Int} (hnp : 0 ≤ np) (h : alg np pf ps pk p m ≠ -1) : (0 ≤ alg np pf ps pk p m ∧ alg np pf ps pk p m < np) ∧ pf (alg np pf ps pk p m) = p / 2 / 6 := by
  have hr := alg_rg (np := np) (pf := pf) (ps := ps) (pk := pk) (p := p) (m := m) hnp
  refine ⟨by omega, ?_⟩
  unfold alg at h ⊢
  split at h
  · exact absurd rfl h
  · rename_i q
    rw [if_neg q]
    unfold fnd at h ⊢
    have := fndF_rg (pf := pf) (ps := ps) (pk := pk) (f := p / 2 / 6) (s := if m = 2 ∨ m = 4 then p / 2 % 6 - 1 else p / 2 % 6) (w := if m < 3 then 0 else if m < 5 then 2 else 1) np.toNat 0 (Int.le_refl _)
    rcases this.2.2 with q2 | q2
    · exact absurd q2 h
    · exact q2.2.1
theorem loose_cg {v F S np b n : Int} {pf ps pk kd ov of mv : Int → Int} (hnp : 0 ≤ np) (hov : ∀ j, 0 ≤ j → j < n → ov j = of j) (h : LSok v (GL F (fun i => 0 < fgoO ov np pf ps pk F S kd b mv n i) pf np)) : LSok v (GL F (fun j => of j = 0 ∧ alg np pf ps pk (plc F S kd b mv j) (mv j) ≠ -1) (fun j => plc F S kd b mv j / 2 / 6) n) := by
  refine h.cg (fun i _ _ => ⟨fun q => ⟨q.1, ?_⟩, fun q => ⟨q.1, ?_⟩⟩)
  · rintro ⟨j, j0, j1, ⟨j2, j3⟩, j4⟩
    obtain ⟨a1, a2⟩ := alg_pf hnp j3
    exact q.2 ⟨_, a1.1, a1.2, fgoO_pos.mpr ⟨j, j0, j1, by rw [hov j j0 j1]; exact j2, rfl⟩, by rw [a2]; exact j4⟩
  · rintro ⟨k, k0, k1, k2, k3⟩
    obtain ⟨j, j0, j1, j2, j3⟩ := fgoO_pos.mp k2
    have hne : alg np pf ps pk (plc F S kd b mv j) (mv j) ≠ -1 := by omega
    obtain ⟨a1, a2⟩ := alg_pf hnp hne
    rw [j3] at a2
    exact q.2 ⟨j, j0, j1, ⟨by rw [← hov j j0 j1]; exact j2, hne⟩, by show plc F S kd b mv j / 2 / 6 = i; rw [← a2]; exact k3⟩
section PL3
set_option maxHeartbeats 4000000 in
set_option maxRecDepth 100000 in
theorem c_comesOff (l : Launch) (D : va_G) (hst : l.stackTraces = false) (pq : Nat → Nat) (pz : Nat → Int) (pv : Nat → Int → Int) (o no : Nat) (ov : Int → Int) (tb : Nat) (a by_ : Int) (hz : (0 ≤ pz 0 ∧ pz 0 < 60) ∧ 0 ≤ pz 1 ∧ pz 1 < 60) (hmv : ∀ j, 0 ≤ j → j < pz 5 → 0 ≤ pv 0 j ∧ pv 0 j < 8) (hcp : pz 5 ≤ (pq 5 : Int) ∧ pq 5 ≤ 3000) (hno : (no : Int) < 2147483648) (hon : pz 5 ≤ no) (hfr : -1 ≤ a ∧ a < pz 5 ∧ 0 ≤ pz 5) (hby : by_ = 1 ∨ by_ = -1) : CT l D yX1_comesOff (ws_ yX1_comesOff cX1_comesOff 8 none) (rmD 3 0 0) (0) (0) va_A [.ref tb, .ref (pq 0), .ref o, .int (iI a), .int (iI by_)] ((pq 0, .inr (3, [.int (iI (pz 0)), .int (iI (pz 1)), .int (iI (pz 2)), .ref (pq 1), .ref (pq 3)])) :: (LW D (pq 1) (pq 2) (pz 3) (pq 5) (pz 5) (bxA D (pv 0)) ++ [(o, .inl (D.1 101, no, .inl (aI ov)))])) exT (pV fun w => ∃ ov' : Int → Int, (∀ j, 0 ≤ j → j < pz 5 → ov' j = coA (bP (pz 1 = pz 0)) (pz 5) (pv 0) by_ (pz 5).toNat a ov j) ∧ w = (pq 0, .inr (3, [.int (iI (pz 0)), .int (iI (pz 1)), .int (iI (pz 2)), .ref (pq 1), .ref (pq 3)])) :: (LW D (pq 1) (pq 2) (pz 3) (pq 5) (pz 5) (bxA D (pv 0)) ++ [(o, .inl (D.1 101, no, .inl (aI ov')))])) (xN) := by
  refine ct_U (lv := [(0, .ref tb), (1, .ref (pq 0)), (2, .ref o), (3, .int (iI a)), (4, .int (iI by_))]) RX1 (by decide) rfl rfl hst (Nat.le_of_ble_eq_true rfl) rfl ?_
  intro p e s mm args below meth c A C htab hex hnm
  refine g_aload_n C dX1_comesOff_0 rfl 1 rfl ?_
  refine g_getN C in_X4 0 3 rfl rfl (Nat.le_of_ble_eq_true rfl) (v := .ref (pq 1)) rfl (by decide) rfl rfl dX1_comesOff_1 ?_
  refine kX1_lsize (pq 1) (pq 2) (pz 3) (pq 5) (pz 5) (bxA D (pv 0)) C ⟨Nat.le_of_ble_eq_true rfl, Nat.le_of_ble_eq_true rfl⟩ (Nat.le_of_ble_eq_true rfl) ⟨Nat.le_of_ble_eq_true rfl, Nat.le_of_ble_eq_true rfl⟩ (rv := pz 5) rfl (Sb.pick [1, 2] rfl rfl) dX1_comesOff_4 ?_
  refine g_istore C dX1_comesOff_7 (lv' := [(0, .ref tb), (1, .ref (pq 0)), (2, .ref o), (3, .int (iI a)), (4, .int (iI by_)), (5, .int (iI (pz 5)))]) [1, 2, 3, 4, 5, 0] rfl (Nat.le_of_ble_eq_true rfl) ?_
  refine g_iload_n C dX1_comesOff_9 rfl 3 rfl ?_
  refine g_istore C dX1_comesOff_10 (lv' := [(0, .ref tb), (1, .ref (pq 0)), (2, .ref o), (3, .int (iI a)), (4, .int (iI by_)), (5, .int (iI (pz 5))), (6, .int (iI a))]) [1, 2, 3, 4, 5, 6, 0] rfl (Nat.le_of_ble_eq_true rfl) ?_
  refine g_iconst C dX1_comesOff_12 ?_
  refine g_istore C dX1_comesOff_13 (lv' := [(0, .ref tb), (1, .ref (pq 0)), (2, .ref o), (3, .int (iI a)), (4, .int (iI by_)), (5, .int (iI (pz 5))), (6, .int (iI a)), (7, .int (iI 0))]) [1, 2, 3, 4, 5, 6, 7, 0] rfl (Nat.le_of_ble_eq_true rfl) ?_
  have L1 : ∀ (n : Nat) (it : Int) (k : Int) (y : Int → Int), (0 ≤ it ∧ it ≤ pz 5) → (-1 ≤ k ∧ k ≤ pz 5) → (∀ j, 0 ≤ j → j < pz 5 → coA (bP (pz 1 = pz 0)) (pz 5) (pv 0) by_ (pz 5).toNat a ov j = coA (bP (pz 1 = pz 0)) (pz 5) (pv 0) by_ (pz 5 - it).toNat k y j) → (pz 5 - it).toNat < n → GO p l e (rmD 3 0 0) s mm args below meth c 8 D A A 0 0 (MX below D A (pV fun w => ∃ ov' : Int → Int, (∀ j, 0 ≤ j → j < pz 5 → ov' j = coA (bP (pz 1 = pz 0)) (pz 5) (pv 0) by_ (pz 5).toNat a ov j) ∧ w = (pq 0, .inr (3, [.int (iI (pz 0)), .int (iI (pz 1)), .int (iI (pz 2)), .ref (pq 1), .ref (pq 3)])) :: (LW D (pq 1) (pq 2) (pz 3) (pq 5) (pz 5) (bxA D (pv 0)) ++ [(o, .inl (D.1 101, no, .inl (aI ov')))])) (xN) args s (0) (0)) ((pq 0, .inr (3, [.int (iI (pz 0)), .int (iI (pz 1)), .int (iI (pz 2)), .ref (pq 1), .ref (pq 3)])) :: (LW D (pq 1) (pq 2) (pz 3) (pq 5) (pz 5) (bxA D (pv 0)) ++ [(o, .inl (D.1 101, no, .inl (aI y)))])) 15 [(0, .ref tb), (1, .ref (pq 0)), (2, .ref o), (3, .int (iI a)), (4, .int (iI by_)), (5, .int (iI (pz 5))), (6, .int (iI k)), (7, .int (iI it))] [] := by
    intro n
    induction n with
    | zero => intro it k y hi hk hco hm; exact absurd hm (Nat.not_lt_zero _)
    | succ n ih1 =>
      intro it k y hi hk hco hm1
      refine g_iload C dX1_comesOff_15 7 rfl ?_
      refine g_iload C dX1_comesOff_17 5 rfl ?_
      refine g_icmp_ge C (tgt := 89) dX1_comesOff_19 (by decide) (by omega) (by omega) (fun hc19_2 => ?_) (fun hc19_2 => ?_)
      ·
        exact g_vret C dX1_comesOff_89 (Nat.le_of_ble_eq_true rfl) (Nat.le_of_ble_eq_true rfl) ⟨rfl, _, fun j h0 h1 => by rw [hco j h0 h1, show (pz 5 - it).toNat = 0 by omega]; rfl, rfl⟩
      ·
        have J3 : ∀ (k1 : Int), (((bP (pz 1 = pz 0)) ≠ 0 ∧ k1 = (k + pz 5) % pz 5) ∨ ((bP (pz 1 = pz 0)) = 0 ∧ k1 = k)) → GO p l e (rmD 3 0 0) s mm args below meth c 8 D A A 0 0 (MX below D A (pV fun w => ∃ ov' : Int → Int, (∀ j, 0 ≤ j → j < pz 5 → ov' j = coA (bP (pz 1 = pz 0)) (pz 5) (pv 0) by_ (pz 5).toNat a ov j) ∧ w = (pq 0, .inr (3, [.int (iI (pz 0)), .int (iI (pz 1)), .int (iI (pz 2)), .ref (pq 1), .ref (pq 3)])) :: (LW D (pq 1) (pq 2) (pz 3) (pq 5) (pz 5) (bxA D (pv 0)) ++ [(o, .inl (D.1 101, no, .inl (aI ov')))])) (xN) args s (0) (0)) ((pq 0, .inr (3, [.int (iI (pz 0)), .int (iI (pz 1)), .int (iI (pz 2)), .ref (pq 1), .ref (pq 3)])) :: (LW D (pq 1) (pq 2) (pz 3) (pq 5) (pz 5) (bxA D (pv 0)) ++ [(o, .inl (D.1 101, no, .inl (aI y)))])) 39 [(0, .ref tb), (1, .ref (pq 0)), (2, .ref o), (3, .int (iI a)), (4, .int (iI by_)), (5, .int (iI (pz 5))), (6, .int (iI k1)), (7, .int (iI it))] [] := by
          intro k1 hk1
          have hem := emod_in (a := k + pz 5) (n := pz 5) (by omega)
          have hco1 : ∀ j, 0 ≤ j → j < pz 5 → coA (bP (pz 1 = pz 0)) (pz 5) (pv 0) by_ (pz 5).toNat a ov j = coA (bP (pz 1 = pz 0)) (pz 5) (pv 0) by_ (pz 5 - it).toNat k1 y j := by
            rcases hk1 with ⟨q1, q2⟩ | ⟨q1, q2⟩
            · intro j h0 h1
              rw [hco j h0 h1, q2]
              exact congrFun (coA_mod q1 _ _ _ _ (by simp)) j
            · rw [q2]; exact hco
          refine g_iload C dX1_comesOff_39 6 rfl ?_
          refine g_if_lt C (tgt := 51) dX1_comesOff_41 (by decide) (by omega) (fun hc41_4 => ?_) (fun hc41_4 => ?_)
          ·
            exact g_vret C dX1_comesOff_51 (Nat.le_of_ble_eq_true rfl) (Nat.le_of_ble_eq_true rfl) ⟨rfl, _, fun j h0 h1 => by rw [hco1 j h0 h1, show (pz 5 - it).toNat = (pz 5 - (it + 1)).toNat + 1 by omega, coA_x ⟨by omega, by omega⟩], rfl⟩
          ·
            refine g_iload C dX1_comesOff_44 6 rfl ?_
            refine g_iload C dX1_comesOff_46 5 rfl ?_
            refine g_icmp_lt C (tgt := 52) dX1_comesOff_48 (by decide) (by omega) (by omega) (fun hc48_5 => ?_) (fun hc48_5 => ?_)
            ·
              have hmk : k1 % pz 5 = k1 := Int.emod_eq_of_lt (by omega) (by omega)
              have hmr := hmv k1 (by omega) (by omega)
              refine g_aload_n C dX1_comesOff_52 rfl 2 rfl ?_
              refine g_iload C dX1_comesOff_53 6 rfl ?_
              refine g_iconst C dX1_comesOff_55 ?_
              refine g_zast C 3 (ws' := (pq 0, .inr (3, [.int (iI (pz 0)), .int (iI (pz 1)), .int (iI (pz 2)), .ref (pq 1), .ref (pq 3)])) :: (LW D (pq 1) (pq 2) (pz 3) (pq 5) (pz 5) (bxA D (pv 0)) ++ [(o, .inl (D.1 101, no, .inl (aI (uI y k1 1))))])) rfl dX1_comesOff_56 (by omega) hno rfl rfl ?_
              refine g_aload_n C dX1_comesOff_57 rfl 1 rfl ?_
              refine g_getN C in_X4 0 3 rfl rfl (Nat.le_of_ble_eq_true rfl) (v := .ref (pq 1)) rfl (by decide) rfl rfl dX1_comesOff_58 ?_
              refine g_iload C dX1_comesOff_61 6 rfl ?_
              refine kX1_lget (pq 1) (pq 2) (pz 3) (pq 5) (pz 5) (bxA D (pv 0)) k1 C (by omega) (by omega) ⟨Nat.le_of_ble_eq_true rfl, Nat.le_of_ble_eq_true rfl⟩ (Nat.le_of_ble_eq_true rfl) ⟨Nat.le_of_ble_eq_true rfl, Nat.le_of_ble_eq_true rfl⟩ (Sb.pick [1, 2] rfl rfl) dX1_comesOff_63 ?_
              rw [bx_at (show 0 ≤ k1 by omega)]
              refine g_castE C q890 (rcvB C (show (pv 0 k1 + 128).toNat < 256 by omega)) dX1_comesOff_66 ?_
              refine kX1_iintV (pv 0 k1) C (by omega) ⟨Nat.le_of_ble_eq_true rfl, Nat.le_of_ble_eq_true rfl⟩ (Nat.le_of_ble_eq_true rfl) ⟨Nat.le_of_ble_eq_true rfl, Nat.le_of_ble_eq_true rfl⟩ (rv := pv 0 k1) rfl dX1_comesOff_69 ?_
              refine g_if_ne C (tgt := 76) dX1_comesOff_72 (by decide) (by omega) (fun hc72_6 => ?_) (fun hc72_6 => ?_)
              ·
                refine g_iload C dX1_comesOff_76 6 rfl ?_
                refine g_iload C dX1_comesOff_78 4 rfl ?_
                refine g_iadd C dX1_comesOff_80 ?_
                refine g_istore C dX1_comesOff_81 (lv' := [(0, .ref tb), (1, .ref (pq 0)), (2, .ref o), (3, .int (iI a)), (4, .int (iI by_)), (5, .int (iI (pz 5))), (6, .int (iI (k1 + by_))), (7, .int (iI it))]) [1, 2, 3, 4, 5, 6, 0, 7] rfl (Nat.le_of_ble_eq_true rfl) ?_
                refine g_iinc C dX1_comesOff_83 7 rfl (lv' := [(0, .ref tb), (1, .ref (pq 0)), (2, .ref o), (3, .int (iI a)), (4, .int (iI by_)), (5, .int (iI (pz 5))), (6, .int (iI (k1 + by_))), (7, .int (iI (it + 1)))]) [1, 2, 3, 4, 5, 6, 7, 0] rfl (Nat.le_of_ble_eq_true rfl) ?_
                refine g_goto C (tgt := 15) dX1_comesOff_86 (by decide) ?_
                exact ih1 (it + 1) (k1 + by_) (uI y k1 1) (by omega) (by omega) (fun j h0 h1 => by rw [hco1 j h0 h1, show (pz 5 - it).toNat = (pz 5 - (it + 1)).toNat + 1 by omega, coA_n (by omega) (by rw [hmk]; omega), hmk]) (by omega)
              ·
                exact g_vret C dX1_comesOff_75 (Nat.le_of_ble_eq_true rfl) (Nat.le_of_ble_eq_true rfl) ⟨rfl, _, fun j h0 h1 => by rw [hco1 j h0 h1, show (pz 5 - it).toNat = (pz 5 - (it + 1)).toNat + 1 by omega, coA_h (by omega) (by rw [hmk]; omega), hmk], rfl⟩
            ·
              exact g_vret C dX1_comesOff_51 (Nat.le_of_ble_eq_true rfl) (Nat.le_of_ble_eq_true rfl) ⟨rfl, _, fun j h0 h1 => by rw [hco1 j h0 h1, show (pz 5 - it).toNat = (pz 5 - (it + 1)).toNat + 1 by omega, coA_x ⟨by omega, by omega⟩], rfl⟩
        refine g_aload_n C dX1_comesOff_22 rfl 1 rfl ?_
        refine kX1_closed pq pz C (by omega) ⟨Nat.le_of_ble_eq_true rfl, Nat.le_of_ble_eq_true rfl⟩ (Nat.le_of_ble_eq_true rfl) ⟨Nat.le_of_ble_eq_true rfl, Nat.le_of_ble_eq_true rfl⟩ (rv := bP (pz 1 = pz 0)) rfl (Sb.pick [0] rfl rfl) dX1_comesOff_23 ?_
        have hbr7 := bP_rg (pz 1 = pz 0)
        refine g_if_eq C (tgt := 39) dX1_comesOff_26 (by decide) (by omega) (fun hc26_8 => ?_) (fun hc26_8 => ?_)
        ·
          exact J3 k (Or.inr ⟨by omega, rfl⟩)
        ·
          refine g_iload C dX1_comesOff_29 6 rfl ?_
          refine g_iload C dX1_comesOff_31 5 rfl ?_
          refine g_iadd C dX1_comesOff_33 ?_
          refine g_iload C dX1_comesOff_34 5 rfl ?_
          refine g_irem C dX1_comesOff_36 (by omega) (by omega) ?_
          refine g_istore C dX1_comesOff_37 (lv' := [(0, .ref tb), (1, .ref (pq 0)), (2, .ref o), (3, .int (iI a)), (4, .int (iI by_)), (5, .int (iI (pz 5))), (6, .int (iI ((k + (pz 5)) % (pz 5)))), (7, .int (iI it))]) [1, 2, 3, 4, 5, 6, 0, 7] rfl (Nat.le_of_ble_eq_true rfl) ?_
          exact J3 ((k + (pz 5)) % (pz 5)) (Or.inl ⟨by omega, rfl⟩)
  exact L1 _ 0 a ov (by omega) (by omega) (fun j h0 h1 => by rw [Int.sub_zero]) (Nat.lt_succ_self _)

section MK
variable {p : Program} {l : Launch} {e : Env} {R : Room} {s : State} {mm : MethodId} {args : Array Value} {below : List Frame} {meth : Method} {c : Code} {cc : ByteArray} {nL : Nat} {ret : Option FieldType} {D : va_G} {A B : Nat → Prop} {cells slots : Nat} {Q : State → Prop} {pc : Nat} {lv : List (Nat × Value)} {st : List Value}
theorem kX1_comesOff (h : Nat → Nat) (f : Nat → Int) (g : Nat → Int → Int) (N : Nat → Nat) (M : Nat → Nat → Nat) (V : va_W) (pq : Nat → Nat) (pz : Nat → Int) (pv : Nat → Int → Int) (o no : Nat) (ov : Int → Int) (a by_ : Int) (C : CX p l s mm args meth c RX1 cc nL ret D A) (hz : (0 ≤ pz 0 ∧ pz 0 < 60) ∧ 0 ≤ pz 1 ∧ pz 1 < 60) (hmv : ∀ j, 0 ≤ j → j < pz 5 → 0 ≤ pv 0 j ∧ pv 0 j < 8) (hcp : pz 5 ≤ (pq 5 : Int) ∧ pq 5 ≤ 3000) (hno : (no : Int) < 2147483648) (hon : pz 5 ≤ no) (hfr : -1 ≤ a ∧ a < pz 5 ∧ 0 ≤ pz 5) (hby : by_ = 1 ∨ by_ = -1) (hR : 3 + 1 ≤ R.frames ∧ 8 + (8 + 11) + 64 * 3 ≤ R.locals) (hcat : (st.map fun v => v.category).sum ≤ 8) (hroom : cells ≤ R.cells ∧ slots ≤ R.slots) (d : decode cc pc = .ok (.invokevirtual 242, 3)) (K : ∀ ov' : Int → Int, (∀ j, 0 ≤ j → j < pz 5 → ov' j = coA (bP (pz 1 = pz 0)) (pz 5) (pv 0) by_ (pz 5).toNat a ov j) → GO p l e R s mm args below meth c nL D A A cells slots Q (sW D h f g N M (ptW (M 6) (g 24) (g 25) (g 26) (g 27) (f 6) ++ (plC D pq pz pv ++ ((o, .inl (D.1 101, no, .inl (aI ov'))) :: V)))) (pc + 3) lv st) : GO p l e R s mm args below meth c nL D A A cells slots Q (sW D h f g N M (ptW (M 6) (g 24) (g 25) (g 26) (g 27) (f 6) ++ (plC D pq pz pv ++ ((o, .inl (D.1 101, no, .inl (aI ov))) :: V)))) (pc) lv (.int (iI by_) :: .int (iI a) :: .ref o :: .ref (pq 0) :: .ref (h 0) :: st) := by
  refine g_callVU C (c_comesOff l D C.hl pq pz pv o no ov (h 0) a by_ hz hmv hcp hno hon hfr hby) (As := [.ref (pq 0), .ref o, .int (iI a), .int (iI by_)]) (n := 4) (lw_V q938 q940 qs23 q48 q941) (by decide +kernel) rfl rfl hR (rcvM C) rfl rfl hcat hroom d (wr := sF D h f g N M ++ (ptW (M 6) (g 24) (g 25) (g 26) (g 27) (f 6) ++ (LW D (pq 3) (pq 4) (pz 4) (pq 6) (pz 5) (bxA D (pv 1)) ++ V))) (Sb.perm perm_co) exT_b hex_t (fun v w hp => ?_) kx_nu
  obtain ⟨rfl, ov', h1, rfl⟩ := hp
  exact g_sb (Sb.perm perm_co.symm) (K ov' h1)
end MK
set_option maxHeartbeats 4000000 in
set_option maxRecDepth 100000 in
theorem c_X1_loose (l : Launch) (D : va_G) (hst : l.stackTraces = false) (h : Nat → Nat) (f : Nat → Int) (g : Nat → Int → Int) (N : Nat → Nat) (M : Nat → Nat → Nat) (P : List PR) (a b : Int) (hF : 1 ≤ f 0 ∧ f 0 ≤ 5) (hS : 2 ≤ f 1 ∧ f 1 ≤ 6) (hnp : 0 ≤ f 6 ∧ f 6 ≤ 55) (hN6 : N 6 = 55) (hpt : ∀ j, 0 ≤ j → j < f 6 → (0 ≤ g 24 j ∧ g 24 j ≤ 4) ∧ (0 ≤ g 25 j ∧ g 25 j ≤ 5) ∧ (0 ≤ g 26 j ∧ g 26 j ≤ 2) ∧ (0 ≤ g 27 j ∧ g 27 j ≤ 1)) (hpn : 0 ≤ f 7 ∧ f 7 ≤ N 7 ∧ N 7 ≤ 3000) (hPS : PS f g M P) (har : -2147483648 ≤ a ∧ a < 2147483648) (hbr : -2147483648 ≤ b ∧ b < 2147483648) : CT l D yX1_loose (ws_ yX1_loose cX1_loose 7 (some .int)) (rmD 8 3 412) (3) (412) va_A [.ref (h 0), .int (iI a), .int (iI b)] (sW D h f g N M (ptW (M 6) (g 24) (g 25) (g 26) (g 27) (f 6) ++ plW D P)) exT (pI fun z w => ((0 ≤ a ∧ a < f 7) ∧ ∃ r : PR, P[a.toNat]? = some r ∧ (0 ≤ b ∧ b < r.2.1 5)) ∧ (∃ r : PR, P[a.toNat]? = some r ∧ LSok z (GL (f 0) (fun j => offs (bP (plc (f 0) (f 1) (g 5) (r.2.1 0) (r.2.2 0) (r.2.1 5) = r.2.1 0)) (r.2.1 5) (r.2.2 0) b j = 0 ∧ alg (f 6) (g 24) (g 25) (g 26) (plc (f 0) (f 1) (g 5) (r.2.1 0) (r.2.2 0) j) (r.2.2 0 j) ≠ -1) (fun j => plc (f 0) (f 1) (g 5) (r.2.1 0) (r.2.2 0) j / 2 / 6) (r.2.1 5))) ∧ w = sW D h f g N M (ptW (M 6) (g 24) (g 25) (g 26) (g 27) (f 6) ++ plW D P)) (fun E _ w => E = EN ∧ (¬ (0 ≤ a ∧ a < f 7) ∨ ∃ r : PR, P[a.toNat]? = some r ∧ ¬ (0 ≤ b ∧ b < r.2.1 5)) ∧ w = sW D h f g N M (ptW (M 6) (g 24) (g 25) (g 26) (g 27) (f 6) ++ plW D P)) := by
  refine ct_U (lv := [(0, .ref (h 0)), (1, .int (iI a)), (2, .int (iI b))]) RX1 (by decide) rfl rfl hst (Nat.le_of_ble_eq_true rfl) rfl ?_
  intro p e s mm args below meth c A C htab hex hnm
  refine g_aload_n C dX1_loose_0 rfl 0 rfl ?_
  refine g_iload_n C dX1_loose_1 rfl 1 rfl ?_
  refine kX1_planAt h f g N M P a C hpn hPS (by omega) ⟨Nat.le_of_ble_eq_true rfl, Nat.le_of_ble_eq_true rfl⟩ (Nat.le_of_ble_eq_true rfl) ⟨Nat.le_of_ble_eq_true rfl, Nat.le_of_ble_eq_true rfl⟩ dX1_loose_2 (fun hN1 pq pz pv V hr hV hPV => ?_) (fun hT2 q3 => ?_)
  ·
    have hn0 := hPV.1.2.1
    have hcp := hPV.2.2.1
    have hto := hPV.2.2.2.1
    have hb0 := hPV.1.1
    have hpe := hPV.1.at hF hS (k := pz 5) (by omega) (Int.le_refl _)
    rw [← hto] at hpe
    unfold PIn at hpe hb0
    refine g_astore_n C dX1_loose_5 rfl (lv' := [(0, .ref (h 0)), (1, .int (iI a)), (2, .int (iI b)), (3, .ref (pq 0))]) [1, 2, 3, 0] rfl (Nat.le_of_ble_eq_true rfl) ?_
    refine g_iload_n C dX1_loose_6 rfl 2 rfl ?_
    refine g_if_lt C (tgt := 25) dX1_loose_7 (by decide) (by omega) (fun hc7_4 => ?_) (fun hc7_4 => ?_)
    ·
      refine g_iconst C dX1_loose_25 ?_
      refine kX1_there 0 C (by omega) ⟨Nat.le_of_ble_eq_true rfl, Nat.le_of_ble_eq_true rfl⟩ (Nat.le_of_ble_eq_true rfl) ⟨Nat.le_of_ble_eq_true rfl, Nat.le_of_ble_eq_true rfl⟩ dX1_loose_26 (fun hN5 => ?_) (fun hT6 q7 => ?_)
      ·
        exact absurd hN5 (by decide)
      ·
        exact x_sb (sb_two hV) (x_out C htab (Nat.le_of_ble_eq_true rfl) (Nat.le_of_ble_eq_true rfl) ⟨rfl, Or.inr ⟨(pq, pz, pv), hr, by dsimp only; omega⟩, rfl⟩)
    ·
      refine g_iload_n C dX1_loose_10 rfl 2 rfl ?_
      refine g_aload_n C dX1_loose_11 rfl 3 rfl ?_
      refine gl_get3 C sb_pl dX1_loose_12 ?_
      refine kX1_lsize (pq 1) (pq 2) (pz 3) (pq 5) (pz 5) (bxA D (pv 0)) C ⟨Nat.le_of_ble_eq_true rfl, Nat.le_of_ble_eq_true rfl⟩ (Nat.le_of_ble_eq_true rfl) ⟨Nat.le_of_ble_eq_true rfl, Nat.le_of_ble_eq_true rfl⟩ (rv := pz 5) rfl sb_pm dX1_loose_15 ?_
      refine g_icmp_ge C (tgt := 25) dX1_loose_18 (by decide) (by omega) (by omega) (fun hc18_8 => ?_) (fun hc18_8 => ?_)
      ·
        refine g_iconst C dX1_loose_25 ?_
        refine kX1_there 0 C (by omega) ⟨Nat.le_of_ble_eq_true rfl, Nat.le_of_ble_eq_true rfl⟩ (Nat.le_of_ble_eq_true rfl) ⟨Nat.le_of_ble_eq_true rfl, Nat.le_of_ble_eq_true rfl⟩ dX1_loose_26 (fun hN9 => ?_) (fun hT10 q11 => ?_)
        ·
          exact absurd hN9 (by decide)
        ·
          exact x_sb (sb_two hV) (x_out C htab (Nat.le_of_ble_eq_true rfl) (Nat.le_of_ble_eq_true rfl) ⟨rfl, Or.inr ⟨(pq, pz, pv), hr, by dsimp only; omega⟩, rfl⟩)
      ·
        refine g_iconst C dX1_loose_21 ?_
        refine g_goto C (tgt := 26) dX1_loose_22 (by decide) ?_
        refine kX1_there 1 C (by omega) ⟨Nat.le_of_ble_eq_true rfl, Nat.le_of_ble_eq_true rfl⟩ (Nat.le_of_ble_eq_true rfl) ⟨Nat.le_of_ble_eq_true rfl, Nat.le_of_ble_eq_true rfl⟩ dX1_loose_26 (fun hN12 => ?_) (fun hT13 q14 => ?_)
        ·
          refine g_aload_n C dX1_loose_29 rfl 3 rfl ?_
          refine gl_get3 C sb_pl dX1_loose_30 ?_
          refine kX1_lsize (pq 1) (pq 2) (pz 3) (pq 5) (pz 5) (bxA D (pv 0)) C ⟨Nat.le_of_ble_eq_true rfl, Nat.le_of_ble_eq_true rfl⟩ (Nat.le_of_ble_eq_true rfl) ⟨Nat.le_of_ble_eq_true rfl, Nat.le_of_ble_eq_true rfl⟩ (rv := pz 5) rfl sb_pm dX1_loose_33 ?_
          refine g_newz C (N := (pz 5).toNat) (by omega) (by omega) dX1_loose_36 (show 0 + 1 + 1 + 1 ≤ 3 by omega) (show 0 + 6 + 6 + (pz 5).toNat ≤ 412 by omega) (fun q15 => ?_)
          refine g_sb sb_off ?_
          refine g_ws (ws' := sW D h f g N M (ptW (M 6) (g 24) (g 25) (g 26) (g 27) (f 6) ++ (plC D pq pz pv ++ ((q15, .inl (D.1 101, (pz 5).toNat, .inl (aI (fun _ => 0)))) :: V)))) rfl ?_
          refine g_widen (k := 3) (n := 412) (by omega) (by omega) ?_
          refine g_astore C dX1_loose_38 (lv' := [(0, .ref (h 0)), (1, .int (iI a)), (2, .int (iI b)), (3, .ref (pq 0)), (4, .ref q15)]) [1, 2, 3, 4, 0] rfl (Nat.le_of_ble_eq_true rfl) ?_
          refine g_aload_n C dX1_loose_40 rfl 0 rfl ?_
          refine g_aload_n C dX1_loose_41 rfl 3 rfl ?_
          refine g_aload C dX1_loose_42 4 rfl ?_
          refine g_iload_n C dX1_loose_44 rfl 2 rfl ?_
          refine g_iconst C dX1_loose_45 ?_
          refine kX1_comesOff h f g N M V pq pz pv q15 ((pz 5).toNat) (fun _ => 0) b 1 C (by omega) (fun j h0 h1 => (hPV.1.2.2 j h0 h1).1) (by omega) (by omega) (by omega) (by omega) (by omega) ⟨Nat.le_of_ble_eq_true rfl, Nat.le_of_ble_eq_true rfl⟩ (Nat.le_of_ble_eq_true rfl) ⟨Nat.le_of_ble_eq_true rfl, Nat.le_of_ble_eq_true rfl⟩ dX1_loose_46 (fun ov16 hov17 => ?_)
          refine g_aload_n C dX1_loose_49 rfl 0 rfl ?_
          refine g_aload_n C dX1_loose_50 rfl 3 rfl ?_
          refine g_aload C dX1_loose_51 4 rfl ?_
          refine g_iload_n C dX1_loose_53 rfl 2 rfl ?_
          refine g_iconst C dX1_loose_54 ?_
          refine g_isub C dX1_loose_55 ?_
          refine g_iconst C dX1_loose_56 ?_
          refine kX1_comesOff h f g N M V pq pz pv q15 ((pz 5).toNat) ov16 (b - 1) (-1) C (by omega) (fun j h0 h1 => (hPV.1.2.2 j h0 h1).1) (by omega) (by omega) (by omega) (by omega) (by omega) ⟨Nat.le_of_ble_eq_true rfl, Nat.le_of_ble_eq_true rfl⟩ (Nat.le_of_ble_eq_true rfl) ⟨Nat.le_of_ble_eq_true rfl, Nat.le_of_ble_eq_true rfl⟩ dX1_loose_57 (fun ov18 hov19 => ?_)
          have hof : ∀ j, 0 ≤ j → j < pz 5 → ov18 j = offs (bP (plc (f 0) (f 1) (g 5) (pz 0) (pv 0) (pz 5) = pz 0)) (pz 5) (pv 0) b j := fun j h0 h1 => by rw [← hto, hov19 j h0 h1]; exact coA_o _ _ _ _ (fun j h0 h1 => hov17 j h0 h1) j h0 h1
          have hov9 : ∀ j, 0 ≤ j → j < pz 5 → 0 ≤ ov18 j ∧ ov18 j ≤ 1 := fun j h0 h1 => by rw [hof j h0 h1]; exact offs_rg _ _ _ _ _
          refine g_iconst C dX1_loose_60 ?_
          refine g_aload_n C dX1_loose_61 rfl 0 rfl ?_
          refine gs_get0 C (v := f 0) rfl dX1_loose_62 ?_
          refine g_ishl C dX1_loose_65 (z := shlI 1 (f 0)) (iI_of _).symm ?_
          refine g_iconst C dX1_loose_66 ?_
          refine g_isub C dX1_loose_67 ?_
          refine g_istore C dX1_loose_68 (lv' := [(0, .ref (h 0)), (1, .int (iI a)), (2, .int (iI b)), (3, .ref (pq 0)), (4, .ref q15), (5, .int (iI ((shlI 1 (f 0)) - 1)))]) [1, 2, 3, 4, 5, 0] rfl (Nat.le_of_ble_eq_true rfl) ?_
          refine g_iconst C dX1_loose_70 ?_
          refine g_istore C dX1_loose_71 (lv' := [(0, .ref (h 0)), (1, .int (iI a)), (2, .int (iI b)), (3, .ref (pq 0)), (4, .ref q15), (5, .int (iI ((shlI 1 (f 0)) - 1))), (6, .int (iI 0))]) [1, 2, 3, 4, 5, 6, 0] rfl (Nat.le_of_ble_eq_true rfl) ?_
          have L20 : ∀ (n : Nat) (k : Int) (vv : Int), (0 ≤ k ∧ k ≤ f 6) → (LSok vv (GL (f 0) (fun i => 0 < fgoO ov18 (f 6) (g 24) (g 25) (g 26) (f 0) (f 1) (g 5) (pz 0) (pv 0) (pz 5) i) (g 24) k)) → (f 6 - k).toNat < n → GO p l e (rmD 8 3 412) s mm args below meth c 7 D A A 3 412 (MX below D A (pI fun z w => ((0 ≤ a ∧ a < f 7) ∧ ∃ r : PR, P[a.toNat]? = some r ∧ (0 ≤ b ∧ b < r.2.1 5)) ∧ (∃ r : PR, P[a.toNat]? = some r ∧ LSok z (GL (f 0) (fun j => offs (bP (plc (f 0) (f 1) (g 5) (r.2.1 0) (r.2.2 0) (r.2.1 5) = r.2.1 0)) (r.2.1 5) (r.2.2 0) b j = 0 ∧ alg (f 6) (g 24) (g 25) (g 26) (plc (f 0) (f 1) (g 5) (r.2.1 0) (r.2.2 0) j) (r.2.2 0 j) ≠ -1) (fun j => plc (f 0) (f 1) (g 5) (r.2.1 0) (r.2.2 0) j / 2 / 6) (r.2.1 5))) ∧ w = sW D h f g N M (ptW (M 6) (g 24) (g 25) (g 26) (g 27) (f 6) ++ plW D P)) (fun E _ w => E = EN ∧ (¬ (0 ≤ a ∧ a < f 7) ∨ ∃ r : PR, P[a.toNat]? = some r ∧ ¬ (0 ≤ b ∧ b < r.2.1 5)) ∧ w = sW D h f g N M (ptW (M 6) (g 24) (g 25) (g 26) (g 27) (f 6) ++ plW D P)) args s (3) (412)) (sW D h f g N M (ptW (M 6) (g 24) (g 25) (g 26) (g 27) (f 6) ++ (plC D pq pz pv ++ ((q15, .inl (D.1 101, (pz 5).toNat, .inl (aI ov18))) :: V)))) 73 [(0, .ref (h 0)), (1, .int (iI a)), (2, .int (iI b)), (3, .ref (pq 0)), (4, .ref q15), (5, .int (iI vv)), (6, .int (iI k))] [] := by
            intro n
            induction n with
            | zero => intro k vv hk hls hm; exact absurd hm (Nat.not_lt_zero _)
            | succ n ih20 =>
              intro k vv hk hls hm20
              refine g_iload C dX1_loose_73 6 rfl ?_
              refine g_aload_n C dX1_loose_75 rfl 0 rfl ?_
              refine gs_get6 C dX1_loose_76 ?_
              refine kX1_lsize (h 6) (h 21) (f 21) (N 6) (f 6) (M 6) C ⟨Nat.le_of_ble_eq_true rfl, Nat.le_of_ble_eq_true rfl⟩ (Nat.le_of_ble_eq_true rfl) ⟨Nat.le_of_ble_eq_true rfl, Nat.le_of_ble_eq_true rfl⟩ (rv := f 6) rfl sb_l6 dX1_loose_79 ?_
              refine g_icmp_ge C (tgt := 127) dX1_loose_82 (by decide) (by omega) (by omega) (fun hc82_21 => ?_) (fun hc82_21 => ?_)
              ·
                refine g_sb (Sb.tr sb_drop (sb_two hV)) ?_
                refine g_iload C dX1_loose_127 5 rfl ?_
                exact g_iret C dX1_loose_129 rfl (Nat.le_of_ble_eq_true rfl) (Nat.le_of_ble_eq_true rfl) ⟨_, rfl, ⟨by omega, (pq, pz, pv), hr, by dsimp only; omega⟩, ⟨(pq, pz, pv), hr, loose_cg hnp.1 hof (by have ek : k = f 6 := (by omega); subst ek; exact hls)⟩, rfl⟩
              ·
                refine g_aload_n C dX1_loose_85 rfl 0 rfl ?_
                refine g_aload_n C dX1_loose_86 rfl 3 rfl ?_
                refine g_iload C dX1_loose_87 6 rfl ?_
                refine g_aload C dX1_loose_89 4 rfl ?_
                refine kX1_times1 h f g N M pq pz pv V q15 ((pz 5).toNat) ov18 k C hF hS hnp hN6 hpt hPV (by omega) (by omega) (by omega) hov9 ⟨Nat.le_of_ble_eq_true rfl, Nat.le_of_ble_eq_true rfl⟩ (Nat.le_of_ble_eq_true rfl) ⟨Nat.le_of_ble_eq_true rfl, Nat.le_of_ble_eq_true rfl⟩ (rv := fgoO ov18 (f 6) (g 24) (g 25) (g 26) (f 0) (f 1) (g 5) (pz 0) (pv 0) (pz 5) k) rfl Sb.rf dX1_loose_91 ?_
                have hgr := fgoO_rg (ov := ov18) (np := f 6) (pf := g 24) (ps := g 25) (pk := g 26) (F := f 0) (S := f 1) (kd := g 5) (b := pz 0) (mv := pv 0) (k := pz 5) (j := k) hn0.1
                refine g_if_le C (tgt := 121) dX1_loose_94 (by decide) (by omega) (fun hc94_22 => ?_) (fun hc94_22 => ?_)
                ·
                  refine g_iinc C dX1_loose_121 6 rfl (lv' := [(0, .ref (h 0)), (1, .int (iI a)), (2, .int (iI b)), (3, .ref (pq 0)), (4, .ref q15), (5, .int (iI vv)), (6, .int (iI (k + 1)))]) [1, 2, 3, 4, 5, 6, 0] rfl (Nat.le_of_ble_eq_true rfl) ?_
                  refine g_goto C (tgt := 73) dX1_loose_124 (by decide) ?_
                  exact ih20 (k + 1) vv (by omega) (GL_s hls (by omega)) (by omega)
                ·
                  refine g_iload C dX1_loose_97 5 rfl ?_
                  refine g_iconst C dX1_loose_99 ?_
                  refine g_aload_n C dX1_loose_100 rfl 0 rfl ?_
                  refine gs_get6 C dX1_loose_101 ?_
                  refine g_iload C dX1_loose_104 6 rfl ?_
                  refine kX1_lget (h 6) (h 21) (f 21) (N 6) (f 6) (M 6) k C (by omega) (show 0 ≤ (f 6) ∧ (f 6) ≤ ((N 6 : Nat) : Int) ∧ N 6 ≤ 3000 by omega) ⟨Nat.le_of_ble_eq_true rfl, Nat.le_of_ble_eq_true rfl⟩ (Nat.le_of_ble_eq_true rfl) ⟨Nat.le_of_ble_eq_true rfl, Nat.le_of_ble_eq_true rfl⟩ sb_l6 dX1_loose_106 ?_
                  refine g_castE C q438 (pt_rcv (j := k) C (by omega)) dX1_loose_109 ?_
                  refine gp_get0 C (j := k) (v := (g 24) k) (by omega) rfl dX1_loose_112 ?_
                  have hf23 := hpt (k) (by omega) (by omega)
                  refine g_ishl C dX1_loose_115 (z := shlI 1 ((g 24) k)) (iI_of _).symm ?_
                  refine g_iconst C dX1_loose_116 ?_
                  refine g_ixor C dX1_loose_117 (z := xorI (shlI 1 ((g 24) k)) (-1)) (iI_of _).symm ?_
                  refine g_iand C dX1_loose_118 (z := andI vv (xorI (shlI 1 ((g 24) k)) (-1))) (iI_of _).symm ?_
                  refine g_istore C dX1_loose_119 (lv' := [(0, .ref (h 0)), (1, .int (iI a)), (2, .int (iI b)), (3, .ref (pq 0)), (4, .ref q15), (5, .int (iI (andI vv (xorI (shlI 1 ((g 24) k)) (-1))))), (6, .int (iI k))]) [1, 2, 3, 4, 5, 0, 6] rfl (Nat.le_of_ble_eq_true rfl) ?_
                  refine g_iinc C dX1_loose_121 6 rfl (lv' := [(0, .ref (h 0)), (1, .int (iI a)), (2, .int (iI b)), (3, .ref (pq 0)), (4, .ref q15), (5, .int (iI (andI vv (xorI (shlI 1 ((g 24) k)) (-1))))), (6, .int (iI (k + 1)))]) [1, 2, 3, 4, 5, 6, 0] rfl (Nat.le_of_ble_eq_true rfl) ?_
                  refine g_goto C (tgt := 73) dX1_loose_124 (by decide) ?_
                  exact ih20 (k + 1) (andI vv (xorI (shlI 1 ((g 24) k)) (-1))) (by omega) (GL_c' hls hk.1 (show 0 < fgoO ov18 (f 6) (g 24) (g 25) (g 26) (f 0) (f 1) (g 5) (pz 0) (pv 0) (pz 5) k by omega) rfl (by omega)) (by omega)
          exact L20 _ 0 ((shlI 1 (f 0)) - 1) (by omega) (GL_0 (LSok.ful hF)) (Nat.lt_succ_self _)
        ·
          exact absurd hT13 (by decide)
  ·
    exact x_out C htab (Nat.le_of_ble_eq_true rfl) (Nat.le_of_ble_eq_true rfl) ⟨rfl, Or.inl hT2, rfl⟩

end PL3
