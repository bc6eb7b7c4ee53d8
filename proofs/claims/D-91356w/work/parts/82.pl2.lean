/-! ===== contracts of the class: what is asked of plans ===== -/
def PS (f : Nat → Int) (g : Nat → Int → Int) (M : Nat → Nat → Nat) (P : List PR) : Prop := f 7 = (P.length : Int) ∧ ∀ (i : Nat) (r : PR), P[i]? = some r → M 7 i = r.1 0 ∧ PV f g r.1 r.2.1 r.2.2
theorem sb_one {D : va_G} {h : Nat → Nat} {f : Nat → Int} {g : Nat → Int → Int} {N : Nat → Nat} {M : Nat → Nat → Nat} {T V : va_W} {P : List PR} {w : va_W} (hV : (plW D P).Perm (w ++ V)) : Sb (sW D h f g N M (T ++ plW D P)) (sW D h f g N M (T ++ (w ++ V))) := Sb.perm ((hV.append_left _).append_left _)
section PL2
set_option maxHeartbeats 4000000 in
set_option maxRecDepth 100000 in
theorem c_X1_planAt (l : Launch) (D : va_G) (hst : l.stackTraces = false) (h : Nat → Nat) (f : Nat → Int) (g : Nat → Int → Int) (N : Nat → Nat) (M : Nat → Nat → Nat) (P : List PR) (a : Int) (hpn : 0 ≤ f 7 ∧ f 7 ≤ N 7 ∧ N 7 ≤ 3000) (hPS : PS f g M P) (har : -2147483648 ≤ a ∧ a < 2147483648) : CT l D yX1_planAt (ws_ yX1_planAt cX1_planAt 2 (some (.object "SewnBook$Plan"))) (rmD 7 1 6) (1) (6) mdR [.ref (h 0), .int (iI a)] (sW D h f g N M (ptW (M 6) (g 24) (g 25) (g 26) (g 27) (f 6) ++ plW D P)) exT (fun v _ => (0 ≤ a ∧ a < f 7) ∧ ∃ r : PR, P[a.toNat]? = some r ∧ v = some (.ref (r.1 0))) (fun E _ w => E = EN ∧ ¬ (0 ≤ a ∧ a < f 7) ∧ w = []) := by
  refine ct_R (lv := [(0, .ref (h 0)), (1, .int (iI a))]) RX1 (by decide) rfl rfl hst (Nat.le_of_ble_eq_true rfl) rfl ?_
  intro p e s mm args below meth c A C htab hex
  refine g_iload_n C dX1_planAt_0 rfl 1 rfl ?_
  refine g_if_lt C (tgt := 19) dX1_planAt_1 (by decide) (by omega) (fun hc1_1 => ?_) (fun hc1_1 => ?_)
  ·
    refine g_iconst C dX1_planAt_19 ?_
    refine kX1_there 0 C (by omega) ⟨Nat.le_of_ble_eq_true rfl, Nat.le_of_ble_eq_true rfl⟩ (Nat.le_of_ble_eq_true rfl) ⟨Nat.le_of_ble_eq_true rfl, Nat.le_of_ble_eq_true rfl⟩ dX1_planAt_20 (fun hN2 => ?_) (fun hT3 q4 => ?_)
    ·
      exact absurd hN2 (by decide)
    ·
      exact x_nilA (x_out C htab (Nat.le_of_ble_eq_true rfl) (Nat.le_of_ble_eq_true rfl) ⟨rfl, by omega, rfl⟩)
  ·
    refine g_iload_n C dX1_planAt_4 rfl 1 rfl ?_
    refine g_aload_n C dX1_planAt_5 rfl 0 rfl ?_
    refine gs_get7 C dX1_planAt_6 ?_
    refine kX1_lsize (h 7) (h 22) (f 22) (N 7) (f 7) (M 7) C ⟨Nat.le_of_ble_eq_true rfl, Nat.le_of_ble_eq_true rfl⟩ (Nat.le_of_ble_eq_true rfl) ⟨Nat.le_of_ble_eq_true rfl, Nat.le_of_ble_eq_true rfl⟩ (rv := f 7) rfl sb_l7 dX1_planAt_9 ?_
    refine g_icmp_ge C (tgt := 19) dX1_planAt_12 (by decide) (by omega) (by omega) (fun hc12_5 => ?_) (fun hc12_5 => ?_)
    ·
      refine g_iconst C dX1_planAt_19 ?_
      refine kX1_there 0 C (by omega) ⟨Nat.le_of_ble_eq_true rfl, Nat.le_of_ble_eq_true rfl⟩ (Nat.le_of_ble_eq_true rfl) ⟨Nat.le_of_ble_eq_true rfl, Nat.le_of_ble_eq_true rfl⟩ dX1_planAt_20 (fun hN6 => ?_) (fun hT7 q8 => ?_)
      ·
        exact absurd hN6 (by decide)
      ·
        exact x_nilA (x_out C htab (Nat.le_of_ble_eq_true rfl) (Nat.le_of_ble_eq_true rfl) ⟨rfl, by omega, rfl⟩)
    ·
      refine g_iconst C dX1_planAt_15 ?_
      refine g_goto C (tgt := 20) dX1_planAt_16 (by decide) ?_
      refine kX1_there 1 C (by omega) ⟨Nat.le_of_ble_eq_true rfl, Nat.le_of_ble_eq_true rfl⟩ (Nat.le_of_ble_eq_true rfl) ⟨Nat.le_of_ble_eq_true rfl, Nat.le_of_ble_eq_true rfl⟩ dX1_planAt_20 (fun hN9 => ?_) (fun hT10 q11 => ?_)
      ·
        refine g_aload_n C dX1_planAt_23 rfl 0 rfl ?_
        refine gs_get7 C dX1_planAt_24 ?_
        refine g_iload_n C dX1_planAt_27 rfl 1 rfl ?_
        refine kX1_lget (h 7) (h 22) (f 22) (N 7) (f 7) (M 7) a C (by omega) (show 0 ≤ (f 7) ∧ (f 7) ≤ ((N 7 : Nat) : Int) ∧ N 7 ≤ 3000 by omega) ⟨Nat.le_of_ble_eq_true rfl, Nat.le_of_ble_eq_true rfl⟩ (Nat.le_of_ble_eq_true rfl) ⟨Nat.le_of_ble_eq_true rfl, Nat.le_of_ble_eq_true rfl⟩ sb_l7 dX1_planAt_28 ?_
        obtain ⟨r, hr⟩ : ∃ r, P[a.toNat]? = some r := ⟨_, List.getElem?_eq_getElem (by have := hPS.1; omega)⟩
        rw [(hPS.2 _ _ hr).1]
        refine g_castE C q747 (fun H _ hP _ => by obtain ⟨V, hV⟩ := plW_at (D := D) hr; exact va_recv C.hK ((Sb.tr (Sb.tr Sb.rt Sb.rt) (Sb.perm hV)).1 _ _ _ hP) (show clX[3]? = some _ from rfl) (show (plC D r.1 r.2.1 r.2.2 ++ V)[0]? = some _ from rfl)) dX1_planAt_31 ?_
        refine g_nilA ?_
        exact g_aret C (Or.inl ⟨_, rfl⟩) (Or.inr ⟨_, rfl⟩) dX1_planAt_34 (Nat.le_of_ble_eq_true rfl) (Nat.le_of_ble_eq_true rfl) ⟨by omega, r, hr, rfl⟩
      ·
        exact absurd hT10 (by decide)

section MK
variable {p : Program} {l : Launch} {e : Env} {R : Room} {s : State} {mm : MethodId} {args : Array Value} {below : List Frame} {meth : Method} {c : Code} {cc : ByteArray} {nL : Nat} {ret : Option FieldType} {D : va_G} {A B : Nat → Prop} {cells slots : Nat} {Q : State → Prop} {pc : Nat} {lv : List (Nat × Value)} {st : List Value}
theorem kX1_planAt (h : Nat → Nat) (f : Nat → Int) (g : Nat → Int → Int) (N : Nat → Nat) (M : Nat → Nat → Nat) (P : List PR) (a : Int) (C : CX p l s mm args meth c RX1 cc nL ret D A) (hpn : 0 ≤ f 7 ∧ f 7 ≤ N 7 ∧ N 7 ≤ 3000) (hPS : PS f g M P) (har : -2147483648 ≤ a ∧ a < 2147483648) (hR : 7 + 1 ≤ R.frames ∧ 8 + (2 + 11) + 64 * 7 ≤ R.locals) (hcat : (st.map fun v => v.category).sum ≤ 8) (hroom : cells + 1 ≤ R.cells ∧ slots + 6 ≤ R.slots) (d : decode cc pc = .ok (.invokevirtual 230, 3)) (K : (0 ≤ a ∧ a < f 7) → ∀ (pq : Nat → Nat) (pz : Nat → Int) (pv : Nat → Int → Int) (V : va_W), P[a.toNat]? = some (pq, pz, pv) → (plW D P).Perm (plC D pq pz pv ++ V) → PV f g pq pz pv → GO p l e R s mm args below meth c nL D A B (cells + 1) (slots + 6) Q (sW D h f g N M (ptW (M 6) (g 24) (g 25) (g 26) (g 27) (f 6) ++ (plC D pq pz pv ++ V))) (pc + 3) lv (.ref (pq 0) :: st)) (KX : (¬ (0 ≤ a ∧ a < f 7)) → ∀ q : Addr, GT p l e R s mm args below meth c nL D A B (cells + 1) (slots + 6) Q (sW D h f g N M (ptW (M 6) (g 24) (g 25) (g 26) (g 27) (f 6) ++ plW D P)) (pc) lv (st) EN q) : GO p l e R s mm args below meth c nL D A B cells slots Q (sW D h f g N M (ptW (M 6) (g 24) (g 25) (g 26) (g 27) (f 6) ++ plW D P)) (pc) lv (.int (iI a) :: .ref (h 0) :: st) := by
  refine g_callVR C (c_X1_planAt l D C.hl h f g N M P a hpn hPS har) (As := [.int (iI a)]) (n := 1) (lw_V q874 q876 qs18 q48 q877) (by decide +kernel) rfl rfl hR (rcvM C) rfl rfl hcat hroom d Sb.rf exT_b hex_t (fun v w hp => ?_) (fun E q w hp => ?_)
  · obtain ⟨h1, ⟨pq, pz, pv⟩, hr, rfl⟩ := hp
    obtain ⟨V, hV⟩ := plW_at (D := D) hr
    exact g_sb (sb_one hV) (K h1 pq pz pv V hr hV (hPS.2 _ _ hr).2)
  · obtain ⟨rfl, h1, -⟩ := hp
    exact KX h1 q
end MK
set_option maxHeartbeats 4000000 in
set_option maxRecDepth 100000 in
theorem c_X1_along (l : Launch) (D : va_G) (hst : l.stackTraces = false) (h : Nat → Nat) (f : Nat → Int) (g : Nat → Int → Int) (N : Nat → Nat) (M : Nat → Nat → Nat) (P : List PR) (a b : Int) (hF : 1 ≤ f 0 ∧ f 0 ≤ 5) (hS : 2 ≤ f 1 ∧ f 1 ≤ 6) (hnp : 0 ≤ f 6 ∧ f 6 ≤ 55) (hN6 : N 6 = 55) (hpt : ∀ j, 0 ≤ j → j < f 6 → (0 ≤ g 24 j ∧ g 24 j ≤ 4) ∧ (0 ≤ g 25 j ∧ g 25 j ≤ 5) ∧ (0 ≤ g 26 j ∧ g 26 j ≤ 2) ∧ (0 ≤ g 27 j ∧ g 27 j ≤ 1)) (hpn : 0 ≤ f 7 ∧ f 7 ≤ N 7 ∧ N 7 ≤ 3000) (hPS : PS f g M P) (har : -2147483648 ≤ a ∧ a < 2147483648) (hbr : -2147483648 ≤ b ∧ b < 2147483648) : CT l D yX1_along (ws_ yX1_along cX1_along 4 (some .int)) (rmD 8 2 12) (2) (12) mdR [.ref (h 0), .int (iI a), .int (iI b)] (sW D h f g N M (ptW (M 6) (g 24) (g 25) (g 26) (g 27) (f 6) ++ plW D P)) exT (pI fun z _ => ((0 ≤ a ∧ a < f 7) ∧ 0 ≤ b ∧ b < f 6) ∧ ∃ r : PR, P[a.toNat]? = some r ∧ (z = fgo (f 6) (g 24) (g 25) (g 26) (f 0) (f 1) (g 5) (r.2.1 0) (r.2.2 0) (r.2.1 5) b)) (fun E _ w => E = EN ∧ ¬ ((0 ≤ a ∧ a < f 7) ∧ 0 ≤ b ∧ b < f 6) ∧ w = []) := by
  refine ct_R (lv := [(0, .ref (h 0)), (1, .int (iI a)), (2, .int (iI b))]) RX1 (by decide) rfl rfl hst (Nat.le_of_ble_eq_true rfl) rfl ?_
  intro p e s mm args below meth c A C htab hex
  refine g_aload_n C dX1_along_0 rfl 0 rfl ?_
  refine g_iload_n C dX1_along_1 rfl 1 rfl ?_
  refine kX1_planAt h f g N M P a C hpn hPS (by omega) ⟨Nat.le_of_ble_eq_true rfl, Nat.le_of_ble_eq_true rfl⟩ (Nat.le_of_ble_eq_true rfl) ⟨Nat.le_of_ble_eq_true rfl, Nat.le_of_ble_eq_true rfl⟩ dX1_along_2 (fun hN1 pq pz pv V hr hV hPV => ?_) (fun hT2 q3 => ?_)
  ·
    have hn0 := hPV.1.2.1
    have hcp := hPV.2.2.1
    refine g_astore_n C dX1_along_5 rfl (lv' := [(0, .ref (h 0)), (1, .int (iI a)), (2, .int (iI b)), (3, .ref (pq 0))]) [1, 2, 3, 0] rfl (Nat.le_of_ble_eq_true rfl) ?_
    refine g_aload_n C dX1_along_6 rfl 0 rfl ?_
    refine g_iload_n C dX1_along_7 rfl 2 rfl ?_
    refine kX1_X1_partAt h f g N M (plC D pq pz pv ++ V) b C hnp hN6 hpt (by omega) ⟨Nat.le_of_ble_eq_true rfl, Nat.le_of_ble_eq_true rfl⟩ (Nat.le_of_ble_eq_true rfl) ⟨Nat.le_of_ble_eq_true rfl, Nat.le_of_ble_eq_true rfl⟩ Sb.rf dX1_along_8 (fun hN4 => ?_) (fun hT5 q6 => ?_)
    ·
      refine g_pop C dX1_along_11 rfl ?_
      refine g_aload_n C dX1_along_12 rfl 0 rfl ?_
      refine g_aload_n C dX1_along_13 rfl 3 rfl ?_
      refine g_iload_n C dX1_along_14 rfl 2 rfl ?_
      refine g_null C dX1_along_15 ?_
      refine kX1_times0 h f g N M pq pz pv V b C hF hS hnp hN6 hpt hPV (by omega) ⟨Nat.le_of_ble_eq_true rfl, Nat.le_of_ble_eq_true rfl⟩ (Nat.le_of_ble_eq_true rfl) ⟨Nat.le_of_ble_eq_true rfl, Nat.le_of_ble_eq_true rfl⟩ (rv := fgo (f 6) (g 24) (g 25) (g 26) (f 0) (f 1) (g 5) (pz 0) (pv 0) (pz 5) b) rfl Sb.rf dX1_along_16 ?_
      refine g_nilA ?_
      exact g_iret C dX1_along_19 rfl (Nat.le_of_ble_eq_true rfl) (Nat.le_of_ble_eq_true rfl) ⟨_, rfl, by omega, (pq, pz, pv), hr, rfl⟩
    ·
      exact x_nilA (x_out C htab (Nat.le_of_ble_eq_true rfl) (Nat.le_of_ble_eq_true rfl) ⟨rfl, by omega, rfl⟩)
  ·
    exact x_nilA (x_out C htab (Nat.le_of_ble_eq_true rfl) (Nat.le_of_ble_eq_true rfl) ⟨rfl, by omega, rfl⟩)

set_option maxHeartbeats 4000000 in
set_option maxRecDepth 100000 in
theorem c_X1_tied (l : Launch) (D : va_G) (hst : l.stackTraces = false) (h : Nat → Nat) (f : Nat → Int) (g : Nat → Int → Int) (N : Nat → Nat) (M : Nat → Nat → Nat) (P : List PR) (a b : Int) (hF : 1 ≤ f 0 ∧ f 0 ≤ 5) (hS : 2 ≤ f 1 ∧ f 1 ≤ 6) (hpn : 0 ≤ f 7 ∧ f 7 ≤ N 7 ∧ N 7 ≤ 3000) (hPS : PS f g M P) (har : -2147483648 ≤ a ∧ a < 2147483648) (hbr : -2147483648 ≤ b ∧ b < 2147483648) : CT l D yX1_tied (ws_ yX1_tied cX1_tied 4 (some .int)) (rmD 8 2 12) (2) (12) mdR [.ref (h 0), .int (iI a), .int (iI b)] (sW D h f g N M (ptW (M 6) (g 24) (g 25) (g 26) (g 27) (f 6) ++ plW D P)) exT (pI fun z _ => ((0 ≤ a ∧ a < f 7) ∧ 0 ≤ b ∧ b < f 0 - 1) ∧ ∃ r : PR, P[a.toNat]? = some r ∧ (z = fti (f 0) (f 1) (g 5) (r.2.1 0) (r.2.2 0) (r.2.1 5) b)) (fun E _ w => E = EN ∧ ¬ ((0 ≤ a ∧ a < f 7) ∧ 0 ≤ b ∧ b < f 0 - 1) ∧ w = []) := by
  refine ct_R (lv := [(0, .ref (h 0)), (1, .int (iI a)), (2, .int (iI b))]) RX1 (by decide) rfl rfl hst (Nat.le_of_ble_eq_true rfl) rfl ?_
  intro p e s mm args below meth c A C htab hex
  refine g_aload_n C dX1_tied_0 rfl 0 rfl ?_
  refine g_iload_n C dX1_tied_1 rfl 1 rfl ?_
  refine kX1_planAt h f g N M P a C hpn hPS (by omega) ⟨Nat.le_of_ble_eq_true rfl, Nat.le_of_ble_eq_true rfl⟩ (Nat.le_of_ble_eq_true rfl) ⟨Nat.le_of_ble_eq_true rfl, Nat.le_of_ble_eq_true rfl⟩ dX1_tied_2 (fun hN1 pq pz pv V hr hV hPV => ?_) (fun hT2 q3 => ?_)
  ·
    have hn0 := hPV.1.2.1
    have hcp := hPV.2.2.1
    refine g_astore_n C dX1_tied_5 rfl (lv' := [(0, .ref (h 0)), (1, .int (iI a)), (2, .int (iI b)), (3, .ref (pq 0))]) [1, 2, 3, 0] rfl (Nat.le_of_ble_eq_true rfl) ?_
    refine g_iload_n C dX1_tied_6 rfl 2 rfl ?_
    refine g_if_lt C (tgt := 24) dX1_tied_7 (by decide) (by omega) (fun hc7_4 => ?_) (fun hc7_4 => ?_)
    ·
      refine g_iconst C dX1_tied_24 ?_
      refine kX1_there 0 C (by omega) ⟨Nat.le_of_ble_eq_true rfl, Nat.le_of_ble_eq_true rfl⟩ (Nat.le_of_ble_eq_true rfl) ⟨Nat.le_of_ble_eq_true rfl, Nat.le_of_ble_eq_true rfl⟩ dX1_tied_25 (fun hN5 => ?_) (fun hT6 q7 => ?_)
      ·
        exact absurd hN5 (by decide)
      ·
        exact x_nilA (x_out C htab (Nat.le_of_ble_eq_true rfl) (Nat.le_of_ble_eq_true rfl) ⟨rfl, by omega, rfl⟩)
    ·
      refine g_iload_n C dX1_tied_10 rfl 2 rfl ?_
      refine g_aload_n C dX1_tied_11 rfl 0 rfl ?_
      refine gs_get0 C (v := f 0) rfl dX1_tied_12 ?_
      refine g_iconst C dX1_tied_15 ?_
      refine g_isub C dX1_tied_16 ?_
      refine g_icmp_ge C (tgt := 24) dX1_tied_17 (by decide) (by omega) (by omega) (fun hc17_8 => ?_) (fun hc17_8 => ?_)
      ·
        refine g_iconst C dX1_tied_24 ?_
        refine kX1_there 0 C (by omega) ⟨Nat.le_of_ble_eq_true rfl, Nat.le_of_ble_eq_true rfl⟩ (Nat.le_of_ble_eq_true rfl) ⟨Nat.le_of_ble_eq_true rfl, Nat.le_of_ble_eq_true rfl⟩ dX1_tied_25 (fun hN9 => ?_) (fun hT10 q11 => ?_)
        ·
          exact absurd hN9 (by decide)
        ·
          exact x_nilA (x_out C htab (Nat.le_of_ble_eq_true rfl) (Nat.le_of_ble_eq_true rfl) ⟨rfl, by omega, rfl⟩)
      ·
        refine g_iconst C dX1_tied_20 ?_
        refine g_goto C (tgt := 25) dX1_tied_21 (by decide) ?_
        refine kX1_there 1 C (by omega) ⟨Nat.le_of_ble_eq_true rfl, Nat.le_of_ble_eq_true rfl⟩ (Nat.le_of_ble_eq_true rfl) ⟨Nat.le_of_ble_eq_true rfl, Nat.le_of_ble_eq_true rfl⟩ dX1_tied_25 (fun hN12 => ?_) (fun hT13 q14 => ?_)
        ·
          refine g_aload_n C dX1_tied_28 rfl 0 rfl ?_
          refine g_aload_n C dX1_tied_29 rfl 3 rfl ?_
          refine g_iload_n C dX1_tied_30 rfl 2 rfl ?_
          refine kX1_X1_ties h f g N M pq pz pv V b C hF hS hPV (by omega) ⟨Nat.le_of_ble_eq_true rfl, Nat.le_of_ble_eq_true rfl⟩ (Nat.le_of_ble_eq_true rfl) ⟨Nat.le_of_ble_eq_true rfl, Nat.le_of_ble_eq_true rfl⟩ (rv := fti (f 0) (f 1) (g 5) (pz 0) (pv 0) (pz 5) b) rfl Sb.rf dX1_tied_31 ?_
          refine g_nilA ?_
          exact g_iret C dX1_tied_34 rfl (Nat.le_of_ble_eq_true rfl) (Nat.le_of_ble_eq_true rfl) ⟨_, rfl, by omega, (pq, pz, pv), hr, rfl⟩
        ·
          exact absurd hT13 (by decide)
  ·
    exact x_nilA (x_out C htab (Nat.le_of_ble_eq_true rfl) (Nat.le_of_ble_eq_true rfl) ⟨rfl, by omega, rfl⟩)

set_option maxHeartbeats 4000000 in
set_option maxRecDepth 100000 in
theorem c_X1_holes (l : Launch) (D : va_G) (hst : l.stackTraces = false) (h : Nat → Nat) (f : Nat → Int) (g : Nat → Int → Int) (N : Nat → Nat) (M : Nat → Nat → Nat) (P : List PR) (a b c_ : Int) (hF : 1 ≤ f 0 ∧ f 0 ≤ 5) (hS : 2 ≤ f 1 ∧ f 1 ≤ 6) (hpn : 0 ≤ f 7 ∧ f 7 ≤ N 7 ∧ N 7 ≤ 3000) (hPS : PS f g M P) (har : -2147483648 ≤ a ∧ a < 2147483648) (hbr : -2147483648 ≤ b ∧ b < 2147483648) (hc_r : -2147483648 ≤ c_ ∧ c_ < 2147483648) : CT l D yX1_holes (ws_ yX1_holes cX1_holes 7 (some .int)) (rmD 8 3 18) (3) (18) mdR [.ref (h 0), .int (iI a), .int (iI b), .int (iI c_)] (sW D h f g N M (ptW (M 6) (g 24) (g 25) (g 26) (g 27) (f 6) ++ plW D P)) exT (pI fun z _ => ((0 ≤ a ∧ a < f 7) ∧ (0 ≤ b ∧ b < f 0) ∧ 0 ≤ c_ ∧ c_ < f 1) ∧ ∃ r : PR, P[a.toNat]? = some r ∧ (z = fho (f 0) (f 1) (g 5) (r.2.1 0) (r.2.2 0) (r.2.1 5) (6 * b + c_))) (fun E _ w => E = EN ∧ ¬ ((0 ≤ a ∧ a < f 7) ∧ (0 ≤ b ∧ b < f 0) ∧ 0 ≤ c_ ∧ c_ < f 1) ∧ w = []) := by
  refine ct_R (lv := [(0, .ref (h 0)), (1, .int (iI a)), (2, .int (iI b)), (3, .int (iI c_))]) RX1 (by decide) rfl rfl hst (Nat.le_of_ble_eq_true rfl) rfl ?_
  intro p e s mm args below meth c A C htab hex
  refine g_aload_n C dX1_holes_0 rfl 0 rfl ?_
  refine g_iload_n C dX1_holes_1 rfl 1 rfl ?_
  refine kX1_planAt h f g N M P a C hpn hPS (by omega) ⟨Nat.le_of_ble_eq_true rfl, Nat.le_of_ble_eq_true rfl⟩ (Nat.le_of_ble_eq_true rfl) ⟨Nat.le_of_ble_eq_true rfl, Nat.le_of_ble_eq_true rfl⟩ dX1_holes_2 (fun hN1 pq pz pv V hr hV hPV => ?_) (fun hT2 q3 => ?_)
  ·
    have hn0 := hPV.1.2.1
    have hcp := hPV.2.2.1
    refine g_astore C dX1_holes_5 (lv' := [(0, .ref (h 0)), (1, .int (iI a)), (2, .int (iI b)), (3, .int (iI c_)), (4, .ref (pq 0))]) [1, 2, 3, 4, 0] rfl (Nat.le_of_ble_eq_true rfl) ?_
    refine g_aload_n C dX1_holes_7 rfl 0 rfl ?_
    refine g_iload_n C dX1_holes_8 rfl 2 rfl ?_
    refine kX1_X1_isFold h f g N M (ptW (M 6) (g 24) (g 25) (g 26) (g 27) (f 6) ++ (plC D pq pz pv ++ V)) b C hF (by omega) ⟨Nat.le_of_ble_eq_true rfl, Nat.le_of_ble_eq_true rfl⟩ (Nat.le_of_ble_eq_true rfl) ⟨Nat.le_of_ble_eq_true rfl, Nat.le_of_ble_eq_true rfl⟩ Sb.rf dX1_holes_9 (fun hN4 => ?_) (fun hT5 q6 => ?_)
    ·
      refine g_aload_n C dX1_holes_12 rfl 0 rfl ?_
      refine g_iload_n C dX1_holes_13 rfl 3 rfl ?_
      refine kX1_X1_isStation h f g N M (ptW (M 6) (g 24) (g 25) (g 26) (g 27) (f 6) ++ (plC D pq pz pv ++ V)) c_ C hS (by omega) ⟨Nat.le_of_ble_eq_true rfl, Nat.le_of_ble_eq_true rfl⟩ (Nat.le_of_ble_eq_true rfl) ⟨Nat.le_of_ble_eq_true rfl, Nat.le_of_ble_eq_true rfl⟩ Sb.rf dX1_holes_14 (fun hN7 => ?_) (fun hT8 q9 => ?_)
      ·
        refine g_iconst C dX1_holes_17 ?_
        refine g_istore C dX1_holes_18 (lv' := [(0, .ref (h 0)), (1, .int (iI a)), (2, .int (iI b)), (3, .int (iI c_)), (4, .ref (pq 0)), (5, .int (iI 0))]) [1, 2, 3, 4, 5, 0] rfl (Nat.le_of_ble_eq_true rfl) ?_
        refine g_iconst C dX1_holes_20 ?_
        refine g_istore C dX1_holes_21 (lv' := [(0, .ref (h 0)), (1, .int (iI a)), (2, .int (iI b)), (3, .int (iI c_)), (4, .ref (pq 0)), (5, .int (iI 0)), (6, .int (iI 0))]) [1, 2, 3, 4, 5, 6, 0] rfl (Nat.le_of_ble_eq_true rfl) ?_
        have L10 : ∀ (n : Nat) (k : Int) (nn : Int), (0 ≤ k ∧ k ≤ pz 5) → (nn = fho (f 0) (f 1) (g 5) (pz 0) (pv 0) k (6 * b + c_)) → (pz 5 - k).toNat < n → GO p l e (rmD 8 3 18) s mm args below meth c 7 D A (fun _ => True) (0 + 1 + 1 + 1) (0 + 6 + 6 + 6) (MX below D A (pI fun z _ => ((0 ≤ a ∧ a < f 7) ∧ (0 ≤ b ∧ b < f 0) ∧ 0 ≤ c_ ∧ c_ < f 1) ∧ ∃ r : PR, P[a.toNat]? = some r ∧ (z = fho (f 0) (f 1) (g 5) (r.2.1 0) (r.2.2 0) (r.2.1 5) (6 * b + c_))) (fun E _ w => E = EN ∧ ¬ ((0 ≤ a ∧ a < f 7) ∧ (0 ≤ b ∧ b < f 0) ∧ 0 ≤ c_ ∧ c_ < f 1) ∧ w = []) args s (3) (18)) (sW D h f g N M (ptW (M 6) (g 24) (g 25) (g 26) (g 27) (f 6) ++ (plC D pq pz pv ++ V))) 23 [(0, .ref (h 0)), (1, .int (iI a)), (2, .int (iI b)), (3, .int (iI c_)), (4, .ref (pq 0)), (5, .int (iI nn)), (6, .int (iI k))] [] := by
          intro n
          induction n with
          | zero => intro k nn hk hn hm; exact absurd hm (Nat.not_lt_zero _)
          | succ n ih10 =>
            intro k nn hk hn hm10
            refine g_iload C dX1_holes_23 6 rfl ?_
            refine g_aload C dX1_holes_25 4 rfl ?_
            refine gl_get3 C sb_pl dX1_holes_27 ?_
            refine kX1_lsize (pq 1) (pq 2) (pz 3) (pq 5) (pz 5) (bxA D (pv 0)) C ⟨Nat.le_of_ble_eq_true rfl, Nat.le_of_ble_eq_true rfl⟩ (Nat.le_of_ble_eq_true rfl) ⟨Nat.le_of_ble_eq_true rfl, Nat.le_of_ble_eq_true rfl⟩ (rv := pz 5) rfl sb_pm dX1_holes_30 ?_
            refine g_icmp_ge C (tgt := 91) dX1_holes_33 (by decide) (by omega) (by omega) (fun hc33_11 => ?_) (fun hc33_11 => ?_)
            ·
              refine g_iload C dX1_holes_91 5 rfl ?_
              refine g_nilA ?_
              exact g_iret C dX1_holes_93 rfl (Nat.le_of_ble_eq_true rfl) (Nat.le_of_ble_eq_true rfl) ⟨_, rfl, by omega, (pq, pz, pv), hr, by rw [hn, show k = pz 5 by omega]⟩
            ·
              have hk8 := hPV.1.2.2 k hk.1 (by omega)
              have hpp := hPV.2.1 k hk.1 (by omega)
              have hpi := hPV.1.at hF hS (k := k) hk.1 (by omega)
              rw [← hpp] at hpi hk8
              unfold PIn at hpi
              refine g_aload C dX1_holes_36 4 rfl ?_
              refine gl_get3 C sb_pl dX1_holes_38 ?_
              refine g_iload C dX1_holes_41 6 rfl ?_
              refine kX1_lget (pq 1) (pq 2) (pz 3) (pq 5) (pz 5) (bxA D (pv 0)) k C (by omega) (by omega) ⟨Nat.le_of_ble_eq_true rfl, Nat.le_of_ble_eq_true rfl⟩ (Nat.le_of_ble_eq_true rfl) ⟨Nat.le_of_ble_eq_true rfl, Nat.le_of_ble_eq_true rfl⟩ sb_pm dX1_holes_43 ?_
              rw [bx_at (show 0 ≤ k by omega)]
              refine g_castE C q890 (rcvB C (show (pv 0 k + 128).toNat < 256 by omega)) dX1_holes_46 ?_
              refine kX1_iintV (pv 0 k) C (by omega) ⟨Nat.le_of_ble_eq_true rfl, Nat.le_of_ble_eq_true rfl⟩ (Nat.le_of_ble_eq_true rfl) ⟨Nat.le_of_ble_eq_true rfl, Nat.le_of_ble_eq_true rfl⟩ (rv := pv 0 k) rfl dX1_holes_49 ?_
              refine g_if_ne C (tgt := 85) dX1_holes_52 (by decide) (by omega) (fun hc52_12 => ?_) (fun hc52_12 => ?_)
              ·
                refine g_iinc C dX1_holes_85 6 rfl (lv' := [(0, .ref (h 0)), (1, .int (iI a)), (2, .int (iI b)), (3, .int (iI c_)), (4, .ref (pq 0)), (5, .int (iI nn)), (6, .int (iI (k + 1)))]) [1, 2, 3, 4, 5, 6, 0] rfl (Nat.le_of_ble_eq_true rfl) ?_
                refine g_goto C (tgt := 23) dX1_holes_88 (by decide) ?_
                exact ih10 (k + 1) nn (by omega) (by rw [fho_s hk.1, ← hpp, bI_dn (by omega), hn]; omega) (by omega)
              ·
                refine g_aload C dX1_holes_55 4 rfl ?_
                refine gl_get4 C sb_pl dX1_holes_57 ?_
                refine g_iload C dX1_holes_60 6 rfl ?_
                refine kX1_lget (pq 3) (pq 4) (pz 4) (pq 6) (pz 5) (bxA D (pv 1)) k C (by omega) (by omega) ⟨Nat.le_of_ble_eq_true rfl, Nat.le_of_ble_eq_true rfl⟩ (Nat.le_of_ble_eq_true rfl) ⟨Nat.le_of_ble_eq_true rfl, Nat.le_of_ble_eq_true rfl⟩ sb_pp dX1_holes_62 ?_
                rw [bx_at (show 0 ≤ k by omega)]
                refine g_castE C q890 (rcvB C (show (pv 1 k + 128).toNat < 256 by omega)) dX1_holes_65 ?_
                refine kX1_iintV (pv 1 k) C (by omega) ⟨Nat.le_of_ble_eq_true rfl, Nat.le_of_ble_eq_true rfl⟩ (Nat.le_of_ble_eq_true rfl) ⟨Nat.le_of_ble_eq_true rfl, Nat.le_of_ble_eq_true rfl⟩ (rv := pv 1 k) rfl dX1_holes_68 ?_
                refine g_iconst C dX1_holes_71 ?_
                refine g_idiv C dX1_holes_72 (by omega) (by omega) ?_
                refine g_bipush C dX1_holes_73 (z := 6) rfl ?_
                refine g_iload_n C dX1_holes_75 rfl 2 rfl ?_
                refine g_imul C dX1_holes_76 ?_
                refine g_iload_n C dX1_holes_77 rfl 3 rfl ?_
                refine g_iadd C dX1_holes_78 ?_
                refine g_icmp_ne C (tgt := 85) dX1_holes_79 (by decide) (by omega) (by omega) (fun hc79_13 => ?_) (fun hc79_13 => ?_)
                ·
                  refine g_iinc C dX1_holes_85 6 rfl (lv' := [(0, .ref (h 0)), (1, .int (iI a)), (2, .int (iI b)), (3, .int (iI c_)), (4, .ref (pq 0)), (5, .int (iI nn)), (6, .int (iI (k + 1)))]) [1, 2, 3, 4, 5, 6, 0] rfl (Nat.le_of_ble_eq_true rfl) ?_
                  refine g_goto C (tgt := 23) dX1_holes_88 (by decide) ?_
                  exact ih10 (k + 1) nn (by omega) (by rw [fho_s hk.1, ← hpp, bI_dn (by omega), hn]; omega) (by omega)
                ·
                  refine g_iinc C dX1_holes_82 5 rfl (lv' := [(0, .ref (h 0)), (1, .int (iI a)), (2, .int (iI b)), (3, .int (iI c_)), (4, .ref (pq 0)), (5, .int (iI (nn + 1))), (6, .int (iI k))]) [1, 2, 3, 4, 5, 0, 6] rfl (Nat.le_of_ble_eq_true rfl) ?_
                  refine g_iinc C dX1_holes_85 6 rfl (lv' := [(0, .ref (h 0)), (1, .int (iI a)), (2, .int (iI b)), (3, .int (iI c_)), (4, .ref (pq 0)), (5, .int (iI (nn + 1))), (6, .int (iI (k + 1)))]) [1, 2, 3, 4, 5, 6, 0] rfl (Nat.le_of_ble_eq_true rfl) ?_
                  refine g_goto C (tgt := 23) dX1_holes_88 (by decide) ?_
                  exact ih10 (k + 1) (nn + 1) (by omega) (by rw [fho_s hk.1, ← hpp, bI_d (by omega), hn]) (by omega)
        exact L10 _ 0 0 (by omega) rfl (Nat.lt_succ_self _)
      ·
        exact x_nilA (x_out C htab (Nat.le_of_ble_eq_true rfl) (Nat.le_of_ble_eq_true rfl) ⟨rfl, by omega, rfl⟩)
    ·
      exact x_nilA (x_out C htab (Nat.le_of_ble_eq_true rfl) (Nat.le_of_ble_eq_true rfl) ⟨rfl, by omega, rfl⟩)
  ·
    exact x_nilA (x_out C htab (Nat.le_of_ble_eq_true rfl) (Nat.le_of_ble_eq_true rfl) ⟨rfl, by omega, rfl⟩)

set_option maxHeartbeats 4000000 in
set_option maxRecDepth 100000 in
theorem c_X1_swells (l : Launch) (D : va_G) (hst : l.stackTraces = false) (h : Nat → Nat) (f : Nat → Int) (g : Nat → Int → Int) (N : Nat → Nat) (M : Nat → Nat → Nat) (P : List PR) (a b : Int) (hF : 1 ≤ f 0 ∧ f 0 ≤ 5) (hS : 2 ≤ f 1 ∧ f 1 ≤ 6) (hnp : 0 ≤ f 6 ∧ f 6 ≤ 55) (hN6 : N 6 = 55) (hpt : ∀ j, 0 ≤ j → j < f 6 → (0 ≤ g 24 j ∧ g 24 j ≤ 4) ∧ (0 ≤ g 25 j ∧ g 25 j ≤ 5) ∧ (0 ≤ g 26 j ∧ g 26 j ≤ 2) ∧ (0 ≤ g 27 j ∧ g 27 j ≤ 1)) (hpn : 0 ≤ f 7 ∧ f 7 ≤ N 7 ∧ N 7 ≤ 3000) (hPS : PS f g M P) (hth : ∀ j, 0 ≤ j → j < 5 → 1 ≤ g 3 j ∧ g 3 j ≤ 50) (ht2 : 0 ≤ f 2 ∧ f 2 ≤ 9) (har : -2147483648 ≤ a ∧ a < 2147483648) (hbr : -2147483648 ≤ b ∧ b < 2147483648) : CT l D yX1_swells (ws_ yX1_swells cX1_swells 7 (some .int)) (rmD 8 2 12) (2) (12) mdR [.ref (h 0), .int (iI a), .int (iI b)] (sW D h f g N M (ptW (M 6) (g 24) (g 25) (g 26) (g 27) (f 6) ++ plW D P)) exT (pI fun z _ => ((0 ≤ a ∧ a < f 7) ∧ 0 ≤ b ∧ b < f 1) ∧ ∃ r : PR, P[a.toNat]? = some r ∧ (z = fswS (g 3) (f 0) + fswP (f 2) b (g 25) (g 26) (fgo (f 6) (g 24) (g 25) (g 26) (f 0) (f 1) (g 5) (r.2.1 0) (r.2.2 0) (r.2.1 5)) (f 6))) (fun E _ w => E = EN ∧ ¬ ((0 ≤ a ∧ a < f 7) ∧ 0 ≤ b ∧ b < f 1) ∧ w = []) := by
  refine ct_R (lv := [(0, .ref (h 0)), (1, .int (iI a)), (2, .int (iI b))]) RX1 (by decide) rfl rfl hst (Nat.le_of_ble_eq_true rfl) rfl ?_
  intro p e s mm args below meth c A C htab hex
  refine g_aload_n C dX1_swells_0 rfl 0 rfl ?_
  refine g_iload_n C dX1_swells_1 rfl 1 rfl ?_
  refine kX1_planAt h f g N M P a C hpn hPS (by omega) ⟨Nat.le_of_ble_eq_true rfl, Nat.le_of_ble_eq_true rfl⟩ (Nat.le_of_ble_eq_true rfl) ⟨Nat.le_of_ble_eq_true rfl, Nat.le_of_ble_eq_true rfl⟩ dX1_swells_2 (fun hN1 pq pz pv V hr hV hPV => ?_) (fun hT2 q3 => ?_)
  ·
    have hn0 := hPV.1.2.1
    have hcp := hPV.2.2.1
    refine g_astore_n C dX1_swells_5 rfl (lv' := [(0, .ref (h 0)), (1, .int (iI a)), (2, .int (iI b)), (3, .ref (pq 0))]) [1, 2, 3, 0] rfl (Nat.le_of_ble_eq_true rfl) ?_
    refine g_aload_n C dX1_swells_6 rfl 0 rfl ?_
    refine g_iload_n C dX1_swells_7 rfl 2 rfl ?_
    refine kX1_X1_isStation h f g N M (ptW (M 6) (g 24) (g 25) (g 26) (g 27) (f 6) ++ (plC D pq pz pv ++ V)) b C hS (by omega) ⟨Nat.le_of_ble_eq_true rfl, Nat.le_of_ble_eq_true rfl⟩ (Nat.le_of_ble_eq_true rfl) ⟨Nat.le_of_ble_eq_true rfl, Nat.le_of_ble_eq_true rfl⟩ Sb.rf dX1_swells_8 (fun hN4 => ?_) (fun hT5 q6 => ?_)
    ·
      refine g_iconst C dX1_swells_11 ?_
      refine g_istore C dX1_swells_12 (lv' := [(0, .ref (h 0)), (1, .int (iI a)), (2, .int (iI b)), (3, .ref (pq 0)), (4, .int (iI 0))]) [1, 2, 3, 4, 0] rfl (Nat.le_of_ble_eq_true rfl) ?_
      refine g_iconst C dX1_swells_14 ?_
      refine g_istore C dX1_swells_15 (lv' := [(0, .ref (h 0)), (1, .int (iI a)), (2, .int (iI b)), (3, .ref (pq 0)), (4, .int (iI 0)), (5, .int (iI 0))]) [1, 2, 3, 4, 5, 0] rfl (Nat.le_of_ble_eq_true rfl) ?_
      have L7 : ∀ (n : Nat) (k : Int) (v : Int), (0 ≤ k ∧ k ≤ f 0) → (v = fswS (g 3) k) → (f 0 - k).toNat < n → GO p l e (rmD 8 2 12) s mm args below meth c 7 D A (fun _ => True) (0 + 1 + 1) (0 + 6 + 6) (MX below D A (pI fun z _ => ((0 ≤ a ∧ a < f 7) ∧ 0 ≤ b ∧ b < f 1) ∧ ∃ r : PR, P[a.toNat]? = some r ∧ (z = fswS (g 3) (f 0) + fswP (f 2) b (g 25) (g 26) (fgo (f 6) (g 24) (g 25) (g 26) (f 0) (f 1) (g 5) (r.2.1 0) (r.2.2 0) (r.2.1 5)) (f 6))) (fun E _ w => E = EN ∧ ¬ ((0 ≤ a ∧ a < f 7) ∧ 0 ≤ b ∧ b < f 1) ∧ w = []) args s (2) (12)) (sW D h f g N M (ptW (M 6) (g 24) (g 25) (g 26) (g 27) (f 6) ++ (plC D pq pz pv ++ V))) 17 [(0, .ref (h 0)), (1, .int (iI a)), (2, .int (iI b)), (3, .ref (pq 0)), (4, .int (iI v)), (5, .int (iI k))] [] := by
        intro n
        induction n with
        | zero => intro k v hk hv hm; exact absurd hm (Nat.not_lt_zero _)
        | succ n ih7 =>
          intro k v hk hv hm7
          refine g_iload C dX1_swells_17 5 rfl ?_
          refine g_aload_n C dX1_swells_19 rfl 0 rfl ?_
          refine gs_get0 C (v := f 0) rfl dX1_swells_20 ?_
          refine g_icmp_ge C (tgt := 44) dX1_swells_23 (by decide) (by omega) (by omega) (fun hc23_8 => ?_) (fun hc23_8 => ?_)
          ·
            refine g_iconst C dX1_swells_44 ?_
            refine g_istore C dX1_swells_45 (lv' := [(0, .ref (h 0)), (1, .int (iI a)), (2, .int (iI b)), (3, .ref (pq 0)), (4, .int (iI v)), (5, .int (iI 0))]) [1, 2, 3, 4, 5, 0] rfl (Nat.le_of_ble_eq_true rfl) ?_
            have L9 : ∀ (n : Nat) (k : Int) (v : Int), (0 ≤ k ∧ k ≤ f 6) → (v = fswS (g 3) (f 0) + fswP (f 2) b (g 25) (g 26) (fgo (f 6) (g 24) (g 25) (g 26) (f 0) (f 1) (g 5) (pz 0) (pv 0) (pz 5)) k) → (f 6 - k).toNat < n → GO p l e (rmD 8 2 12) s mm args below meth c 7 D A (fun _ => True) (0 + 1 + 1) (0 + 6 + 6) (MX below D A (pI fun z _ => ((0 ≤ a ∧ a < f 7) ∧ 0 ≤ b ∧ b < f 1) ∧ ∃ r : PR, P[a.toNat]? = some r ∧ (z = fswS (g 3) (f 0) + fswP (f 2) b (g 25) (g 26) (fgo (f 6) (g 24) (g 25) (g 26) (f 0) (f 1) (g 5) (r.2.1 0) (r.2.2 0) (r.2.1 5)) (f 6))) (fun E _ w => E = EN ∧ ¬ ((0 ≤ a ∧ a < f 7) ∧ 0 ≤ b ∧ b < f 1) ∧ w = []) args s (2) (12)) (sW D h f g N M (ptW (M 6) (g 24) (g 25) (g 26) (g 27) (f 6) ++ (plC D pq pz pv ++ V))) 47 [(0, .ref (h 0)), (1, .int (iI a)), (2, .int (iI b)), (3, .ref (pq 0)), (4, .int (iI v)), (5, .int (iI k))] [] := by
              intro n
              induction n with
              | zero => intro k v hk hv hm; exact absurd hm (Nat.not_lt_zero _)
              | succ n ih9 =>
                intro k v hk hv hm9
                refine g_iload C dX1_swells_47 5 rfl ?_
                refine g_aload_n C dX1_swells_49 rfl 0 rfl ?_
                refine gs_get6 C dX1_swells_50 ?_
                refine kX1_lsize (h 6) (h 21) (f 21) (N 6) (f 6) (M 6) C ⟨Nat.le_of_ble_eq_true rfl, Nat.le_of_ble_eq_true rfl⟩ (Nat.le_of_ble_eq_true rfl) ⟨Nat.le_of_ble_eq_true rfl, Nat.le_of_ble_eq_true rfl⟩ (rv := f 6) rfl sb_l6 dX1_swells_53 ?_
                refine g_icmp_ge C (tgt := 125) dX1_swells_56 (by decide) (by omega) (by omega) (fun hc56_10 => ?_) (fun hc56_10 => ?_)
                ·
                  refine g_iload C dX1_swells_125 4 rfl ?_
                  refine g_nilA ?_
                  exact g_iret C dX1_swells_127 rfl (Nat.le_of_ble_eq_true rfl) (Nat.le_of_ble_eq_true rfl) ⟨_, rfl, by omega, (pq, pz, pv), hr, by rw [hv, show k = f 6 by omega]⟩
                ·
                  refine g_aload_n C dX1_swells_59 rfl 0 rfl ?_
                  refine gs_get6 C dX1_swells_60 ?_
                  refine g_iload C dX1_swells_63 5 rfl ?_
                  refine kX1_lget (h 6) (h 21) (f 21) (N 6) (f 6) (M 6) k C (by omega) (show 0 ≤ (f 6) ∧ (f 6) ≤ ((N 6 : Nat) : Int) ∧ N 6 ≤ 3000 by omega) ⟨Nat.le_of_ble_eq_true rfl, Nat.le_of_ble_eq_true rfl⟩ (Nat.le_of_ble_eq_true rfl) ⟨Nat.le_of_ble_eq_true rfl, Nat.le_of_ble_eq_true rfl⟩ sb_l6 dX1_swells_65 ?_
                  refine g_castE C q438 (pt_rcv (j := k) C (by omega)) dX1_swells_68 ?_
                  refine g_astore C dX1_swells_71 (lv' := [(0, .ref (h 0)), (1, .int (iI a)), (2, .int (iI b)), (3, .ref (pq 0)), (4, .int (iI v)), (5, .int (iI k)), (6, .ref (M 6 k.toNat))]) [1, 2, 3, 4, 5, 6, 0] rfl (Nat.le_of_ble_eq_true rfl) ?_
                  refine g_aload C dX1_swells_73 6 rfl ?_
                  refine gp_get2 C (j := k) (v := (g 26) k) (by omega) rfl dX1_swells_75 ?_
                  have hf11 := hpt (k) (by omega) (by omega)
                  refine g_if_ne C (tgt := 119) dX1_swells_78 (by decide) (by omega) (fun hc78_12 => ?_) (fun hc78_12 => ?_)
                  ·
                    refine g_iinc C dX1_swells_119 5 rfl (lv' := [(0, .ref (h 0)), (1, .int (iI a)), (2, .int (iI b)), (3, .ref (pq 0)), (4, .int (iI v)), (5, .int (iI (k + 1))), (6, .ref (M 6 k.toNat))]) [1, 2, 3, 4, 5, 0, 6] rfl (Nat.le_of_ble_eq_true rfl) ?_
                    refine g_goto C (tgt := 47) dX1_swells_122 (by decide) ?_
                    refine g_lv [0, 1, 2, 3, 4, 5] rfl ?_
                    exact ih9 (k + 1) v (by omega) (by rw [fswP_n hk.1 (by omega), hv]) (by omega)
                  ·
                    refine g_aload C dX1_swells_81 6 rfl ?_
                    refine gp_get1 C (j := k) (v := (g 25) k) (by omega) rfl dX1_swells_83 ?_
                    have hf13 := hpt (k) (by omega) (by omega)
                    refine g_iload_n C dX1_swells_86 rfl 2 rfl ?_
                    refine g_icmp_eq C (tgt := 101) dX1_swells_87 (by decide) (by omega) (by omega) (fun hc87_14 => ?_) (fun hc87_14 => ?_)
                    ·
                      refine g_iload C dX1_swells_101 4 rfl ?_
                      refine g_aload_n C dX1_swells_103 rfl 0 rfl ?_
                      refine gs_get2 C (v := f 2) rfl dX1_swells_104 ?_
                      refine g_aload_n C dX1_swells_107 rfl 0 rfl ?_
                      refine g_aload_n C dX1_swells_108 rfl 3 rfl ?_
                      refine g_iload C dX1_swells_109 5 rfl ?_
                      refine g_null C dX1_swells_111 ?_
                      refine kX1_times0 h f g N M pq pz pv V k C hF hS hnp hN6 hpt hPV (by omega) ⟨Nat.le_of_ble_eq_true rfl, Nat.le_of_ble_eq_true rfl⟩ (Nat.le_of_ble_eq_true rfl) ⟨Nat.le_of_ble_eq_true rfl, Nat.le_of_ble_eq_true rfl⟩ (rv := fgo (f 6) (g 24) (g 25) (g 26) (f 0) (f 1) (g 5) (pz 0) (pv 0) (pz 5) k) rfl Sb.rf dX1_swells_112 ?_
                      refine g_imul C dX1_swells_115 ?_
                      refine g_iadd C dX1_swells_116 ?_
                      refine g_istore C dX1_swells_117 (lv' := [(0, .ref (h 0)), (1, .int (iI a)), (2, .int (iI b)), (3, .ref (pq 0)), (4, .int (iI (v + ((f 2) * (fgo (f 6) (g 24) (g 25) (g 26) (f 0) (f 1) (g 5) (pz 0) (pv 0) (pz 5) k))))), (5, .int (iI k)), (6, .ref (M 6 k.toNat))]) [1, 2, 3, 4, 0, 5, 6] rfl (Nat.le_of_ble_eq_true rfl) ?_
                      refine g_iinc C dX1_swells_119 5 rfl (lv' := [(0, .ref (h 0)), (1, .int (iI a)), (2, .int (iI b)), (3, .ref (pq 0)), (4, .int (iI (v + ((f 2) * (fgo (f 6) (g 24) (g 25) (g 26) (f 0) (f 1) (g 5) (pz 0) (pv 0) (pz 5) k))))), (5, .int (iI (k + 1))), (6, .ref (M 6 k.toNat))]) [1, 2, 3, 4, 5, 0, 6] rfl (Nat.le_of_ble_eq_true rfl) ?_
                      refine g_goto C (tgt := 47) dX1_swells_122 (by decide) ?_
                      refine g_lv [0, 1, 2, 3, 4, 5] rfl ?_
                      exact ih9 (k + 1) (v + ((f 2) * (fgo (f 6) (g 24) (g 25) (g 26) (f 0) (f 1) (g 5) (pz 0) (pv 0) (pz 5) k))) (by omega) (by rw [fswP_y hk.1 (by omega), hv, Int.add_assoc]) (by omega)
                    ·
                      refine g_aload C dX1_swells_90 6 rfl ?_
                      refine gp_get1 C (j := k) (v := (g 25) k) (by omega) rfl dX1_swells_92 ?_
                      have hf15 := hpt (k) (by omega) (by omega)
                      refine g_iconst C dX1_swells_95 ?_
                      refine g_iadd C dX1_swells_96 ?_
                      refine g_iload_n C dX1_swells_97 rfl 2 rfl ?_
                      refine g_icmp_ne C (tgt := 119) dX1_swells_98 (by decide) (by omega) (by omega) (fun hc98_16 => ?_) (fun hc98_16 => ?_)
                      ·
                        refine g_iinc C dX1_swells_119 5 rfl (lv' := [(0, .ref (h 0)), (1, .int (iI a)), (2, .int (iI b)), (3, .ref (pq 0)), (4, .int (iI v)), (5, .int (iI (k + 1))), (6, .ref (M 6 k.toNat))]) [1, 2, 3, 4, 5, 0, 6] rfl (Nat.le_of_ble_eq_true rfl) ?_
                        refine g_goto C (tgt := 47) dX1_swells_122 (by decide) ?_
                        refine g_lv [0, 1, 2, 3, 4, 5] rfl ?_
                        exact ih9 (k + 1) v (by omega) (by rw [fswP_n hk.1 (by omega), hv]) (by omega)
                      ·
                        refine g_iload C dX1_swells_101 4 rfl ?_
                        refine g_aload_n C dX1_swells_103 rfl 0 rfl ?_
                        refine gs_get2 C (v := f 2) rfl dX1_swells_104 ?_
                        refine g_aload_n C dX1_swells_107 rfl 0 rfl ?_
                        refine g_aload_n C dX1_swells_108 rfl 3 rfl ?_
                        refine g_iload C dX1_swells_109 5 rfl ?_
                        refine g_null C dX1_swells_111 ?_
                        refine kX1_times0 h f g N M pq pz pv V k C hF hS hnp hN6 hpt hPV (by omega) ⟨Nat.le_of_ble_eq_true rfl, Nat.le_of_ble_eq_true rfl⟩ (Nat.le_of_ble_eq_true rfl) ⟨Nat.le_of_ble_eq_true rfl, Nat.le_of_ble_eq_true rfl⟩ (rv := fgo (f 6) (g 24) (g 25) (g 26) (f 0) (f 1) (g 5) (pz 0) (pv 0) (pz 5) k) rfl Sb.rf dX1_swells_112 ?_
                        refine g_imul C dX1_swells_115 ?_
                        refine g_iadd C dX1_swells_116 ?_
                        refine g_istore C dX1_swells_117 (lv' := [(0, .ref (h 0)), (1, .int (iI a)), (2, .int (iI b)), (3, .ref (pq 0)), (4, .int (iI (v + ((f 2) * (fgo (f 6) (g 24) (g 25) (g 26) (f 0) (f 1) (g 5) (pz 0) (pv 0) (pz 5) k))))), (5, .int (iI k)), (6, .ref (M 6 k.toNat))]) [1, 2, 3, 4, 0, 5, 6] rfl (Nat.le_of_ble_eq_true rfl) ?_
                        refine g_iinc C dX1_swells_119 5 rfl (lv' := [(0, .ref (h 0)), (1, .int (iI a)), (2, .int (iI b)), (3, .ref (pq 0)), (4, .int (iI (v + ((f 2) * (fgo (f 6) (g 24) (g 25) (g 26) (f 0) (f 1) (g 5) (pz 0) (pv 0) (pz 5) k))))), (5, .int (iI (k + 1))), (6, .ref (M 6 k.toNat))]) [1, 2, 3, 4, 5, 0, 6] rfl (Nat.le_of_ble_eq_true rfl) ?_
                        refine g_goto C (tgt := 47) dX1_swells_122 (by decide) ?_
                        refine g_lv [0, 1, 2, 3, 4, 5] rfl ?_
                        exact ih9 (k + 1) (v + ((f 2) * (fgo (f 6) (g 24) (g 25) (g 26) (f 0) (f 1) (g 5) (pz 0) (pv 0) (pz 5) k))) (by omega) (by rw [fswP_y hk.1 (by omega), hv, Int.add_assoc]) (by omega)
            exact L9 _ 0 v (by omega) (by rw [hv, show k = f 0 by omega]; show _ = _ + sumN _ 0; exact (Int.add_zero _).symm) (Nat.lt_succ_self _)
          ·
            refine g_iload C dX1_swells_26 4 rfl ?_
            refine g_aload_n C dX1_swells_28 rfl 0 rfl ?_
            refine gs_get3 C dX1_swells_29 ?_
            refine g_iload C dX1_swells_32 5 rfl ?_
            refine gs_ald3 C (v := (g 3) k) rfl dX1_swells_34 (by omega) ?_
            have hf17 := hth (k) (by omega) (by omega)
            refine g_iadd C dX1_swells_35 ?_
            refine g_istore C dX1_swells_36 (lv' := [(0, .ref (h 0)), (1, .int (iI a)), (2, .int (iI b)), (3, .ref (pq 0)), (4, .int (iI (v + ((g 3) k)))), (5, .int (iI k))]) [1, 2, 3, 4, 0, 5] rfl (Nat.le_of_ble_eq_true rfl) ?_
            refine g_iinc C dX1_swells_38 5 rfl (lv' := [(0, .ref (h 0)), (1, .int (iI a)), (2, .int (iI b)), (3, .ref (pq 0)), (4, .int (iI (v + ((g 3) k)))), (5, .int (iI (k + 1)))]) [1, 2, 3, 4, 5, 0] rfl (Nat.le_of_ble_eq_true rfl) ?_
            refine g_goto C (tgt := 17) dX1_swells_41 (by decide) ?_
            exact ih7 (k + 1) (v + ((g 3) k)) (by omega) (by rw [fswS_s hk.1, hv]) (by omega)
      exact L7 _ 0 0 (by omega) rfl (Nat.lt_succ_self _)
    ·
      exact x_nilA (x_out C htab (Nat.le_of_ble_eq_true rfl) (Nat.le_of_ble_eq_true rfl) ⟨rfl, by omega, rfl⟩)
  ·
    exact x_nilA (x_out C htab (Nat.le_of_ble_eq_true rfl) (Nat.le_of_ble_eq_true rfl) ⟨rfl, by omega, rfl⟩)

set_option maxHeartbeats 4000000 in
set_option maxRecDepth 100000 in
theorem c_X1_about (l : Launch) (D : va_G) (hst : l.stackTraces = false) (h : Nat → Nat) (f : Nat → Int) (g : Nat → Int → Int) (N : Nat → Nat) (M : Nat → Nat → Nat) (P : List PR) (a v : Int) (hF : 1 ≤ f 0 ∧ f 0 ≤ 5) (hS : 2 ≤ f 1 ∧ f 1 ≤ 6) (hnp : 0 ≤ f 6 ∧ f 6 ≤ 55) (hN6 : N 6 = 55) (hpt : ∀ j, 0 ≤ j → j < f 6 → (0 ≤ g 24 j ∧ g 24 j ≤ 4) ∧ (0 ≤ g 25 j ∧ g 25 j ≤ 5) ∧ (0 ≤ g 26 j ∧ g 26 j ≤ 2) ∧ (0 ≤ g 27 j ∧ g 27 j ≤ 1)) (hpn : 0 ≤ f 7 ∧ f 7 ≤ N 7 ∧ N 7 ≤ 3000) (hPS : PS f g M P) (har : -2147483648 ≤ a ∧ a < 2147483648) (hvr : -2147483648 ≤ v ∧ v < 2147483648) : CT l D yX1_about (ws_ yX1_about cX1_about 5 (some .int)) (rmD 8 2 12) (2) (12) mdR [.ref (h 0), .int (iI a), .int (iI v)] (sW D h f g N M (ptW (M 6) (g 24) (g 25) (g 26) (g 27) (f 6) ++ plW D P)) exT (pI fun z _ => ((0 ≤ a ∧ a < f 7) ∧ 0 ≤ v ∧ v ≤ 8) ∧ ∃ r : PR, P[a.toNat]? = some r ∧ ((v = 0 ∧ z = fle (g 4) (g 3) (f 0) (f 1) (g 5) (r.2.1 0) (r.2.2 0) (r.2.1 5)) ∨ (v = 1 ∧ z = r.2.1 5) ∨ (v = 2 ∧ z = plc (f 0) (f 1) (g 5) (r.2.1 0) (r.2.2 0) (r.2.1 5) / 2 / 6) ∨ (v = 3 ∧ z = plc (f 0) (f 1) (g 5) (r.2.1 0) (r.2.2 0) (r.2.1 5) / 2 % 6) ∨ (v = 4 ∧ z = plc (f 0) (f 1) (g 5) (r.2.1 0) (r.2.2 0) (r.2.1 5) % 2) ∨ (v = 5 ∧ z = bP (plc (f 0) (f 1) (g 5) (r.2.1 0) (r.2.2 0) (r.2.1 5) = r.2.1 0)) ∨ (v = 6 ∧ z = bP (plc (f 0) (f 1) (g 5) (r.2.1 0) (r.2.2 0) (r.2.1 5) = r.2.1 0 ∧ ∀ j, 0 ≤ j → j < f 6 → g 27 j = 0 ∨ 0 < fgo (f 6) (g 24) (g 25) (g 26) (f 0) (f 1) (g 5) (r.2.1 0) (r.2.2 0) (r.2.1 5) j)) ∨ (v = 7 ∧ z = bP (plc (f 0) (f 1) (g 5) (r.2.1 0) (r.2.2 0) (r.2.1 5) = r.2.1 0 ∧ ∀ j, 0 ≤ j → j < f 6 → fgo (f 6) (g 24) (g 25) (g 26) (f 0) (f 1) (g 5) (r.2.1 0) (r.2.2 0) (r.2.1 5) j = g 27 j)) ∨ (v = 8 ∧ z = bP (∀ j, 0 ≤ j → j < f 0 - 1 → 2 ≤ fti (f 0) (f 1) (g 5) (r.2.1 0) (r.2.2 0) (r.2.1 5) j)))) (fun E _ w => E = EN ∧ ¬ ((0 ≤ a ∧ a < f 7) ∧ 0 ≤ v ∧ v ≤ 8) ∧ w = []) := by
  refine ct_R (lv := [(0, .ref (h 0)), (1, .int (iI a)), (2, .int (iI v))]) RX1 (by decide) rfl rfl hst (Nat.le_of_ble_eq_true rfl) rfl ?_
  intro p e s mm args below meth c A C htab hex
  refine g_aload_n C dX1_about_0 rfl 0 rfl ?_
  refine g_iload_n C dX1_about_1 rfl 1 rfl ?_
  refine kX1_planAt h f g N M P a C hpn hPS (by omega) ⟨Nat.le_of_ble_eq_true rfl, Nat.le_of_ble_eq_true rfl⟩ (Nat.le_of_ble_eq_true rfl) ⟨Nat.le_of_ble_eq_true rfl, Nat.le_of_ble_eq_true rfl⟩ dX1_about_2 (fun hN1 pq pz pv V hr hV hPV => ?_) (fun hT2 q3 => ?_)
  ·
    have hn0 := hPV.1.2.1
    have hcp := hPV.2.2.1
    have hto := hPV.2.2.2.1
    have hb0 := hPV.1.1
    have hpe := hPV.1.at hF hS (k := pz 5) (by omega) (Int.le_refl _)
    rw [← hto] at hpe
    unfold PIn at hpe hb0
    refine g_astore_n C dX1_about_5 rfl (lv' := [(0, .ref (h 0)), (1, .int (iI a)), (2, .int (iI v)), (3, .ref (pq 0))]) [1, 2, 3, 0] rfl (Nat.le_of_ble_eq_true rfl) ?_
    refine g_iload_n C dX1_about_6 rfl 2 rfl ?_
    refine g_if_lt C (tgt := 20) dX1_about_7 (by decide) (by omega) (fun hc7_4 => ?_) (fun hc7_4 => ?_)
    ·
      refine g_iconst C dX1_about_20 ?_
      refine kX1_there 0 C (by omega) ⟨Nat.le_of_ble_eq_true rfl, Nat.le_of_ble_eq_true rfl⟩ (Nat.le_of_ble_eq_true rfl) ⟨Nat.le_of_ble_eq_true rfl, Nat.le_of_ble_eq_true rfl⟩ dX1_about_21 (fun hN5 => ?_) (fun hT6 q7 => ?_)
      ·
        exact absurd hN5 (by decide)
      ·
        exact x_nilA (x_out C htab (Nat.le_of_ble_eq_true rfl) (Nat.le_of_ble_eq_true rfl) ⟨rfl, by omega, rfl⟩)
    ·
      refine g_iload_n C dX1_about_10 rfl 2 rfl ?_
      refine g_bipush C dX1_about_11 (z := 8) rfl ?_
      refine g_icmp_gt C (tgt := 20) dX1_about_13 (by decide) (by omega) (by omega) (fun hc13_8 => ?_) (fun hc13_8 => ?_)
      ·
        refine g_iconst C dX1_about_20 ?_
        refine kX1_there 0 C (by omega) ⟨Nat.le_of_ble_eq_true rfl, Nat.le_of_ble_eq_true rfl⟩ (Nat.le_of_ble_eq_true rfl) ⟨Nat.le_of_ble_eq_true rfl, Nat.le_of_ble_eq_true rfl⟩ dX1_about_21 (fun hN9 => ?_) (fun hT10 q11 => ?_)
        ·
          exact absurd hN9 (by decide)
        ·
          exact x_nilA (x_out C htab (Nat.le_of_ble_eq_true rfl) (Nat.le_of_ble_eq_true rfl) ⟨rfl, by omega, rfl⟩)
      ·
        refine g_iconst C dX1_about_16 ?_
        refine g_goto C (tgt := 21) dX1_about_17 (by decide) ?_
        refine kX1_there 1 C (by omega) ⟨Nat.le_of_ble_eq_true rfl, Nat.le_of_ble_eq_true rfl⟩ (Nat.le_of_ble_eq_true rfl) ⟨Nat.le_of_ble_eq_true rfl, Nat.le_of_ble_eq_true rfl⟩ dX1_about_21 (fun hN12 => ?_) (fun hT13 q14 => ?_)
        ·
          refine g_iconst C dX1_about_24 ?_
          refine g_istore C dX1_about_25 (lv' := [(0, .ref (h 0)), (1, .int (iI a)), (2, .int (iI v)), (3, .ref (pq 0)), (4, .int (iI 0))]) [1, 2, 3, 4, 0] rfl (Nat.le_of_ble_eq_true rfl) ?_
          refine g_iload_n C dX1_about_27 rfl 2 rfl ?_
          rcases (show v = 0 ∨ v = 1 ∨ v = 2 ∨ v = 3 ∨ v = 4 ∨ v = 5 ∨ v = 6 ∨ v = 7 ∨ v = 8 by omega) with rfl | rfl | rfl | rfl | rfl | rfl | rfl | rfl | rfl
          ·
            refine g_table C (tgt := 76) dX1_about_28 (by omega) (by omega) rfl (by decide) ?_
            refine g_aload_n C dX1_about_76 rfl 3 rfl ?_
            refine gl_get2 C sb_pl (v := pz 2) rfl dX1_about_77 ?_
            refine g_nilA ?_
            exact g_iret C dX1_about_80 rfl (Nat.le_of_ble_eq_true rfl) (Nat.le_of_ble_eq_true rfl) ⟨_, rfl, by omega, (pq, pz, pv), hr, (Or.inl ⟨rfl, hPV.2.2.2.2⟩)⟩
          ·
            refine g_table C (tgt := 81) dX1_about_28 (by omega) (by omega) rfl (by decide) ?_
            refine g_aload_n C dX1_about_81 rfl 3 rfl ?_
            refine gl_get3 C sb_pl dX1_about_82 ?_
            refine kX1_lsize (pq 1) (pq 2) (pz 3) (pq 5) (pz 5) (bxA D (pv 0)) C ⟨Nat.le_of_ble_eq_true rfl, Nat.le_of_ble_eq_true rfl⟩ (Nat.le_of_ble_eq_true rfl) ⟨Nat.le_of_ble_eq_true rfl, Nat.le_of_ble_eq_true rfl⟩ (rv := pz 5) rfl sb_pm dX1_about_85 ?_
            refine g_nilA ?_
            exact g_iret C dX1_about_88 rfl (Nat.le_of_ble_eq_true rfl) (Nat.le_of_ble_eq_true rfl) ⟨_, rfl, by omega, (pq, pz, pv), hr, (Or.inr (Or.inl ⟨rfl, rfl⟩))⟩
          ·
            refine g_table C (tgt := 89) dX1_about_28 (by omega) (by omega) rfl (by decide) ?_
            refine g_aload_n C dX1_about_89 rfl 3 rfl ?_
            refine gl_get1 C sb_pl (v := pz 1) rfl dX1_about_90 ?_
            refine kX1_X1_fold (pz 1) C (by omega) ⟨Nat.le_of_ble_eq_true rfl, Nat.le_of_ble_eq_true rfl⟩ (Nat.le_of_ble_eq_true rfl) ⟨Nat.le_of_ble_eq_true rfl, Nat.le_of_ble_eq_true rfl⟩ (rv := (pz 1) / 2 / 6) rfl dX1_about_93 ?_
            refine g_nilA ?_
            exact g_iret C dX1_about_96 rfl (Nat.le_of_ble_eq_true rfl) (Nat.le_of_ble_eq_true rfl) ⟨_, rfl, by omega, (pq, pz, pv), hr, (Or.inr (Or.inr (Or.inl ⟨rfl, (by rw [← hto])⟩)))⟩
          ·
            refine g_table C (tgt := 97) dX1_about_28 (by omega) (by omega) rfl (by decide) ?_
            refine g_aload_n C dX1_about_97 rfl 3 rfl ?_
            refine gl_get1 C sb_pl (v := pz 1) rfl dX1_about_98 ?_
            refine kX1_X1_station (pz 1) C (by omega) ⟨Nat.le_of_ble_eq_true rfl, Nat.le_of_ble_eq_true rfl⟩ (Nat.le_of_ble_eq_true rfl) ⟨Nat.le_of_ble_eq_true rfl, Nat.le_of_ble_eq_true rfl⟩ (rv := (pz 1) / 2 % 6) rfl dX1_about_101 ?_
            refine g_nilA ?_
            exact g_iret C dX1_about_104 rfl (Nat.le_of_ble_eq_true rfl) (Nat.le_of_ble_eq_true rfl) ⟨_, rfl, by omega, (pq, pz, pv), hr, (Or.inr (Or.inr (Or.inr (Or.inl ⟨rfl, (by rw [← hto])⟩))))⟩
          ·
            refine g_table C (tgt := 105) dX1_about_28 (by omega) (by omega) rfl (by decide) ?_
            refine g_aload_n C dX1_about_105 rfl 3 rfl ?_
            refine gl_get1 C sb_pl (v := pz 1) rfl dX1_about_106 ?_
            refine kX1_X1_isInside (pz 1) C (by omega) ⟨Nat.le_of_ble_eq_true rfl, Nat.le_of_ble_eq_true rfl⟩ (Nat.le_of_ble_eq_true rfl) ⟨Nat.le_of_ble_eq_true rfl, Nat.le_of_ble_eq_true rfl⟩ (rv := (pz 1) % 2) rfl dX1_about_109 ?_
            refine g_if_eq C (tgt := 119) dX1_about_112 (by decide) (by omega) (fun hc112_15 => ?_) (fun hc112_15 => ?_)
            ·
              refine g_iconst C dX1_about_119 ?_
              refine g_nilA ?_
              exact g_iret C dX1_about_120 rfl (Nat.le_of_ble_eq_true rfl) (Nat.le_of_ble_eq_true rfl) ⟨_, rfl, by omega, (pq, pz, pv), hr, (Or.inr (Or.inr (Or.inr (Or.inr (Or.inl ⟨rfl, (by rw [← hto]; omega)⟩)))))⟩
            ·
              refine g_iconst C dX1_about_115 ?_
              refine g_goto C (tgt := 120) dX1_about_116 (by decide) ?_
              refine g_nilA ?_
              exact g_iret C dX1_about_120 rfl (Nat.le_of_ble_eq_true rfl) (Nat.le_of_ble_eq_true rfl) ⟨_, rfl, by omega, (pq, pz, pv), hr, (Or.inr (Or.inr (Or.inr (Or.inr (Or.inl ⟨rfl, (by rw [← hto]; omega)⟩)))))⟩
          ·
            refine g_table C (tgt := 121) dX1_about_28 (by omega) (by omega) rfl (by decide) ?_
            refine g_aload_n C dX1_about_121 rfl 3 rfl ?_
            refine kX1_closed pq pz C (by omega) ⟨Nat.le_of_ble_eq_true rfl, Nat.le_of_ble_eq_true rfl⟩ (Nat.le_of_ble_eq_true rfl) ⟨Nat.le_of_ble_eq_true rfl, Nat.le_of_ble_eq_true rfl⟩ (rv := bP (pz 1 = pz 0)) rfl sb_po dX1_about_122 ?_
            have hbr16 := bP_rg (pz 1 = pz 0)
            refine g_istore C dX1_about_125 (lv' := [(0, .ref (h 0)), (1, .int (iI a)), (2, .int (iI 5)), (3, .ref (pq 0)), (4, .int (iI (bP (pz 1 = pz 0))))]) [1, 2, 3, 4, 0] rfl (Nat.le_of_ble_eq_true rfl) ?_
            refine g_goto C (tgt := 159) dX1_about_127 (by decide) ?_
            refine g_iload C dX1_about_159 4 rfl ?_
            refine g_if_eq C (tgt := 168) dX1_about_161 (by decide) (by omega) (fun hc161_17 => ?_) (fun hc161_17 => ?_)
            ·
              refine g_iconst C dX1_about_168 ?_
              refine g_nilA ?_
              exact g_iret C dX1_about_169 rfl (Nat.le_of_ble_eq_true rfl) (Nat.le_of_ble_eq_true rfl) ⟨_, rfl, by omega, (pq, pz, pv), hr, (Or.inr (Or.inr (Or.inr (Or.inr (Or.inr (Or.inl ⟨rfl, (by dsimp only; rw [← hto]; omega)⟩))))))⟩
            ·
              refine g_iconst C dX1_about_164 ?_
              refine g_goto C (tgt := 169) dX1_about_165 (by decide) ?_
              refine g_nilA ?_
              exact g_iret C dX1_about_169 rfl (Nat.le_of_ble_eq_true rfl) (Nat.le_of_ble_eq_true rfl) ⟨_, rfl, by omega, (pq, pz, pv), hr, (Or.inr (Or.inr (Or.inr (Or.inr (Or.inr (Or.inl ⟨rfl, (by dsimp only; rw [← hto]; omega)⟩))))))⟩
          ·
            refine g_table C (tgt := 130) dX1_about_28 (by omega) (by omega) rfl (by decide) ?_
            refine g_aload_n C dX1_about_130 rfl 0 rfl ?_
            refine g_aload_n C dX1_about_131 rfl 3 rfl ?_
            refine g_iconst C dX1_about_132 ?_
            refine kX1_X1_isWhole h f g N M pq pz pv V (0 : Int) C hF hS hnp hN6 hpt hPV (by omega) ⟨Nat.le_of_ble_eq_true rfl, Nat.le_of_ble_eq_true rfl⟩ (Nat.le_of_ble_eq_true rfl) ⟨Nat.le_of_ble_eq_true rfl, Nat.le_of_ble_eq_true rfl⟩ (rv := bP (pz 1 = pz 0 ∧ ∀ j, 0 ≤ j → j < f 6 → ((0 : Int) = 0 → (g 27 j = 0 ∨ 0 < fgo (f 6) (g 24) (g 25) (g 26) (f 0) (f 1) (g 5) (pz 0) (pv 0) (pz 5) j)) ∧ ((0 : Int) ≠ 0 → fgo (f 6) (g 24) (g 25) (g 26) (f 0) (f 1) (g 5) (pz 0) (pv 0) (pz 5) j = g 27 j))) rfl Sb.rf dX1_about_133 ?_
            have hw9 : bP (pz 1 = pz 0 ∧ ∀ j, 0 ≤ j → j < f 6 → ((0 : Int) = 0 → (g 27 j = 0 ∨ 0 < fgo (f 6) (g 24) (g 25) (g 26) (f 0) (f 1) (g 5) (pz 0) (pv 0) (pz 5) j)) ∧ ((0 : Int) ≠ 0 → fgo (f 6) (g 24) (g 25) (g 26) (f 0) (f 1) (g 5) (pz 0) (pv 0) (pz 5) j = g 27 j)) = bP (plc (f 0) (f 1) (g 5) (pz 0) (pv 0) (pz 5) = pz 0 ∧ ∀ j, 0 ≤ j → j < f 6 → g 27 j = 0 ∨ 0 < fgo (f 6) (g 24) (g 25) (g 26) (f 0) (f 1) (g 5) (pz 0) (pv 0) (pz 5) j) := bP_c (by rw [← hto]; exact ⟨fun q => ⟨q.1, fun j h0 h1 => (q.2 j h0 h1).1 rfl⟩, fun q => ⟨q.1, fun j h0 h1 => ⟨fun _ => q.2 j h0 h1, fun q9 => absurd rfl q9⟩⟩⟩)
            have hwr := bP_rg (plc (f 0) (f 1) (g 5) (pz 0) (pv 0) (pz 5) = pz 0 ∧ ∀ j, 0 ≤ j → j < f 6 → g 27 j = 0 ∨ 0 < fgo (f 6) (g 24) (g 25) (g 26) (f 0) (f 1) (g 5) (pz 0) (pv 0) (pz 5) j)
            refine g_istore C dX1_about_136 (lv' := [(0, .ref (h 0)), (1, .int (iI a)), (2, .int (iI 6)), (3, .ref (pq 0)), (4, .int (iI (bP (pz 1 = pz 0 ∧ ∀ j, 0 ≤ j → j < f 6 → ((0 : Int) = 0 → (g 27 j = 0 ∨ 0 < fgo (f 6) (g 24) (g 25) (g 26) (f 0) (f 1) (g 5) (pz 0) (pv 0) (pz 5) j)) ∧ ((0 : Int) ≠ 0 → fgo (f 6) (g 24) (g 25) (g 26) (f 0) (f 1) (g 5) (pz 0) (pv 0) (pz 5) j = g 27 j)))))]) [1, 2, 3, 4, 0] rfl (Nat.le_of_ble_eq_true rfl) ?_
            refine g_goto C (tgt := 159) dX1_about_138 (by decide) ?_
            refine g_iload C dX1_about_159 4 rfl ?_
            refine g_if_eq C (tgt := 168) dX1_about_161 (by decide) (by omega) (fun hc161_18 => ?_) (fun hc161_18 => ?_)
            ·
              refine g_iconst C dX1_about_168 ?_
              refine g_nilA ?_
              exact g_iret C dX1_about_169 rfl (Nat.le_of_ble_eq_true rfl) (Nat.le_of_ble_eq_true rfl) ⟨_, rfl, by omega, (pq, pz, pv), hr, (Or.inr (Or.inr (Or.inr (Or.inr (Or.inr (Or.inr (Or.inl ⟨rfl, (by dsimp only; rw [← hw9]; omega)⟩)))))))⟩
            ·
              refine g_iconst C dX1_about_164 ?_
              refine g_goto C (tgt := 169) dX1_about_165 (by decide) ?_
              refine g_nilA ?_
              exact g_iret C dX1_about_169 rfl (Nat.le_of_ble_eq_true rfl) (Nat.le_of_ble_eq_true rfl) ⟨_, rfl, by omega, (pq, pz, pv), hr, (Or.inr (Or.inr (Or.inr (Or.inr (Or.inr (Or.inr (Or.inl ⟨rfl, (by dsimp only; rw [← hw9]; omega)⟩)))))))⟩
          ·
            refine g_table C (tgt := 141) dX1_about_28 (by omega) (by omega) rfl (by decide) ?_
            refine g_aload_n C dX1_about_141 rfl 0 rfl ?_
            refine g_aload_n C dX1_about_142 rfl 3 rfl ?_
            refine g_iconst C dX1_about_143 ?_
            refine kX1_X1_isWhole h f g N M pq pz pv V (1 : Int) C hF hS hnp hN6 hpt hPV (by omega) ⟨Nat.le_of_ble_eq_true rfl, Nat.le_of_ble_eq_true rfl⟩ (Nat.le_of_ble_eq_true rfl) ⟨Nat.le_of_ble_eq_true rfl, Nat.le_of_ble_eq_true rfl⟩ (rv := bP (pz 1 = pz 0 ∧ ∀ j, 0 ≤ j → j < f 6 → ((1 : Int) = 0 → (g 27 j = 0 ∨ 0 < fgo (f 6) (g 24) (g 25) (g 26) (f 0) (f 1) (g 5) (pz 0) (pv 0) (pz 5) j)) ∧ ((1 : Int) ≠ 0 → fgo (f 6) (g 24) (g 25) (g 26) (f 0) (f 1) (g 5) (pz 0) (pv 0) (pz 5) j = g 27 j))) rfl Sb.rf dX1_about_144 ?_
            have hw9 : bP (pz 1 = pz 0 ∧ ∀ j, 0 ≤ j → j < f 6 → ((1 : Int) = 0 → (g 27 j = 0 ∨ 0 < fgo (f 6) (g 24) (g 25) (g 26) (f 0) (f 1) (g 5) (pz 0) (pv 0) (pz 5) j)) ∧ ((1 : Int) ≠ 0 → fgo (f 6) (g 24) (g 25) (g 26) (f 0) (f 1) (g 5) (pz 0) (pv 0) (pz 5) j = g 27 j)) = bP (plc (f 0) (f 1) (g 5) (pz 0) (pv 0) (pz 5) = pz 0 ∧ ∀ j, 0 ≤ j → j < f 6 → fgo (f 6) (g 24) (g 25) (g 26) (f 0) (f 1) (g 5) (pz 0) (pv 0) (pz 5) j = g 27 j) := bP_c (by rw [← hto]; exact ⟨fun q => ⟨q.1, fun j h0 h1 => (q.2 j h0 h1).2 (by decide)⟩, fun q => ⟨q.1, fun j h0 h1 => ⟨fun q9 => absurd q9 (by decide), fun _ => q.2 j h0 h1⟩⟩⟩)
            have hwr := bP_rg (plc (f 0) (f 1) (g 5) (pz 0) (pv 0) (pz 5) = pz 0 ∧ ∀ j, 0 ≤ j → j < f 6 → fgo (f 6) (g 24) (g 25) (g 26) (f 0) (f 1) (g 5) (pz 0) (pv 0) (pz 5) j = g 27 j)
            refine g_istore C dX1_about_147 (lv' := [(0, .ref (h 0)), (1, .int (iI a)), (2, .int (iI 7)), (3, .ref (pq 0)), (4, .int (iI (bP (pz 1 = pz 0 ∧ ∀ j, 0 ≤ j → j < f 6 → ((1 : Int) = 0 → (g 27 j = 0 ∨ 0 < fgo (f 6) (g 24) (g 25) (g 26) (f 0) (f 1) (g 5) (pz 0) (pv 0) (pz 5) j)) ∧ ((1 : Int) ≠ 0 → fgo (f 6) (g 24) (g 25) (g 26) (f 0) (f 1) (g 5) (pz 0) (pv 0) (pz 5) j = g 27 j)))))]) [1, 2, 3, 4, 0] rfl (Nat.le_of_ble_eq_true rfl) ?_
            refine g_goto C (tgt := 159) dX1_about_149 (by decide) ?_
            refine g_iload C dX1_about_159 4 rfl ?_
            refine g_if_eq C (tgt := 168) dX1_about_161 (by decide) (by omega) (fun hc161_19 => ?_) (fun hc161_19 => ?_)
            ·
              refine g_iconst C dX1_about_168 ?_
              refine g_nilA ?_
              exact g_iret C dX1_about_169 rfl (Nat.le_of_ble_eq_true rfl) (Nat.le_of_ble_eq_true rfl) ⟨_, rfl, by omega, (pq, pz, pv), hr, (Or.inr (Or.inr (Or.inr (Or.inr (Or.inr (Or.inr (Or.inr (Or.inl ⟨rfl, (by dsimp only; rw [← hw9]; omega)⟩))))))))⟩
            ·
              refine g_iconst C dX1_about_164 ?_
              refine g_goto C (tgt := 169) dX1_about_165 (by decide) ?_
              refine g_nilA ?_
              exact g_iret C dX1_about_169 rfl (Nat.le_of_ble_eq_true rfl) (Nat.le_of_ble_eq_true rfl) ⟨_, rfl, by omega, (pq, pz, pv), hr, (Or.inr (Or.inr (Or.inr (Or.inr (Or.inr (Or.inr (Or.inr (Or.inl ⟨rfl, (by dsimp only; rw [← hw9]; omega)⟩))))))))⟩
          ·
            refine g_tableD C (tgt := 152) dX1_about_28 (by omega) (by omega) (by decide) ?_
            refine g_aload_n C dX1_about_152 rfl 0 rfl ?_
            refine g_aload_n C dX1_about_153 rfl 3 rfl ?_
            refine kX1_X1_isHeld h f g N M pq pz pv V C hF hS hPV ⟨Nat.le_of_ble_eq_true rfl, Nat.le_of_ble_eq_true rfl⟩ (Nat.le_of_ble_eq_true rfl) ⟨Nat.le_of_ble_eq_true rfl, Nat.le_of_ble_eq_true rfl⟩ (rv := bP (∀ j, 0 ≤ j → j < f 0 - 1 → 2 ≤ fti (f 0) (f 1) (g 5) (pz 0) (pv 0) (pz 5) j)) rfl Sb.rf dX1_about_154 ?_
            have hhr := bP_rg (∀ j, 0 ≤ j → j < f 0 - 1 → 2 ≤ fti (f 0) (f 1) (g 5) (pz 0) (pv 0) (pz 5) j)
            refine g_istore C dX1_about_157 (lv' := [(0, .ref (h 0)), (1, .int (iI a)), (2, .int (iI 8)), (3, .ref (pq 0)), (4, .int (iI (bP (∀ j, 0 ≤ j → j < f 0 - 1 → 2 ≤ fti (f 0) (f 1) (g 5) (pz 0) (pv 0) (pz 5) j))))]) [1, 2, 3, 4, 0] rfl (Nat.le_of_ble_eq_true rfl) ?_
            refine g_iload C dX1_about_159 4 rfl ?_
            refine g_if_eq C (tgt := 168) dX1_about_161 (by decide) (by omega) (fun hc161_20 => ?_) (fun hc161_20 => ?_)
            ·
              refine g_iconst C dX1_about_168 ?_
              refine g_nilA ?_
              exact g_iret C dX1_about_169 rfl (Nat.le_of_ble_eq_true rfl) (Nat.le_of_ble_eq_true rfl) ⟨_, rfl, by omega, (pq, pz, pv), hr, (Or.inr (Or.inr (Or.inr (Or.inr (Or.inr (Or.inr (Or.inr (Or.inr (⟨rfl, (by dsimp only; omega)⟩)))))))))⟩
            ·
              refine g_iconst C dX1_about_164 ?_
              refine g_goto C (tgt := 169) dX1_about_165 (by decide) ?_
              refine g_nilA ?_
              exact g_iret C dX1_about_169 rfl (Nat.le_of_ble_eq_true rfl) (Nat.le_of_ble_eq_true rfl) ⟨_, rfl, by omega, (pq, pz, pv), hr, (Or.inr (Or.inr (Or.inr (Or.inr (Or.inr (Or.inr (Or.inr (Or.inr (⟨rfl, (by dsimp only; omega)⟩)))))))))⟩
        ·
          exact absurd hT13 (by decide)
  ·
    exact x_nilA (x_out C htab (Nat.le_of_ble_eq_true rfl) (Nat.le_of_ble_eq_true rfl) ⟨rfl, by omega, rfl⟩)

end PL2
