/-! ===== contracts of the class: marks ===== -/
theorem mcn31_y {bits k : Int} (h0 : 0 ≤ k) (h : k < 31 ∧ mkb bits k = 1) : mcn bits (m31 (k + 1)) = mcn bits (m31 k) + 1 := by
  have e1 : m31 k = k := by unfold m31; rw [if_pos h.1]
  have e2 : m31 (k + 1) = k + 1 := by unfold m31; split <;> omega
  rw [e1, e2, mcn_s h0, h.2]
theorem mcn31_n {bits k : Int} (h0 : 0 ≤ k) (h : ¬ (k < 31 ∧ mkb bits k = 1)) : mcn bits (m31 (k + 1)) = mcn bits (m31 k) := by
  by_cases q : k < 31
  · have e1 : m31 k = k := by unfold m31; rw [if_pos q]
    have e2 : m31 (k + 1) = k + 1 := by unfold m31; split <;> omega
    have := mkb_rg bits k
    rw [e1, e2, mcn_s h0]; omega
  · have e1 : m31 k = 31 := by unfold m31; rw [if_neg q]
    have e2 : m31 (k + 1) = 31 := by unfold m31; rw [if_neg (by omega)]
    rw [e1, e2]
theorem mcn_mono {bits a : Int} (h0 : 0 ≤ a) : ∀ d : Nat, mcn bits a ≤ mcn bits (a + d)
  | 0 => by simp
  | d + 1 => by
    have ih := mcn_mono (bits := bits) h0 d
    have := mkb_rg bits (a + d)
    rw [show a + ((d + 1 : Nat) : Int) = (a + d) + 1 by omega, mcn_s (by omega)]
    omega
theorem mcn_lt {bits np j : Int} (h0 : 0 ≤ j) (h1 : j < np) (h : j < 31 ∧ mkb bits j = 1) : mcn bits j < mcn bits (m31 np) := by
  have e : j + 1 ≤ m31 np := by unfold m31; split <;> omega
  have h2 := mcn_mono (bits := bits) (a := j + 1) (by omega) (m31 np - (j + 1)).toNat
  rw [show j + 1 + (((m31 np - (j + 1)).toNat : Nat) : Int) = m31 np by omega, mcn_s h0, h.2] at h2
  omega
theorem mcn_31 {bits k : Int} (h : 0 ≤ k) : 0 ≤ mcn bits (m31 k) ∧ mcn bits (m31 k) ≤ 31 := by
  have h1 : 0 ≤ m31 k ∧ m31 k ≤ 31 := by unfold m31; split <;> omega
  have := mcn_rg (bits := bits) h1.1
  omega
theorem LDr_ok {F S np : Int} {kd ht th pf ps pk a b c : Int → Int} (hF : 1 ≤ F ∧ F ≤ 5) (hS : 2 ≤ S ∧ S ≤ 6) (hnp : 0 ≤ np) (h : TSk F S kd ht th np pf ps pk 480 a b c) : ∀ j, 0 ≤ j → j < 480 → (-1 ≤ a j ∧ a j < 60) ∧ (-1 ≤ c j ∧ c j < np) := by
  intro j h0 h1
  obtain ⟨t1, t2, t3⟩ := h j h0 h1
  have h9 : -1 ≤ LDc F S kd j ∧ LDc F S kd j < 60 := by
    unfold LDc ldT
    split
    · rename_i q; exact lead_rg hF hS (by omega) q.1
    · omega
  have hr := alg_rg (np := np) (pf := pf) (ps := ps) (pk := pk) (p := j / 8) (m := j % 8) hnp
  rw [t1, t3]
  refine ⟨h9, ?_⟩
  split <;> omega
section SC20
section MK
variable {p : Program} {l : Launch} {e : Env} {R : Room} {s : State} {mm : MethodId} {args : Array Value} {below : List Frame} {meth : Method} {c : Code} {cc : ByteArray} {nL : Nat} {ret : Option FieldType} {D : va_G} {A B : Nat → Prop} {cells slots : Nat} {Q : State → Prop} {pc : Nat} {lv : List (Nat × Value)} {st : List Value}
theorem kX1_isThread (h : Nat → Nat) (f : Nat → Int) (g : Nat → Int → Int) (N : Nat → Nat) (M : Nat → Nat → Nat) (T : va_W) (nb : Nat) (start full : Int) (C : CX p l s mm args meth c RX1 cc nL ret D A) (hnp : 0 ≤ f 6 ∧ f 6 ≤ 55) (htb : ∀ j, 0 ≤ j → j < 480 → (-1 ≤ g 14 j ∧ g 14 j < 60) ∧ (-1 ≤ g 16 j ∧ g 16 j < f 6)) (hnb : nb ≤ 10) (hbn : ∀ j, 0 ≤ j → j < f 6 → -1 ≤ g 13 j ∧ g 13 j < nb) (hst9 : 0 ≤ start ∧ start < 60) (hfu : full = 2 ^ nb - 1) (hR : 1 + 1 ≤ R.frames ∧ 8 + (7 + 11) + 64 * 1 ≤ R.locals) (hcat : (st.map fun v => v.category).sum ≤ 8) (hroom : cells ≤ R.cells ∧ slots ≤ R.slots) {rv : Int} (hr : bP (Rc (g 14) (g 16) (g 13) (2 ^ nb - 1) start (2 ^ nb - 1) start) = rv) (d : decode cc pc = .ok (.invokevirtual 273, 3)) (K : ∀ y20 : Int → Int, GO p l e R s mm args below meth c nL D A A cells slots Q (sW D h f (ug g 20 y20) N M T) (pc + 3) lv (.int (iI rv) :: st)) : GO p l e R s mm args below meth c nL D A A cells slots Q (sW D h f g N M T) (pc) lv (.int (iI full) :: .int (iI start) :: .ref (h 0) :: st) := by
  refine g_callVU C (c_X1_isThread l D C.hl h f g N M T nb start full hnp htb hnb hbn hst9 hfu) (As := [.int (iI start), .int (iI full)]) (n := 2) (lw_V q649 q651 qs11 q48 q652) (by decide +kernel) rfl rfl hR (rcvM C) rfl rfl hcat hroom d (wr := []) Sb.rf exT_b hex_t (fun v w hp => ?_) kx_nu
  obtain ⟨z, rfl, rfl, y20, rfl⟩ := hp
  rw [hr]
  exact K y20
end MK
set_option maxHeartbeats 4000000 in
set_option maxRecDepth 100000 in
theorem c_X1_marks (l : Launch) (D : va_G) (hst : l.stackTraces = false) (h : Nat → Nat) (f : Nat → Int) (g : Nat → Int → Int) (N : Nat → Nat) (M : Nat → Nat → Nat) (U : va_W) (bits : Int) (hF : 1 ≤ f 0 ∧ f 0 ≤ 5) (hS : 2 ≤ f 1 ∧ f 1 ≤ 6) (hkd : ∀ j, 0 ≤ j → j < 6 → 0 ≤ g 5 j ∧ g 5 j ≤ 3) (hth : ∀ j, 0 ≤ j → j < 5 → 1 ≤ g 3 j ∧ g 3 j ≤ 50) (hht : ∀ j, 0 ≤ j → j < 6 → 0 ≤ g 4 j ∧ g 4 j ≤ 400) (hnp : 0 ≤ f 6 ∧ f 6 ≤ 55) (hN6 : N 6 = 55) (hpt : ∀ j, 0 ≤ j → j < f 6 → (0 ≤ g 24 j ∧ g 24 j ≤ 4) ∧ (0 ≤ g 25 j ∧ g 25 j ≤ 5) ∧ (0 ≤ g 26 j ∧ g 26 j ≤ 2) ∧ (0 ≤ g 27 j ∧ g 27 j ≤ 1)) (hbitsr : -2147483648 ≤ bits ∧ bits < 2147483648) : CT l D yX1_marks (ws_ yX1_marks cX1_marks 5 (some .boolean)) (rmD 7 0 0) (0) (0) va_A [.ref (h 0), .int (iI bits)] (sW D h f g N M (ptW (M 6) (g 24) (g 25) (g 26) (g 27) (f 6) ++ U)) exT (pI fun z w => (10 < mcn bits (m31 (f 6)) ∧ z = 0 ∧ ∃ y13 : Int → Int, w = sW D h f (ug g 13 y13) N M (ptW (M 6) (g 24) (g 25) (g 26) (g 27) (f 6) ++ U)) ∨ (mcn bits (m31 (f 6)) ≤ 10 ∧ ∃ y13 y14 y15 y16 y17 y18 y20 : Int → Int, (TSk (f 0) (f 1) (g 5) (g 4) (g 3) (f 6) (g 24) (g 25) (g 26) 480 y14 y15 y16) ∧ (∀ j, 0 ≤ j → j < f 6 → y13 j = if j < 31 ∧ mkb bits j = 1 then mcn bits j else -1) ∧ z = bP (∃ fo ko : Int, (0 ≤ fo ∧ fo < f 0) ∧ (0 ≤ ko ∧ ko < f 1) ∧ Rc y14 y16 y13 (2 ^ (mcn bits (m31 (f 6))).toNat - 1) (2 * (6 * fo + ko) + 0) (2 ^ (mcn bits (m31 (f 6))).toNat - 1) (2 * (6 * fo + ko) + 0)) ∧ w = sW D h f (ug (ug (ug (ug (ug (ug (ug g 13 y13) 14 y14) 15 y15) 16 y16) 17 y17) 18 y18) 20 y20) N M (ptW (M 6) (g 24) (g 25) (g 26) (g 27) (f 6) ++ U))) (xN) := by
  refine ct_U (lv := [(0, .ref (h 0)), (1, .int (iI bits))]) RX1 (by decide) rfl rfl hst (Nat.le_of_ble_eq_true rfl) rfl ?_
  intro p e s mm args below meth c A C htab hex hnm
  refine g_iconst C dX1_marks_0 ?_
  refine g_istore_n C dX1_marks_1 rfl (lv' := [(0, .ref (h 0)), (1, .int (iI bits)), (2, .int (iI 0))]) [1, 2, 0] rfl (Nat.le_of_ble_eq_true rfl) ?_
  refine g_iconst C dX1_marks_2 ?_
  refine g_istore_n C dX1_marks_3 rfl (lv' := [(0, .ref (h 0)), (1, .int (iI bits)), (2, .int (iI 0)), (3, .int (iI 0))]) [1, 2, 3, 0] rfl (Nat.le_of_ble_eq_true rfl) ?_
  have L1 : ∀ (n : Nat) (k : Int) (nn : Int) (y13 : Int → Int), (0 ≤ k ∧ k ≤ f 6) → (nn = mcn bits (m31 k)) → (∀ j, 0 ≤ j → j < k → y13 j = if j < 31 ∧ mkb bits j = 1 then mcn bits j else -1) → (f 6 - k).toNat < n → GO p l e (rmD 7 0 0) s mm args below meth c 5 D A A 0 0 (MX below D A (pI fun z w => (10 < mcn bits (m31 (f 6)) ∧ z = 0 ∧ ∃ y13 : Int → Int, w = sW D h f (ug g 13 y13) N M (ptW (M 6) (g 24) (g 25) (g 26) (g 27) (f 6) ++ U)) ∨ (mcn bits (m31 (f 6)) ≤ 10 ∧ ∃ y13 y14 y15 y16 y17 y18 y20 : Int → Int, (TSk (f 0) (f 1) (g 5) (g 4) (g 3) (f 6) (g 24) (g 25) (g 26) 480 y14 y15 y16) ∧ (∀ j, 0 ≤ j → j < f 6 → y13 j = if j < 31 ∧ mkb bits j = 1 then mcn bits j else -1) ∧ z = bP (∃ fo ko : Int, (0 ≤ fo ∧ fo < f 0) ∧ (0 ≤ ko ∧ ko < f 1) ∧ Rc y14 y16 y13 (2 ^ (mcn bits (m31 (f 6))).toNat - 1) (2 * (6 * fo + ko) + 0) (2 ^ (mcn bits (m31 (f 6))).toNat - 1) (2 * (6 * fo + ko) + 0)) ∧ w = sW D h f (ug (ug (ug (ug (ug (ug (ug g 13 y13) 14 y14) 15 y15) 16 y16) 17 y17) 18 y18) 20 y20) N M (ptW (M 6) (g 24) (g 25) (g 26) (g 27) (f 6) ++ U))) (xN) args s (0) (0)) (sW D h f (ug g 13 y13) N M (ptW (M 6) (g 24) (g 25) (g 26) (g 27) (f 6) ++ U)) 4 [(0, .ref (h 0)), (1, .int (iI bits)), (2, .int (iI nn)), (3, .int (iI k))] [] := by
    intro n
    induction n with
    | zero => intro k nn y13 hk hn hy13 hm; exact absurd hm (Nat.not_lt_zero _)
    | succ n ih1 =>
      intro k nn y13 hk hn hy13 hm1
      have hmr := mcn_31 (bits := bits) hk.1
      have hkb := mkb_rg bits k
      refine g_iload_n C dX1_marks_4 rfl 3 rfl ?_
      refine g_aload_n C dX1_marks_5 rfl 0 rfl ?_
      refine gs_get6 C dX1_marks_6 ?_
      refine kX1_lsize (h 6) (h 21) (f 21) (N 6) (f 6) (M 6) C ⟨Nat.le_of_ble_eq_true rfl, Nat.le_of_ble_eq_true rfl⟩ (Nat.le_of_ble_eq_true rfl) ⟨Nat.le_of_ble_eq_true rfl, Nat.le_of_ble_eq_true rfl⟩ (rv := f 6) rfl sb_l6 dX1_marks_9 ?_
      refine g_icmp_ge C (tgt := 72) dX1_marks_12 (by decide) (by omega) (by omega) (fun hc12_2 => ?_) (fun hc12_2 => ?_)
      ·
        refine g_iload_n C dX1_marks_72 rfl 2 rfl ?_
        refine g_bipush C dX1_marks_73 (z := 10) rfl ?_
        refine g_icmp_le C (tgt := 80) dX1_marks_75 (by decide) (by omega) (by omega) (fun hc75_3 => ?_) (fun hc75_3 => ?_)
        ·
          have ek : k = f 6 := by omega
          subst ek
          subst hn
          refine g_aload_n C dX1_marks_80 rfl 0 rfl ?_
          refine kX1_X1_tables h f (ug g 13 y13) N M U C hF hS hkd hth hht hnp hN6 hpt ⟨Nat.le_of_ble_eq_true rfl, Nat.le_of_ble_eq_true rfl⟩ (Nat.le_of_ble_eq_true rfl) ⟨Nat.le_of_ble_eq_true rfl, Nat.le_of_ble_eq_true rfl⟩ dX1_marks_81 ?_
          intro y14 y15 y16 y17 y18 hTS hCMp
          refine g_ws (ws' := sW D h f (ug (ug (ug (ug (ug (ug g 13 y13) 14 y14) 15 y15) 16 y16) 17 y17) 18 y18) N M (ptW (M 6) (g 24) (g 25) (g 26) (g 27) (f 6) ++ U)) rfl ?_
          have hTc := LDr_ok (np := f 6) (pf := g 24) (ps := g 25) (pk := g 26) hF hS hnp.1 hTS
          have htb := hTc
          have hnb : (mcn bits (m31 (f 6))).toNat ≤ 10 := by omega
          have hp1 := p2_pos (mcn bits (m31 (f 6))).toNat
          have hp2 := p2_le hnb
          have hbn : ∀ j, 0 ≤ j → j < f 6 → -1 ≤ y13 j ∧ y13 j < (mcn bits (m31 (f 6))).toNat := fun j h0 h1 => by rw [hy13 j h0 h1]; split; (rename_i q9; have q8 := mcn_lt h0 h1 q9; have q7 := mcn_rg (bits := bits) h0; omega); omega
          refine g_iconst C dX1_marks_84 ?_
          refine g_istore_n C dX1_marks_85 rfl (lv' := [(0, .ref (h 0)), (1, .int (iI bits)), (2, .int (iI (mcn bits (m31 (f 6))))), (3, .int (iI 0))]) [1, 2, 3, 0] rfl (Nat.le_of_ble_eq_true rfl) ?_
          have L4 : ∀ (n : Nat) (fi : Int) (y20 : Int → Int), (0 ≤ fi ∧ fi ≤ f 0) → (∀ fo ko, 0 ≤ fo → fo < fi → 0 ≤ ko → ko < f 1 → ¬ Rc y14 y16 y13 (2 ^ (mcn bits (m31 (f 6))).toNat - 1) (2 * (6 * fo + ko) + 0) (2 ^ (mcn bits (m31 (f 6))).toNat - 1) (2 * (6 * fo + ko) + 0)) → (f 0 - fi).toNat < n → GO p l e (rmD 7 0 0) s mm args below meth c 5 D A A 0 0 (MX below D A (pI fun z w => (10 < mcn bits (m31 (f 6)) ∧ z = 0 ∧ ∃ y13 : Int → Int, w = sW D h f (ug g 13 y13) N M (ptW (M 6) (g 24) (g 25) (g 26) (g 27) (f 6) ++ U)) ∨ (mcn bits (m31 (f 6)) ≤ 10 ∧ ∃ y13 y14 y15 y16 y17 y18 y20 : Int → Int, (TSk (f 0) (f 1) (g 5) (g 4) (g 3) (f 6) (g 24) (g 25) (g 26) 480 y14 y15 y16) ∧ (∀ j, 0 ≤ j → j < f 6 → y13 j = if j < 31 ∧ mkb bits j = 1 then mcn bits j else -1) ∧ z = bP (∃ fo ko : Int, (0 ≤ fo ∧ fo < f 0) ∧ (0 ≤ ko ∧ ko < f 1) ∧ Rc y14 y16 y13 (2 ^ (mcn bits (m31 (f 6))).toNat - 1) (2 * (6 * fo + ko) + 0) (2 ^ (mcn bits (m31 (f 6))).toNat - 1) (2 * (6 * fo + ko) + 0)) ∧ w = sW D h f (ug (ug (ug (ug (ug (ug (ug g 13 y13) 14 y14) 15 y15) 16 y16) 17 y17) 18 y18) 20 y20) N M (ptW (M 6) (g 24) (g 25) (g 26) (g 27) (f 6) ++ U))) (xN) args s (0) (0)) (sW D h f (ug (ug (ug (ug (ug (ug (ug g 13 y13) 14 y14) 15 y15) 16 y16) 17 y17) 18 y18) 20 y20) N M (ptW (M 6) (g 24) (g 25) (g 26) (g 27) (f 6) ++ U)) 86 [(0, .ref (h 0)), (1, .int (iI bits)), (2, .int (iI (mcn bits (m31 (f 6))))), (3, .int (iI fi))] [] := by
            intro n
            induction n with
            | zero => intro fi y20 hfi hno hm; exact absurd hm (Nat.not_lt_zero _)
            | succ n ih4 =>
              intro fi y20 hfi hno hm4
              refine g_iload_n C dX1_marks_86 rfl 3 rfl ?_
              refine g_aload_n C dX1_marks_87 rfl 0 rfl ?_
              refine gs_get0 C (v := f 0) rfl dX1_marks_88 ?_
              refine g_icmp_ge C (tgt := 139) dX1_marks_91 (by decide) (by omega) (by omega) (fun hc91_5 => ?_) (fun hc91_5 => ?_)
              ·
                refine g_iconst C dX1_marks_139 ?_
                exact g_iret C dX1_marks_140 rfl (Nat.le_of_ble_eq_true rfl) (Nat.le_of_ble_eq_true rfl) ⟨_, rfl, Or.inr ⟨by omega, y13, y14, y15, y16, y17, y18, _, hTS, hy13, (bP_f (fun ⟨fo, ko, h1, h2, h3⟩ => hno fo ko h1.1 (by omega) h2.1 h2.2 h3)).symm, rfl⟩⟩
              ·
                refine g_iconst C dX1_marks_94 ?_
                refine g_istore C dX1_marks_95 (lv' := [(0, .ref (h 0)), (1, .int (iI bits)), (2, .int (iI (mcn bits (m31 (f 6))))), (3, .int (iI fi)), (4, .int (iI 0))]) [1, 2, 3, 4, 0] rfl (Nat.le_of_ble_eq_true rfl) ?_
                have L6 : ∀ (n : Nat) (kk : Int) (y20 : Int → Int), (0 ≤ kk ∧ kk ≤ f 1) → (∀ ko, 0 ≤ ko → ko < kk → ¬ Rc y14 y16 y13 (2 ^ (mcn bits (m31 (f 6))).toNat - 1) (2 * (6 * fi + ko) + 0) (2 ^ (mcn bits (m31 (f 6))).toNat - 1) (2 * (6 * fi + ko) + 0)) → (f 1 - kk).toNat < n → GO p l e (rmD 7 0 0) s mm args below meth c 5 D A A 0 0 (MX below D A (pI fun z w => (10 < mcn bits (m31 (f 6)) ∧ z = 0 ∧ ∃ y13 : Int → Int, w = sW D h f (ug g 13 y13) N M (ptW (M 6) (g 24) (g 25) (g 26) (g 27) (f 6) ++ U)) ∨ (mcn bits (m31 (f 6)) ≤ 10 ∧ ∃ y13 y14 y15 y16 y17 y18 y20 : Int → Int, (TSk (f 0) (f 1) (g 5) (g 4) (g 3) (f 6) (g 24) (g 25) (g 26) 480 y14 y15 y16) ∧ (∀ j, 0 ≤ j → j < f 6 → y13 j = if j < 31 ∧ mkb bits j = 1 then mcn bits j else -1) ∧ z = bP (∃ fo ko : Int, (0 ≤ fo ∧ fo < f 0) ∧ (0 ≤ ko ∧ ko < f 1) ∧ Rc y14 y16 y13 (2 ^ (mcn bits (m31 (f 6))).toNat - 1) (2 * (6 * fo + ko) + 0) (2 ^ (mcn bits (m31 (f 6))).toNat - 1) (2 * (6 * fo + ko) + 0)) ∧ w = sW D h f (ug (ug (ug (ug (ug (ug (ug g 13 y13) 14 y14) 15 y15) 16 y16) 17 y17) 18 y18) 20 y20) N M (ptW (M 6) (g 24) (g 25) (g 26) (g 27) (f 6) ++ U))) (xN) args s (0) (0)) (sW D h f (ug (ug (ug (ug (ug (ug (ug g 13 y13) 14 y14) 15 y15) 16 y16) 17 y17) 18 y18) 20 y20) N M (ptW (M 6) (g 24) (g 25) (g 26) (g 27) (f 6) ++ U)) 97 [(0, .ref (h 0)), (1, .int (iI bits)), (2, .int (iI (mcn bits (m31 (f 6))))), (3, .int (iI fi)), (4, .int (iI kk))] [] := by
                  intro n
                  induction n with
                  | zero => intro kk y20 hkk hn2 hm; exact absurd hm (Nat.not_lt_zero _)
                  | succ n ih6 =>
                    intro kk y20 hkk hn2 hm6
                    refine g_iload C dX1_marks_97 4 rfl ?_
                    refine g_aload_n C dX1_marks_99 rfl 0 rfl ?_
                    refine gs_get1 C (v := f 1) rfl dX1_marks_100 ?_
                    refine g_icmp_ge C (tgt := 133) dX1_marks_103 (by decide) (by omega) (by omega) (fun hc103_7 => ?_) (fun hc103_7 => ?_)
                    ·
                      refine g_iinc C dX1_marks_133 3 rfl (lv' := [(0, .ref (h 0)), (1, .int (iI bits)), (2, .int (iI (mcn bits (m31 (f 6))))), (3, .int (iI (fi + 1))), (4, .int (iI kk))]) [1, 2, 3, 0, 4] rfl (Nat.le_of_ble_eq_true rfl) ?_
                      refine g_goto C (tgt := 86) dX1_marks_136 (by decide) ?_
                      refine g_lv [0, 1, 2, 3] rfl ?_
                      exact ih4 (fi + 1) y20 (by omega) (fun fo ko h0 h1 h2 h3 => by by_cases e9 : fo = fi; (subst e9; exact hn2 ko h2 (by omega)); exact hno fo ko h0 (by omega) h2 h3) (by omega)
                    ·
                      refine g_aload_n C dX1_marks_106 rfl 0 rfl ?_
                      refine g_iload_n C dX1_marks_107 rfl 3 rfl ?_
                      refine g_iload C dX1_marks_108 4 rfl ?_
                      refine g_iconst C dX1_marks_110 ?_
                      refine kX1_X1_place fi kk 0 C (by omega) (by omega) (by omega) ⟨Nat.le_of_ble_eq_true rfl, Nat.le_of_ble_eq_true rfl⟩ (Nat.le_of_ble_eq_true rfl) ⟨Nat.le_of_ble_eq_true rfl, Nat.le_of_ble_eq_true rfl⟩ (rv := 2 * (6 * fi + kk) + 0) rfl dX1_marks_111 ?_
                      refine g_iconst C dX1_marks_114 ?_
                      refine g_iload_n C dX1_marks_115 rfl 2 rfl ?_
                      refine g_ishl C dX1_marks_116 (z := 2 ^ (mcn bits (m31 (f 6))).toNat) (shl_p2 ⟨by omega, by omega⟩) ?_
                      refine g_iconst C dX1_marks_117 ?_
                      refine g_isub C dX1_marks_118 ?_
                      refine kX1_isThread h f (ug (ug (ug (ug (ug (ug (ug g 13 y13) 14 y14) 15 y15) 16 y16) 17 y17) 18 y18) 20 y20) N M (ptW (M 6) (g 24) (g 25) (g 26) (g 27) (f 6) ++ U) (mcn bits (m31 (f 6))).toNat (2 * (6 * fi + kk) + 0) ((2 ^ (mcn bits (m31 (f 6))).toNat) - 1) C hnp htb hnb hbn (by omega) rfl ⟨Nat.le_of_ble_eq_true rfl, Nat.le_of_ble_eq_true rfl⟩ (Nat.le_of_ble_eq_true rfl) ⟨Nat.le_of_ble_eq_true rfl, Nat.le_of_ble_eq_true rfl⟩ (rv := bP (Rc y14 y16 y13 (2 ^ (mcn bits (m31 (f 6))).toNat - 1) (2 * (6 * fi + kk) + 0) (2 ^ (mcn bits (m31 (f 6))).toNat - 1) (2 * (6 * fi + kk) + 0))) rfl dX1_marks_119 (fun z20 => ?_)
                      refine g_ws (ws' := sW D h f (ug (ug (ug (ug (ug (ug (ug g 13 y13) 14 y14) 15 y15) 16 y16) 17 y17) 18 y18) 20 z20) N M (ptW (M 6) (g 24) (g 25) (g 26) (g 27) (f 6) ++ U)) rfl ?_
                      have hbr := bP_rg (Rc y14 y16 y13 (2 ^ (mcn bits (m31 (f 6))).toNat - 1) (2 * (6 * fi + kk) + 0) (2 ^ (mcn bits (m31 (f 6))).toNat - 1) (2 * (6 * fi + kk) + 0))
                      refine g_if_eq C (tgt := 127) dX1_marks_122 (by decide) (by omega) (fun hc122_8 => ?_) (fun hc122_8 => ?_)
                      ·
                        refine g_iinc C dX1_marks_127 4 rfl (lv' := [(0, .ref (h 0)), (1, .int (iI bits)), (2, .int (iI (mcn bits (m31 (f 6))))), (3, .int (iI fi)), (4, .int (iI (kk + 1)))]) [1, 2, 3, 4, 0] rfl (Nat.le_of_ble_eq_true rfl) ?_
                        refine g_goto C (tgt := 97) dX1_marks_130 (by decide) ?_
                        exact ih6 (kk + 1) z20 (by omega) (fun ko h0 h1 => by by_cases e9 : ko = kk; (subst e9; exact bP_0 (by omega)); exact hn2 ko h0 (by omega)) (by omega)
                      ·
                        refine g_iconst C dX1_marks_125 ?_
                        exact g_iret C dX1_marks_126 rfl (Nat.le_of_ble_eq_true rfl) (Nat.le_of_ble_eq_true rfl) ⟨_, rfl, Or.inr ⟨by omega, y13, y14, y15, y16, y17, y18, _, hTS, hy13, (bP_t ⟨fi, kk, ⟨by omega, by omega⟩, ⟨by omega, by omega⟩, bP_1 (by omega)⟩).symm, rfl⟩⟩
                exact L6 _ 0 y20 (by omega) (fun ko h0 h1 => absurd h1 (by omega)) (Nat.lt_succ_self _)
          exact L4 _ 0 (g 20) (by omega) (fun fo ko h0 h1 => absurd h1 (by omega)) (Nat.lt_succ_self _)
        ·
          have ek : k = f 6 := by omega
          subst ek
          refine g_iconst C dX1_marks_78 ?_
          exact g_iret C dX1_marks_79 rfl (Nat.le_of_ble_eq_true rfl) (Nat.le_of_ble_eq_true rfl) ⟨_, rfl, Or.inl ⟨by omega, rfl, _, rfl⟩⟩
      ·
        have J9 : ∀ (iv : Int), ((iv = 1 ∧ k < 31 ∧ mkb bits k = 1) ∨ (iv = 0 ∧ ¬ (k < 31 ∧ mkb bits k = 1))) → GO p l e (rmD 7 0 0) s mm args below meth c 5 D A A 0 0 (MX below D A (pI fun z w => (10 < mcn bits (m31 (f 6)) ∧ z = 0 ∧ ∃ y13 : Int → Int, w = sW D h f (ug g 13 y13) N M (ptW (M 6) (g 24) (g 25) (g 26) (g 27) (f 6) ++ U)) ∨ (mcn bits (m31 (f 6)) ≤ 10 ∧ ∃ y13 y14 y15 y16 y17 y18 y20 : Int → Int, (TSk (f 0) (f 1) (g 5) (g 4) (g 3) (f 6) (g 24) (g 25) (g 26) 480 y14 y15 y16) ∧ (∀ j, 0 ≤ j → j < f 6 → y13 j = if j < 31 ∧ mkb bits j = 1 then mcn bits j else -1) ∧ z = bP (∃ fo ko : Int, (0 ≤ fo ∧ fo < f 0) ∧ (0 ≤ ko ∧ ko < f 1) ∧ Rc y14 y16 y13 (2 ^ (mcn bits (m31 (f 6))).toNat - 1) (2 * (6 * fo + ko) + 0) (2 ^ (mcn bits (m31 (f 6))).toNat - 1) (2 * (6 * fo + ko) + 0)) ∧ w = sW D h f (ug (ug (ug (ug (ug (ug (ug g 13 y13) 14 y14) 15 y15) 16 y16) 17 y17) 18 y18) 20 y20) N M (ptW (M 6) (g 24) (g 25) (g 26) (g 27) (f 6) ++ U))) (xN) args s (0) (0)) (sW D h f (ug g 13 y13) N M (ptW (M 6) (g 24) (g 25) (g 26) (g 27) (f 6) ++ U)) 35 [(0, .ref (h 0)), (1, .int (iI bits)), (2, .int (iI nn)), (3, .int (iI k))] [.int (iI iv)] := by
          intro iv hiv
          refine g_istore C dX1_marks_35 (lv' := [(0, .ref (h 0)), (1, .int (iI bits)), (2, .int (iI nn)), (3, .int (iI k)), (4, .int (iI iv))]) [1, 2, 3, 4, 0] rfl (Nat.le_of_ble_eq_true rfl) ?_
          refine g_aload_n C dX1_marks_37 rfl 0 rfl ?_
          refine gs_get13 C dX1_marks_38 ?_
          refine g_iload_n C dX1_marks_41 rfl 3 rfl ?_
          refine g_iload C dX1_marks_42 4 rfl ?_
          refine g_if_eq C (tgt := 51) dX1_marks_44 (by decide) (by omega) (fun hc44_10 => ?_) (fun hc44_10 => ?_)
          ·
            refine g_iconst C dX1_marks_51 ?_
            refine gs_ast13 C (g' := (ug g 13 (uI y13 k (-1)))) rfl dX1_marks_52 (by omega) ?_
            refine g_iload_n C dX1_marks_53 rfl 2 rfl ?_
            refine g_iload C dX1_marks_54 4 rfl ?_
            refine g_if_eq C (tgt := 63) dX1_marks_56 (by decide) (by omega) (fun hc56_11 => ?_) (fun hc56_11 => ?_)
            ·
              refine g_iconst C dX1_marks_63 ?_
              refine g_iadd C dX1_marks_64 ?_
              refine g_istore_n C dX1_marks_65 rfl (lv' := [(0, .ref (h 0)), (1, .int (iI bits)), (2, .int (iI (nn + 0))), (3, .int (iI k)), (4, .int (iI iv))]) [1, 2, 0, 3, 4] rfl (Nat.le_of_ble_eq_true rfl) ?_
              refine g_iinc C dX1_marks_66 3 rfl (lv' := [(0, .ref (h 0)), (1, .int (iI bits)), (2, .int (iI (nn + 0))), (3, .int (iI (k + 1))), (4, .int (iI iv))]) [1, 2, 3, 0, 4] rfl (Nat.le_of_ble_eq_true rfl) ?_
              refine g_goto C (tgt := 4) dX1_marks_69 (by decide) ?_
              refine g_lv [0, 1, 2, 3] rfl ?_
              exact ih1 (k + 1) (nn + 0) (uI y13 k (-1)) (by omega) (by first | (exfalso; omega) | (rw [mcn31_y hk.1 (by omega), hn]) | (rw [mcn31_n hk.1 (by omega), hn]; omega)) (uI_all (P := fun j y => y = if j < 31 ∧ mkb bits j = 1 then mcn bits j else -1) hy13 (by first | (exfalso; omega) | (rw [if_pos (by omega), hn, show m31 k = k by unfold m31; rw [if_pos (by omega)]]) | (rw [if_neg (by omega)]))) (by omega)
            ·
              refine g_iconst C dX1_marks_59 ?_
              refine g_goto C (tgt := 64) dX1_marks_60 (by decide) ?_
              refine g_iadd C dX1_marks_64 ?_
              refine g_istore_n C dX1_marks_65 rfl (lv' := [(0, .ref (h 0)), (1, .int (iI bits)), (2, .int (iI (nn + 1))), (3, .int (iI k)), (4, .int (iI iv))]) [1, 2, 0, 3, 4] rfl (Nat.le_of_ble_eq_true rfl) ?_
              refine g_iinc C dX1_marks_66 3 rfl (lv' := [(0, .ref (h 0)), (1, .int (iI bits)), (2, .int (iI (nn + 1))), (3, .int (iI (k + 1))), (4, .int (iI iv))]) [1, 2, 3, 0, 4] rfl (Nat.le_of_ble_eq_true rfl) ?_
              refine g_goto C (tgt := 4) dX1_marks_69 (by decide) ?_
              refine g_lv [0, 1, 2, 3] rfl ?_
              exact ih1 (k + 1) (nn + 1) (uI y13 k (-1)) (by omega) (by first | (exfalso; omega) | (rw [mcn31_y hk.1 (by omega), hn]) | (rw [mcn31_n hk.1 (by omega), hn]; omega)) (uI_all (P := fun j y => y = if j < 31 ∧ mkb bits j = 1 then mcn bits j else -1) hy13 (by first | (exfalso; omega) | (rw [if_pos (by omega), hn, show m31 k = k by unfold m31; rw [if_pos (by omega)]]) | (rw [if_neg (by omega)]))) (by omega)
          ·
            refine g_iload_n C dX1_marks_47 rfl 2 rfl ?_
            refine g_goto C (tgt := 52) dX1_marks_48 (by decide) ?_
            refine gs_ast13 C (g' := (ug g 13 (uI y13 k nn))) rfl dX1_marks_52 (by omega) ?_
            refine g_iload_n C dX1_marks_53 rfl 2 rfl ?_
            refine g_iload C dX1_marks_54 4 rfl ?_
            refine g_if_eq C (tgt := 63) dX1_marks_56 (by decide) (by omega) (fun hc56_12 => ?_) (fun hc56_12 => ?_)
            ·
              refine g_iconst C dX1_marks_63 ?_
              refine g_iadd C dX1_marks_64 ?_
              refine g_istore_n C dX1_marks_65 rfl (lv' := [(0, .ref (h 0)), (1, .int (iI bits)), (2, .int (iI (nn + 0))), (3, .int (iI k)), (4, .int (iI iv))]) [1, 2, 0, 3, 4] rfl (Nat.le_of_ble_eq_true rfl) ?_
              refine g_iinc C dX1_marks_66 3 rfl (lv' := [(0, .ref (h 0)), (1, .int (iI bits)), (2, .int (iI (nn + 0))), (3, .int (iI (k + 1))), (4, .int (iI iv))]) [1, 2, 3, 0, 4] rfl (Nat.le_of_ble_eq_true rfl) ?_
              refine g_goto C (tgt := 4) dX1_marks_69 (by decide) ?_
              refine g_lv [0, 1, 2, 3] rfl ?_
              exact ih1 (k + 1) (nn + 0) (uI y13 k nn) (by omega) (by first | (exfalso; omega) | (rw [mcn31_y hk.1 (by omega), hn]) | (rw [mcn31_n hk.1 (by omega), hn]; omega)) (uI_all (P := fun j y => y = if j < 31 ∧ mkb bits j = 1 then mcn bits j else -1) hy13 (by first | (exfalso; omega) | (rw [if_pos (by omega), hn, show m31 k = k by unfold m31; rw [if_pos (by omega)]]) | (rw [if_neg (by omega)]))) (by omega)
            ·
              refine g_iconst C dX1_marks_59 ?_
              refine g_goto C (tgt := 64) dX1_marks_60 (by decide) ?_
              refine g_iadd C dX1_marks_64 ?_
              refine g_istore_n C dX1_marks_65 rfl (lv' := [(0, .ref (h 0)), (1, .int (iI bits)), (2, .int (iI (nn + 1))), (3, .int (iI k)), (4, .int (iI iv))]) [1, 2, 0, 3, 4] rfl (Nat.le_of_ble_eq_true rfl) ?_
              refine g_iinc C dX1_marks_66 3 rfl (lv' := [(0, .ref (h 0)), (1, .int (iI bits)), (2, .int (iI (nn + 1))), (3, .int (iI (k + 1))), (4, .int (iI iv))]) [1, 2, 3, 0, 4] rfl (Nat.le_of_ble_eq_true rfl) ?_
              refine g_goto C (tgt := 4) dX1_marks_69 (by decide) ?_
              refine g_lv [0, 1, 2, 3] rfl ?_
              exact ih1 (k + 1) (nn + 1) (uI y13 k nn) (by omega) (by first | (exfalso; omega) | (rw [mcn31_y hk.1 (by omega), hn]) | (rw [mcn31_n hk.1 (by omega), hn]; omega)) (uI_all (P := fun j y => y = if j < 31 ∧ mkb bits j = 1 then mcn bits j else -1) hy13 (by first | (exfalso; omega) | (rw [if_pos (by omega), hn, show m31 k = k by unfold m31; rw [if_pos (by omega)]]) | (rw [if_neg (by omega)]))) (by omega)
        refine g_iload_n C dX1_marks_15 rfl 3 rfl ?_
        refine g_bipush C dX1_marks_16 (z := 31) rfl ?_
        refine g_icmp_ge C (tgt := 34) dX1_marks_18 (by decide) (by omega) (by omega) (fun hc18_13 => ?_) (fun hc18_13 => ?_)
        ·
          refine g_iconst C dX1_marks_34 ?_
          exact J9 0 (by omega)
        ·
          refine g_iload_n C dX1_marks_21 rfl 1 rfl ?_
          refine g_iload_n C dX1_marks_22 rfl 3 rfl ?_
          refine g_ishr C dX1_marks_23 (z := shrI bits k) (iI_of _).symm ?_
          refine g_iconst C dX1_marks_24 ?_
          refine g_iand C dX1_marks_25 (z := mkb bits k) (iI_of _).symm ?_
          refine g_iconst C dX1_marks_26 ?_
          refine g_icmp_ne C (tgt := 34) dX1_marks_27 (by decide) (by omega) (by omega) (fun hc27_14 => ?_) (fun hc27_14 => ?_)
          ·
            refine g_iconst C dX1_marks_34 ?_
            exact J9 0 (by omega)
          ·
            refine g_iconst C dX1_marks_30 ?_
            refine g_goto C (tgt := 35) dX1_marks_31 (by decide) ?_
            exact J9 1 (by omega)
  exact L1 _ 0 0 (g 13) (by omega) rfl (fun j h0 h1 => absurd h1 (by omega)) (Nat.lt_succ_self _)

end SC20
