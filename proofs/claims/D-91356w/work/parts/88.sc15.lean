/-! ===== contracts of the class: the tables ===== -/
theorem incN_le {LD : Int → Int} {q : Int} {N : Nat} (hi : ∀ a b : Nat, a < N → b < N → a % 8 = b % 8 → LD (a : Int) = q → LD (b : Int) = q → a = b) {n : Nat} (hn : n ≤ N) : incN LD q n ≤ 8 := by
  rw [incN_sum]
  have f : ∀ m, imN LD q m n ≤ 1 := fun m => by rcases imN_1 (m := m) hi n hn with a | a <;> omega
  have f0 := f 0; have f1 := f 1; have f2 := f 2; have f3 := f 3; have f4 := f 4; have f5 := f 5; have f6 := f 6; have f7 := f 7
  omega
theorem LDc_inj {F S : Int} {kd : Int → Int} {q : Int} (hq : q ≠ -1) : ∀ a b : Nat, a < 480 → b < 480 → a % 8 = b % 8 → LDc F S kd (a : Int) = q → LDc F S kd (b : Int) = q → a = b := by
  intro a b ha hb hm h1 h2
  unfold LDc at h1 h2
  have e1 := ldT_ne (F := F) (S := S) (kd := kd) (p := (a : Int) / 8) (m := (a : Int) % 8) (by rw [h1]; exact hq)
  have e2 := ldT_ne (F := F) (S := S) (kd := kd) (p := (b : Int) / 8) (m := (b : Int) % 8) (by rw [h2]; exact hq)
  have hme : (b : Int) % 8 = (a : Int) % 8 := by omega
  rw [hme] at e2 h2
  have := lead_inj (F := F) (S := S) (kd := kd) (p := (a : Int) / 8) (q := (b : Int) / 8) (m := (a : Int) % 8) (by omega) (by omega) (by omega) e1.2.2 (by rw [← e1.2.1, ← e2.2.1, h1, h2])
  omega
/-- what comes to a place, of the first K moves -/
def CMp (LD a b : Int → Int) (K : Int) : Prop := ∀ q, 0 ≤ q → q < 60 → b q = (incN LD q K.toNat : Int) ∧ (∀ i, 0 ≤ i → i < b q → (0 ≤ a (8 * q + i) ∧ a (8 * q + i) < K) ∧ LD (a (8 * q + i)) = q) ∧ ∀ k, 0 ≤ k → k < K → LD k = q → ∃ i, 0 ≤ i ∧ i < b q ∧ a (8 * q + i) = k
theorem CMp_0 {LD a b : Int → Int} (h : ∀ j, 0 ≤ j → j < 60 → b j = 0) : CMp LD a b 0 := fun q h0 h1 => ⟨h q h0 h1, fun i h2 h3 => by rw [h q h0 h1] at h3; omega, fun k h2 h3 => absurd h3 (by omega)⟩
theorem CMp_n {LD a b : Int → Int} {K : Int} (h : CMp LD a b K) (h0 : 0 ≤ K) (hx : LD K = -1) : CMp LD a b (K + 1) := by
  intro q q0 q1
  obtain ⟨h1, h2, h3⟩ := h q q0 q1
  refine ⟨?_, fun i i0 i1 => ⟨⟨(h2 i i0 i1).1.1, by have := (h2 i i0 i1).1.2; omega⟩, (h2 i i0 i1).2⟩, fun k k0 k1 k2 => ?_⟩
  · rw [h1, show (K + 1).toNat = K.toNat + 1 by omega]
    show _ = ((incN LD q K.toNat + (if LD (K.toNat : Int) = q then 1 else 0) : Nat) : Int)
    rw [Int.toNat_of_nonneg h0, if_neg (by omega)]; rfl
  · by_cases e : k = K
    · subst e; omega
    · exact h3 k k0 (by omega) k2
theorem CMp_y {LD a b : Int → Int} {K q0 : Int} (h : CMp LD a b K) (h0 : 0 ≤ K) (hq : LD K = q0) (hq0 : 0 ≤ q0 ∧ q0 < 60) (hb : ∀ q, 0 ≤ q → q < 60 → b q ≤ 8) (hb0 : b q0 < 8) : CMp LD (uI a (8 * q0 + b q0) K) (uI b q0 (b q0 + 1)) (K + 1) := by
  intro q r0 r1
  obtain ⟨h1, h2, h3⟩ := h q r0 r1
  have hbq := hb q r0 r1
  have hn0 : 0 ≤ b q0 := by have := (h q0 hq0.1 hq0.2).1; omega
  by_cases e : q = q0
  · subst e
    rw [uI_s]
    refine ⟨?_, fun i i0 i1 => ?_, fun k k0 k1 k2 => ?_⟩
    · rw [show (K + 1).toNat = K.toNat + 1 by omega]
      show _ = ((incN LD q K.toNat + (if LD (K.toNat : Int) = q then 1 else 0) : Nat) : Int)
      rw [Int.toNat_of_nonneg h0, if_pos hq]; omega
    · by_cases e2 : i = b q
      · subst e2; rw [uI_s]; exact ⟨⟨h0, by omega⟩, hq⟩
      · rw [uI_n (by omega)]; have := h2 i i0 (by omega); exact ⟨⟨this.1.1, by omega⟩, this.2⟩
    · by_cases e2 : k = K
      · subst e2; exact ⟨b q, hn0, by omega, uI_s⟩
      · obtain ⟨i, i0, i1, i2⟩ := h3 k k0 (by omega) k2
        exact ⟨i, i0, by omega, by rw [uI_n (by omega)]; exact i2⟩
  · rw [uI_n e]
    refine ⟨?_, fun i i0 i1 => ?_, fun k k0 k1 k2 => ?_⟩
    · rw [h1, show (K + 1).toNat = K.toNat + 1 by omega]
      show _ = ((incN LD q K.toNat + (if LD (K.toNat : Int) = q then 1 else 0) : Nat) : Int)
      rw [Int.toNat_of_nonneg h0, if_neg (by omega)]; rfl
    · rw [uI_n (by omega)]; have := h2 i i0 i1; exact ⟨⟨this.1.1, by omega⟩, this.2⟩
    · obtain ⟨i, i0, i1, i2⟩ := h3 k k0 (by by_cases e2 : k = K; (subst e2; omega); omega) k2
      exact ⟨i, i0, i1, by rw [uI_n (by omega)]; exact i2⟩
theorem CMp_8 {F S K : Int} {kd a b : Int → Int} (h : CMp (LDc F S kd) a b K) (h0 : 0 ≤ K ∧ K ≤ 480) : ∀ q, 0 ≤ q → q < 60 → 0 ≤ b q ∧ b q ≤ 8 := fun q q0 q1 => by
  have h1 := (h q q0 q1).1
  have := incN_le (LD := LDc F S kd) (q := q) (N := 480) (LDc_inj (by omega)) (n := K.toNat) (by omega)
  omega
theorem CMp_7 {F S K q : Int} {kd a b : Int → Int} (h : CMp (LDc F S kd) a b K) (h0 : 0 ≤ K ∧ K < 480) (hq : LDc F S kd K = q) (q0 : 0 ≤ q ∧ q < 60) : b q < 8 := by
  have h1 := (h q q0.1 q0.2).1
  have := incN_8 (LD := LDc F S kd) (q := q) (N := 480) (LDc_inj (by omega)) (n := K.toNat) (by omega) (by rw [Int.toNat_of_nonneg h0.1]; exact hq)
  omega
theorem CMp_ok {F S : Int} {kd a b l : Int → Int} (h : CMp (LDc F S kd) a b 480) (hl : ∀ k, 0 ≤ k → k < 480 → l k = LDc F S kd k) : CMok l a b := fun q q0 q1 => by
  have h8 := CMp_8 h ⟨by omega, Int.le_refl _⟩ q q0 q1
  obtain ⟨h1, h2, h3⟩ := h q q0 q1
  exact ⟨h8, fun i i0 i1 => ⟨(h2 i i0 i1).1, by rw [hl _ (h2 i i0 i1).1.1 (h2 i i0 i1).1.2]; exact (h2 i i0 i1).2⟩, fun k k0 k1 k2 => h3 k k0 k1 (by rw [← hl k k0 k1]; exact k2)⟩
/-- the class's tables, of the first K moves -/
def TSk (F S : Int) (kd ht th : Int → Int) (np : Int) (pf ps pk : Int → Int) (K : Int) (a b c : Int → Int) : Prop := ∀ k, 0 ≤ k → k < K → a k = LDc F S kd k ∧ b k = (if LDc F S kd k = -1 then 0 else 1024 * LNc ht th k + 1) ∧ c k = (if LDc F S kd k = -1 then -1 else alg np pf ps pk (k / 8) (k % 8))
theorem TSk_s {F S : Int} {kd ht th : Int → Int} {np : Int} {pf ps pk : Int → Int} {K va vb vc : Int} {a b c : Int → Int} (h : TSk F S kd ht th np pf ps pk K a b c) (h1 : va = LDc F S kd K) (h2 : vb = (if LDc F S kd K = -1 then 0 else 1024 * LNc ht th K + 1)) (h3 : vc = (if LDc F S kd K = -1 then -1 else alg np pf ps pk (K / 8) (K % 8))) : TSk F S kd ht th np pf ps pk (K + 1) (uI a K va) (uI b K vb) (uI c K vc) := by
  intro k k0 k1
  by_cases e : k = K
  · subst e; rw [uI_s, uI_s, uI_s]; exact ⟨h1, h2, h3⟩
  · rw [uI_n e, uI_n e, uI_n e]; exact h k k0 (by omega)
section SC15
set_option maxHeartbeats 4000000 in
set_option maxRecDepth 100000 in
theorem c_X1_tables (l : Launch) (D : va_G) (hst : l.stackTraces = false) (h : Nat → Nat) (f : Nat → Int) (g : Nat → Int → Int) (N : Nat → Nat) (M : Nat → Nat → Nat) (U : va_W)  (hF : 1 ≤ f 0 ∧ f 0 ≤ 5) (hS : 2 ≤ f 1 ∧ f 1 ≤ 6) (hkd : ∀ j, 0 ≤ j → j < 6 → 0 ≤ g 5 j ∧ g 5 j ≤ 3) (hth : ∀ j, 0 ≤ j → j < 5 → 1 ≤ g 3 j ∧ g 3 j ≤ 50) (hht : ∀ j, 0 ≤ j → j < 6 → 0 ≤ g 4 j ∧ g 4 j ≤ 400) (hnp : 0 ≤ f 6 ∧ f 6 ≤ 55) (hN6 : N 6 = 55) (hpt : ∀ j, 0 ≤ j → j < f 6 → (0 ≤ g 24 j ∧ g 24 j ≤ 4) ∧ (0 ≤ g 25 j ∧ g 25 j ≤ 5) ∧ (0 ≤ g 26 j ∧ g 26 j ≤ 2) ∧ (0 ≤ g 27 j ∧ g 27 j ≤ 1)) : CT l D yX1_tables (ws_ yX1_tables cX1_tables 5 none) (rmD 6 0 0) (0) (0) va_A [.ref (h 0)] (sW D h f g N M (ptW (M 6) (g 24) (g 25) (g 26) (g 27) (f 6) ++ U)) exT (pV fun w => ∃ y14 : Int → Int, ∃ y15 : Int → Int, ∃ y16 : Int → Int, ∃ y17 : Int → Int, ∃ y18 : Int → Int, (TSk (f 0) (f 1) (g 5) (g 4) (g 3) (f 6) (g 24) (g 25) (g 26) 480 y14 y15 y16) ∧ (CMp (LDc (f 0) (f 1) (g 5)) y17 y18 480) ∧ w = sW D h f (ug (ug (ug (ug (ug g 14 y14) 15 y15) 16 y16) 17 y17) 18 y18) N M (ptW (M 6) (g 24) (g 25) (g 26) (g 27) (f 6) ++ U)) (xN) := by
  refine ct_U (lv := [(0, .ref (h 0))]) RX1 (by decide) rfl rfl hst (Nat.le_of_ble_eq_true rfl) rfl ?_
  intro p e s mm args below meth c A C htab hex hnm
  refine g_iconst C dX1_tables_0 ?_
  refine g_istore_n C dX1_tables_1 rfl (lv' := [(0, .ref (h 0)), (1, .int (iI 0))]) [1, 0] rfl (Nat.le_of_ble_eq_true rfl) ?_
  have L1 : ∀ (n : Nat) (a : Int) (y18 : Int → Int), (0 ≤ a ∧ a ≤ 60) → (∀ j, 0 ≤ j → j < a → y18 j = 0) → (60 - a).toNat < n → GO p l e (rmD 6 0 0) s mm args below meth c 5 D A A 0 0 (MX below D A (pV fun w => ∃ y14 : Int → Int, ∃ y15 : Int → Int, ∃ y16 : Int → Int, ∃ y17 : Int → Int, ∃ y18 : Int → Int, (TSk (f 0) (f 1) (g 5) (g 4) (g 3) (f 6) (g 24) (g 25) (g 26) 480 y14 y15 y16) ∧ (CMp (LDc (f 0) (f 1) (g 5)) y17 y18 480) ∧ w = sW D h f (ug (ug (ug (ug (ug g 14 y14) 15 y15) 16 y16) 17 y17) 18 y18) N M (ptW (M 6) (g 24) (g 25) (g 26) (g 27) (f 6) ++ U)) (xN) args s (0) (0)) (sW D h f (ug g 18 y18) N M (ptW (M 6) (g 24) (g 25) (g 26) (g 27) (f 6) ++ U)) 2 [(0, .ref (h 0)), (1, .int (iI a))] [] := by
    intro n
    induction n with
    | zero => intro a y18 ha hz hm; exact absurd hm (Nat.not_lt_zero _)
    | succ n ih1 =>
      intro a y18 ha hz hm1
      refine g_iload_n C dX1_tables_2 rfl 1 rfl ?_
      refine g_bipush C dX1_tables_3 (z := 60) rfl ?_
      refine g_icmp_ge C (tgt := 21) dX1_tables_5 (by decide) (by omega) (by omega) (fun hc5_2 => ?_) (fun hc5_2 => ?_)
      ·
        refine g_iconst C dX1_tables_21 ?_
        refine g_istore_n C dX1_tables_22 rfl (lv' := [(0, .ref (h 0)), (1, .int (iI 0))]) [1, 0] rfl (Nat.le_of_ble_eq_true rfl) ?_
        have L3 : ∀ (n : Nat) (a : Int) (y14 : Int → Int) (y15 : Int → Int) (y16 : Int → Int) (y17 : Int → Int) (y18 : Int → Int), (0 ≤ a ∧ a ≤ 60) → (TSk (f 0) (f 1) (g 5) (g 4) (g 3) (f 6) (g 24) (g 25) (g 26) (8 * a) y14 y15 y16) → (CMp (LDc (f 0) (f 1) (g 5)) y17 y18 (8 * a)) → (60 - a).toNat < n → GO p l e (rmD 6 0 0) s mm args below meth c 5 D A A 0 0 (MX below D A (pV fun w => ∃ y14 : Int → Int, ∃ y15 : Int → Int, ∃ y16 : Int → Int, ∃ y17 : Int → Int, ∃ y18 : Int → Int, (TSk (f 0) (f 1) (g 5) (g 4) (g 3) (f 6) (g 24) (g 25) (g 26) 480 y14 y15 y16) ∧ (CMp (LDc (f 0) (f 1) (g 5)) y17 y18 480) ∧ w = sW D h f (ug (ug (ug (ug (ug g 14 y14) 15 y15) 16 y16) 17 y17) 18 y18) N M (ptW (M 6) (g 24) (g 25) (g 26) (g 27) (f 6) ++ U)) (xN) args s (0) (0)) (sW D h f (ug (ug (ug (ug (ug g 14 y14) 15 y15) 16 y16) 17 y17) 18 y18) N M (ptW (M 6) (g 24) (g 25) (g 26) (g 27) (f 6) ++ U)) 23 [(0, .ref (h 0)), (1, .int (iI a))] [] := by
          intro n
          induction n with
          | zero => intro a y14 y15 y16 y17 y18 ha hT hC hm; exact absurd hm (Nat.not_lt_zero _)
          | succ n ih3 =>
            intro a y14 y15 y16 y17 y18 ha hT hC hm3
            refine g_iload_n C dX1_tables_23 rfl 1 rfl ?_
            refine g_bipush C dX1_tables_24 (z := 60) rfl ?_
            refine g_icmp_ge C (tgt := 228) dX1_tables_26 (by decide) (by omega) (by omega) (fun hc26_4 => ?_) (fun hc26_4 => ?_)
            ·
              have ea : a = 60 := by omega
              subst ea
              exact g_vret C dX1_tables_228 (Nat.le_of_ble_eq_true rfl) (Nat.le_of_ble_eq_true rfl) ⟨rfl, y14, y15, y16, y17, y18, hT, hC, rfl⟩
            ·
              have J5 : ∀ (iv : Int), ((iv = 1 ∧ (a / 2 / 6 < f 0 ∧ a / 2 % 6 < f 1)) ∨ (iv = 0 ∧ ¬ (a / 2 / 6 < f 0 ∧ a / 2 % 6 < f 1))) → GO p l e (rmD 6 0 0) s mm args below meth c 5 D A A 0 0 (MX below D A (pV fun w => ∃ y14 : Int → Int, ∃ y15 : Int → Int, ∃ y16 : Int → Int, ∃ y17 : Int → Int, ∃ y18 : Int → Int, (TSk (f 0) (f 1) (g 5) (g 4) (g 3) (f 6) (g 24) (g 25) (g 26) 480 y14 y15 y16) ∧ (CMp (LDc (f 0) (f 1) (g 5)) y17 y18 480) ∧ w = sW D h f (ug (ug (ug (ug (ug g 14 y14) 15 y15) 16 y16) 17 y17) 18 y18) N M (ptW (M 6) (g 24) (g 25) (g 26) (g 27) (f 6) ++ U)) (xN) args s (0) (0)) (sW D h f (ug (ug (ug (ug (ug g 14 y14) 15 y15) 16 y16) 17 y17) 18 y18) N M (ptW (M 6) (g 24) (g 25) (g 26) (g 27) (f 6) ++ U)) 56 [(0, .ref (h 0)), (1, .int (iI a))] [.int (iI iv)] := by
                intro iv hiv
                refine g_istore_n C dX1_tables_56 rfl (lv' := [(0, .ref (h 0)), (1, .int (iI a)), (2, .int (iI iv))]) [1, 2, 0] rfl (Nat.le_of_ble_eq_true rfl) ?_
                refine g_iconst C dX1_tables_57 ?_
                refine g_istore_n C dX1_tables_58 rfl (lv' := [(0, .ref (h 0)), (1, .int (iI a)), (2, .int (iI iv)), (3, .int (iI 0))]) [1, 2, 3, 0] rfl (Nat.le_of_ble_eq_true rfl) ?_
                have L6 : ∀ (n : Nat) (m : Int) (y14 : Int → Int) (y15 : Int → Int) (y16 : Int → Int) (y17 : Int → Int) (y18 : Int → Int), (0 ≤ m ∧ m ≤ 8) → (TSk (f 0) (f 1) (g 5) (g 4) (g 3) (f 6) (g 24) (g 25) (g 26) (8 * a + m) y14 y15 y16) → (CMp (LDc (f 0) (f 1) (g 5)) y17 y18 (8 * a + m)) → (8 - m).toNat < n → GO p l e (rmD 6 0 0) s mm args below meth c 5 D A A 0 0 (MX below D A (pV fun w => ∃ y14 : Int → Int, ∃ y15 : Int → Int, ∃ y16 : Int → Int, ∃ y17 : Int → Int, ∃ y18 : Int → Int, (TSk (f 0) (f 1) (g 5) (g 4) (g 3) (f 6) (g 24) (g 25) (g 26) 480 y14 y15 y16) ∧ (CMp (LDc (f 0) (f 1) (g 5)) y17 y18 480) ∧ w = sW D h f (ug (ug (ug (ug (ug g 14 y14) 15 y15) 16 y16) 17 y17) 18 y18) N M (ptW (M 6) (g 24) (g 25) (g 26) (g 27) (f 6) ++ U)) (xN) args s (0) (0)) (sW D h f (ug (ug (ug (ug (ug g 14 y14) 15 y15) 16 y16) 17 y17) 18 y18) N M (ptW (M 6) (g 24) (g 25) (g 26) (g 27) (f 6) ++ U)) 59 [(0, .ref (h 0)), (1, .int (iI a)), (2, .int (iI iv)), (3, .int (iI m))] [] := by
                  intro n
                  induction n with
                  | zero => intro m y14 y15 y16 y17 y18 hm hT2 hC2 hm; exact absurd hm (Nat.not_lt_zero _)
                  | succ n ih6 =>
                    intro m y14 y15 y16 y17 y18 hm hT2 hC2 hm6
                    refine g_iload_n C dX1_tables_59 rfl 3 rfl ?_
                    refine g_bipush C dX1_tables_60 (z := 8) rfl ?_
                    refine g_icmp_ge C (tgt := 222) dX1_tables_62 (by decide) (by omega) (by omega) (fun hc62_7 => ?_) (fun hc62_7 => ?_)
                    ·
                      refine g_iinc C dX1_tables_222 1 rfl (lv' := [(0, .ref (h 0)), (1, .int (iI (a + 1))), (2, .int (iI iv)), (3, .int (iI m))]) [1, 0, 2, 3] rfl (Nat.le_of_ble_eq_true rfl) ?_
                      refine g_goto C (tgt := 23) dX1_tables_225 (by decide) ?_
                      refine g_lv [0, 1] rfl ?_
                      exact ih3 (a + 1) y14 y15 y16 y17 y18 (by omega) (by rw [show 8 * (a + 1) = 8 * a + m by omega]; exact hT2) (by rw [show 8 * (a + 1) = 8 * a + m by omega]; exact hC2) (by omega)
                    ·
                      have hkd8 : (8 * a + m) / 8 = a := by omega
                      have hkm8 : (8 * a + m) % 8 = m := by omega
                      refine g_bipush C dX1_tables_65 (z := 8) rfl ?_
                      refine g_iload_n C dX1_tables_67 rfl 1 rfl ?_
                      refine g_imul C dX1_tables_68 ?_
                      refine g_iload_n C dX1_tables_69 rfl 3 rfl ?_
                      refine g_iadd C dX1_tables_70 ?_
                      refine g_istore C dX1_tables_71 (lv' := [(0, .ref (h 0)), (1, .int (iI a)), (2, .int (iI iv)), (3, .int (iI m)), (4, .int (iI ((8 * a) + m)))]) [1, 2, 3, 4, 0] rfl (Nat.le_of_ble_eq_true rfl) ?_
                      refine g_aload_n C dX1_tables_73 rfl 0 rfl ?_
                      refine gs_get14 C dX1_tables_74 ?_
                      refine g_iload C dX1_tables_77 4 rfl ?_
                      have J8 : ∀ (lv_ : Int), (lv_ = LDc (f 0) (f 1) (g 5) (8 * a + m)) → GO p l e (rmD 6 0 0) s mm args below meth c 5 D A A 0 0 (MX below D A (pV fun w => ∃ y14 : Int → Int, ∃ y15 : Int → Int, ∃ y16 : Int → Int, ∃ y17 : Int → Int, ∃ y18 : Int → Int, (TSk (f 0) (f 1) (g 5) (g 4) (g 3) (f 6) (g 24) (g 25) (g 26) 480 y14 y15 y16) ∧ (CMp (LDc (f 0) (f 1) (g 5)) y17 y18 480) ∧ w = sW D h f (ug (ug (ug (ug (ug g 14 y14) 15 y15) 16 y16) 17 y17) 18 y18) N M (ptW (M 6) (g 24) (g 25) (g 26) (g 27) (f 6) ++ U)) (xN) args s (0) (0)) (sW D h f (ug (ug (ug (ug (ug g 14 y14) 15 y15) 16 y16) 17 y17) 18 y18) N M (ptW (M 6) (g 24) (g 25) (g 26) (g 27) (f 6) ++ U)) 93 [(0, .ref (h 0)), (1, .int (iI a)), (2, .int (iI iv)), (3, .int (iI m)), (4, .int (iI ((8 * a) + m)))] [.int (iI lv_), .int (iI ((8 * a) + m)), .ref (h 14)] := by
                        intro lv_ hlv
                        have hlr : -1 ≤ lv_ ∧ lv_ < 60 := by rw [hlv]; unfold LDc ldT; rw [hkd8, hkm8]; split; exact lead_rg hF hS (by omega) (by omega); omega
                        refine gs_ast14 C (g' := (ug (ug (ug (ug (ug g 14 (uI y14 ((8 * a) + m) lv_)) 15 y15) 16 y16) 17 y17) 18 y18)) rfl dX1_tables_93 (by omega) ?_
                        refine g_aload_n C dX1_tables_94 rfl 0 rfl ?_
                        refine gs_get15 C dX1_tables_95 ?_
                        refine g_iload C dX1_tables_98 4 rfl ?_
                        have J9 : ∀ (cv_ : Int), (cv_ = (if LDc (f 0) (f 1) (g 5) (8 * a + m) = -1 then 0 else 1024 * LNc (g 4) (g 3) (8 * a + m) + 1)) → GO p l e (rmD 6 0 0) s mm args below meth c 5 D A A 0 0 (MX below D A (pV fun w => ∃ y14 : Int → Int, ∃ y15 : Int → Int, ∃ y16 : Int → Int, ∃ y17 : Int → Int, ∃ y18 : Int → Int, (TSk (f 0) (f 1) (g 5) (g 4) (g 3) (f 6) (g 24) (g 25) (g 26) 480 y14 y15 y16) ∧ (CMp (LDc (f 0) (f 1) (g 5)) y17 y18 480) ∧ w = sW D h f (ug (ug (ug (ug (ug g 14 y14) 15 y15) 16 y16) 17 y17) 18 y18) N M (ptW (M 6) (g 24) (g 25) (g 26) (g 27) (f 6) ++ U)) (xN) args s (0) (0)) (sW D h f (ug (ug (ug (ug (ug g 14 (uI y14 ((8 * a) + m) lv_)) 15 y15) 16 y16) 17 y17) 18 y18) N M (ptW (M 6) (g 24) (g 25) (g 26) (g 27) (f 6) ++ U)) 127 [(0, .ref (h 0)), (1, .int (iI a)), (2, .int (iI iv)), (3, .int (iI m)), (4, .int (iI ((8 * a) + m)))] [.int (iI cv_), .int (iI ((8 * a) + m)), .ref (h 15)] := by
                          intro cv_ hc5
                          refine gs_ast15 C (g' := (ug (ug (ug (ug (ug g 14 (uI y14 ((8 * a) + m) lv_)) 15 (uI y15 ((8 * a) + m) cv_)) 16 y16) 17 y17) 18 y18)) rfl dX1_tables_127 (by omega) ?_
                          refine g_aload_n C dX1_tables_128 rfl 0 rfl ?_
                          refine gs_get16 C dX1_tables_129 ?_
                          refine g_iload C dX1_tables_132 4 rfl ?_
                          have J10 : ∀ (gv_ : Int), (gv_ = (if LDc (f 0) (f 1) (g 5) (8 * a + m) = -1 then -1 else alg (f 6) (g 24) (g 25) (g 26) ((8 * a + m) / 8) ((8 * a + m) % 8))) → GO p l e (rmD 6 0 0) s mm args below meth c 5 D A A 0 0 (MX below D A (pV fun w => ∃ y14 : Int → Int, ∃ y15 : Int → Int, ∃ y16 : Int → Int, ∃ y17 : Int → Int, ∃ y18 : Int → Int, (TSk (f 0) (f 1) (g 5) (g 4) (g 3) (f 6) (g 24) (g 25) (g 26) 480 y14 y15 y16) ∧ (CMp (LDc (f 0) (f 1) (g 5)) y17 y18 480) ∧ w = sW D h f (ug (ug (ug (ug (ug g 14 y14) 15 y15) 16 y16) 17 y17) 18 y18) N M (ptW (M 6) (g 24) (g 25) (g 26) (g 27) (f 6) ++ U)) (xN) args s (0) (0)) (sW D h f (ug (ug (ug (ug (ug g 14 (uI y14 ((8 * a) + m) lv_)) 15 (uI y15 ((8 * a) + m) cv_)) 16 y16) 17 y17) 18 y18) N M (ptW (M 6) (g 24) (g 25) (g 26) (g 27) (f 6) ++ U)) 155 [(0, .ref (h 0)), (1, .int (iI a)), (2, .int (iI iv)), (3, .int (iI m)), (4, .int (iI ((8 * a) + m)))] [.int (iI gv_), .int (iI ((8 * a) + m)), .ref (h 16)] := by
                            intro gv_ hc6
                            refine gs_ast16 C (g' := (ug (ug (ug (ug (ug g 14 (uI y14 ((8 * a) + m) lv_)) 15 (uI y15 ((8 * a) + m) cv_)) 16 (uI y16 ((8 * a) + m) gv_)) 17 y17) 18 y18)) rfl dX1_tables_155 (by omega) ?_
                            refine g_aload_n C dX1_tables_156 rfl 0 rfl ?_
                            refine gs_get14 C dX1_tables_157 ?_
                            refine g_iload C dX1_tables_160 4 rfl ?_
                            refine gs_ald14 C (v := lv_) (by show uI _ _ _ _ = _; exact uI_s) dX1_tables_162 (by omega) ?_
                            refine g_iconst C dX1_tables_163 ?_
                            refine g_icmp_ne C (tgt := 170) dX1_tables_164 (by decide) (by omega) (by omega) (fun hc164_11 => ?_) (fun hc164_11 => ?_)
                            ·
                              have hb8 : 0 ≤ y18 lv_ ∧ y18 lv_ < 8 := ⟨(CMp_8 hC2 ⟨by omega, by omega⟩ lv_ (by omega) (by omega)).1, CMp_7 hC2 ⟨by omega, by omega⟩ hlv.symm (by omega)⟩
                              refine g_aload_n C dX1_tables_170 rfl 0 rfl ?_
                              refine gs_get17 C dX1_tables_171 ?_
                              refine g_bipush C dX1_tables_174 (z := 8) rfl ?_
                              refine g_aload_n C dX1_tables_176 rfl 0 rfl ?_
                              refine gs_get14 C dX1_tables_177 ?_
                              refine g_iload C dX1_tables_180 4 rfl ?_
                              refine gs_ald14 C (v := lv_) (by show uI _ _ _ _ = _; exact uI_s) dX1_tables_182 (by omega) ?_
                              refine g_imul C dX1_tables_183 ?_
                              refine g_aload_n C dX1_tables_184 rfl 0 rfl ?_
                              refine gs_get18 C dX1_tables_185 ?_
                              refine g_aload_n C dX1_tables_188 rfl 0 rfl ?_
                              refine gs_get14 C dX1_tables_189 ?_
                              refine g_iload C dX1_tables_192 4 rfl ?_
                              refine gs_ald14 C (v := lv_) (by show uI _ _ _ _ = _; exact uI_s) dX1_tables_194 (by omega) ?_
                              refine gs_ald18 C (v := y18 lv_) rfl dX1_tables_195 (by omega) ?_
                              refine g_iadd C dX1_tables_196 ?_
                              refine g_iload C dX1_tables_197 4 rfl ?_
                              refine gs_ast17 C (g' := (ug (ug (ug (ug (ug g 14 (uI y14 ((8 * a) + m) lv_)) 15 (uI y15 ((8 * a) + m) cv_)) 16 (uI y16 ((8 * a) + m) gv_)) 17 (uI y17 ((8 * lv_) + (y18 lv_)) ((8 * a) + m))) 18 y18)) rfl dX1_tables_199 (by omega) ?_
                              refine g_aload_n C dX1_tables_200 rfl 0 rfl ?_
                              refine gs_get18 C dX1_tables_201 ?_
                              refine g_aload_n C dX1_tables_204 rfl 0 rfl ?_
                              refine gs_get14 C dX1_tables_205 ?_
                              refine g_iload C dX1_tables_208 4 rfl ?_
                              refine gs_ald14 C (v := lv_) (by show uI _ _ _ _ = _; exact uI_s) dX1_tables_210 (by omega) ?_
                              refine g_dup2 C dX1_tables_211 rfl rfl ?_
                              refine gs_ald18 C (v := y18 lv_) rfl dX1_tables_212 (by omega) ?_
                              refine g_iconst C dX1_tables_213 ?_
                              refine g_iadd C dX1_tables_214 ?_
                              refine gs_ast18 C (g' := (ug (ug (ug (ug (ug g 14 (uI y14 ((8 * a) + m) lv_)) 15 (uI y15 ((8 * a) + m) cv_)) 16 (uI y16 ((8 * a) + m) gv_)) 17 (uI y17 ((8 * lv_) + (y18 lv_)) ((8 * a) + m))) 18 (uI y18 lv_ ((y18 lv_) + 1)))) rfl dX1_tables_215 (by omega) ?_
                              refine g_iinc C dX1_tables_216 3 rfl (lv' := [(0, .ref (h 0)), (1, .int (iI a)), (2, .int (iI iv)), (3, .int (iI (m + 1))), (4, .int (iI ((8 * a) + m)))]) [1, 2, 3, 0, 4] rfl (Nat.le_of_ble_eq_true rfl) ?_
                              refine g_goto C (tgt := 59) dX1_tables_219 (by decide) ?_
                              refine g_lv [0, 1, 2, 3] rfl ?_
                              exact ih6 (m + 1) (uI y14 ((8 * a) + m) lv_) (uI y15 ((8 * a) + m) cv_) (uI y16 ((8 * a) + m) gv_) (uI y17 ((8 * lv_) + (y18 lv_)) ((8 * a) + m)) (uI y18 lv_ ((y18 lv_) + 1)) (by omega) (by rw [← Int.add_assoc]; exact TSk_s hT2 hlv hc5 hc6) (by rw [← Int.add_assoc]; exact CMp_y hC2 (by omega) hlv.symm (by omega) (fun q q0 q1 => (CMp_8 hC2 ⟨by omega, by omega⟩ q q0 q1).2) hb8.2) (by omega)
                            ·
                              refine g_goto C (tgt := 216) dX1_tables_167 (by decide) ?_
                              refine g_iinc C dX1_tables_216 3 rfl (lv' := [(0, .ref (h 0)), (1, .int (iI a)), (2, .int (iI iv)), (3, .int (iI (m + 1))), (4, .int (iI ((8 * a) + m)))]) [1, 2, 3, 0, 4] rfl (Nat.le_of_ble_eq_true rfl) ?_
                              refine g_goto C (tgt := 59) dX1_tables_219 (by decide) ?_
                              refine g_lv [0, 1, 2, 3] rfl ?_
                              exact ih6 (m + 1) (uI y14 ((8 * a) + m) lv_) (uI y15 ((8 * a) + m) cv_) (uI y16 ((8 * a) + m) gv_) y17 y18 (by omega) (by rw [← Int.add_assoc]; exact TSk_s hT2 hlv hc5 hc6) (by rw [← Int.add_assoc]; exact CMp_n hC2 (by omega) (by omega)) (by omega)
                          refine g_aload_n C dX1_tables_134 rfl 0 rfl ?_
                          refine gs_get14 C dX1_tables_135 ?_
                          refine g_iload C dX1_tables_138 4 rfl ?_
                          refine gs_ald14 C (v := lv_) (by show uI _ _ _ _ = _; exact uI_s) dX1_tables_140 (by omega) ?_
                          refine g_iconst C dX1_tables_141 ?_
                          refine g_icmp_ne C (tgt := 149) dX1_tables_142 (by decide) (by omega) (by omega) (fun hc142_12 => ?_) (fun hc142_12 => ?_)
                          ·
                            refine g_aload_n C dX1_tables_149 rfl 0 rfl ?_
                            refine g_iload_n C dX1_tables_150 rfl 1 rfl ?_
                            refine g_iload_n C dX1_tables_151 rfl 3 rfl ?_
                            refine kX1_X1_goesAlong h f (ug (ug (ug (ug (ug g 14 (uI y14 ((8 * a) + m) lv_)) 15 (uI y15 ((8 * a) + m) cv_)) 16 y16) 17 y17) 18 y18) N M U a m C hnp hN6 hpt (by omega) (by omega) ⟨Nat.le_of_ble_eq_true rfl, Nat.le_of_ble_eq_true rfl⟩ (Nat.le_of_ble_eq_true rfl) ⟨Nat.le_of_ble_eq_true rfl, Nat.le_of_ble_eq_true rfl⟩ (rv := alg (f 6) (g 24) (g 25) (g 26) a m) rfl Sb.rf dX1_tables_152 ?_
                            exact J10 (alg (f 6) (g 24) (g 25) (g 26) a m) (by rw [if_neg (by omega), hkd8, hkm8])
                          ·
                            refine g_iconst C dX1_tables_145 ?_
                            refine g_goto C (tgt := 155) dX1_tables_146 (by decide) ?_
                            exact J10 (-1) (by rw [if_pos (by omega)])
                        refine g_aload_n C dX1_tables_100 rfl 0 rfl ?_
                        refine gs_get14 C dX1_tables_101 ?_
                        refine g_iload C dX1_tables_104 4 rfl ?_
                        refine gs_ald14 C (v := lv_) (by show uI _ _ _ _ = _; exact uI_s) dX1_tables_106 (by omega) ?_
                        refine g_iconst C dX1_tables_107 ?_
                        refine g_icmp_ne C (tgt := 115) dX1_tables_108 (by decide) (by omega) (by omega) (fun hc108_13 => ?_) (fun hc108_13 => ?_)
                        ·
                          have hln := ldT_ne (F := f 0) (S := f 1) (kd := g 5) (p := a) (m := m) (by have h9 := hlv; unfold LDc at h9; rw [hkd8, hkm8] at h9; omega)
                          refine g_sipush C dX1_tables_115 (z := 1024) rfl ?_
                          refine g_aload_n C dX1_tables_118 rfl 0 rfl ?_
                          refine g_iload_n C dX1_tables_119 rfl 1 rfl ?_
                          refine g_iload_n C dX1_tables_120 rfl 3 rfl ?_
                          refine kX1_X1_length h f (ug (ug (ug (ug (ug g 14 (uI y14 ((8 * a) + m) lv_)) 15 y15) 16 y16) 17 y17) 18 y18) N M (ptW (M 6) (g 24) (g 25) (g 26) (g 27) (f 6) ++ U) a m C hF hS hth hht (by omega) (by omega) hln.2.2 (show a / 2 / 6 < f 0 by omega) (show a / 2 % 6 < f 1 by omega) ⟨Nat.le_of_ble_eq_true rfl, Nat.le_of_ble_eq_true rfl⟩ (Nat.le_of_ble_eq_true rfl) ⟨Nat.le_of_ble_eq_true rfl, Nat.le_of_ble_eq_true rfl⟩ (rv := leng (g 4) (g 3) a m) rfl Sb.rf dX1_tables_121 ?_
                          refine g_imul C dX1_tables_124 ?_
                          refine g_iconst C dX1_tables_125 ?_
                          refine g_iadd C dX1_tables_126 ?_
                          exact J9 ((1024 * (leng (g 4) (g 3) a m)) + 1) (by rw [if_neg (by omega)]; unfold LNc; rw [hkd8, hkm8])
                        ·
                          refine g_iconst C dX1_tables_111 ?_
                          refine g_goto C (tgt := 127) dX1_tables_112 (by decide) ?_
                          exact J9 0 (by rw [if_pos (by omega)])
                      refine g_iload_n C dX1_tables_79 rfl 2 rfl ?_
                      refine g_if_eq C (tgt := 92) dX1_tables_80 (by decide) (by omega) (fun hc80_14 => ?_) (fun hc80_14 => ?_)
                      ·
                        refine g_iconst C dX1_tables_92 ?_
                        exact J8 (-1) (by unfold LDc ldT; rw [hkd8, hkm8, if_neg (by omega)])
                      ·
                        refine g_aload_n C dX1_tables_83 rfl 0 rfl ?_
                        refine g_iload_n C dX1_tables_84 rfl 1 rfl ?_
                        refine g_iload_n C dX1_tables_85 rfl 3 rfl ?_
                        refine kX1_X1_leads h f (ug (ug (ug (ug (ug g 14 y14) 15 y15) 16 y16) 17 y17) 18 y18) N M (ptW (M 6) (g 24) (g 25) (g 26) (g 27) (f 6) ++ U) a m C hF hS hkd (by omega) (by omega) ⟨Nat.le_of_ble_eq_true rfl, Nat.le_of_ble_eq_true rfl⟩ (Nat.le_of_ble_eq_true rfl) ⟨Nat.le_of_ble_eq_true rfl, Nat.le_of_ble_eq_true rfl⟩ (rv := lead (f 0) (f 1) (g 5) a m) rfl Sb.rf dX1_tables_86 ?_
                        refine g_goto C (tgt := 93) dX1_tables_89 (by decide) ?_
                        exact J8 (lead (f 0) (f 1) (g 5) a m) (by unfold LDc ldT; rw [hkd8, hkm8, if_pos (by omega)])
                exact L6 _ 0 y14 y15 y16 y17 y18 (by omega) (by rw [Int.add_zero]; exact hT) (by rw [Int.add_zero]; exact hC) (Nat.lt_succ_self _)
              refine g_iload_n C dX1_tables_29 rfl 1 rfl ?_
              refine kX1_X1_fold a C (by omega) ⟨Nat.le_of_ble_eq_true rfl, Nat.le_of_ble_eq_true rfl⟩ (Nat.le_of_ble_eq_true rfl) ⟨Nat.le_of_ble_eq_true rfl, Nat.le_of_ble_eq_true rfl⟩ (rv := a / 2 / 6) rfl dX1_tables_30 ?_
              refine g_aload_n C dX1_tables_33 rfl 0 rfl ?_
              refine gs_get0 C (v := f 0) rfl dX1_tables_34 ?_
              refine g_icmp_ge C (tgt := 55) dX1_tables_37 (by decide) (by omega) (by omega) (fun hc37_15 => ?_) (fun hc37_15 => ?_)
              ·
                refine g_iconst C dX1_tables_55 ?_
                exact J5 0 (by omega)
              ·
                refine g_iload_n C dX1_tables_40 rfl 1 rfl ?_
                refine kX1_X1_station a C (by omega) ⟨Nat.le_of_ble_eq_true rfl, Nat.le_of_ble_eq_true rfl⟩ (Nat.le_of_ble_eq_true rfl) ⟨Nat.le_of_ble_eq_true rfl, Nat.le_of_ble_eq_true rfl⟩ (rv := a / 2 % 6) rfl dX1_tables_41 ?_
                refine g_aload_n C dX1_tables_44 rfl 0 rfl ?_
                refine gs_get1 C (v := f 1) rfl dX1_tables_45 ?_
                refine g_icmp_ge C (tgt := 55) dX1_tables_48 (by decide) (by omega) (by omega) (fun hc48_16 => ?_) (fun hc48_16 => ?_)
                ·
                  refine g_iconst C dX1_tables_55 ?_
                  exact J5 0 (by omega)
                ·
                  refine g_iconst C dX1_tables_51 ?_
                  refine g_goto C (tgt := 56) dX1_tables_52 (by decide) ?_
                  exact J5 1 (by omega)
        exact L3 _ 0 (g 14) (g 15) (g 16) (g 17) y18 (by omega) (fun k h0 h1 => absurd h1 (by omega)) (CMp_0 (fun j h0 h1 => hz j h0 (by omega))) (Nat.lt_succ_self _)
      ·
        refine g_aload_n C dX1_tables_8 rfl 0 rfl ?_
        refine gs_get18 C dX1_tables_9 ?_
        refine g_iload_n C dX1_tables_12 rfl 1 rfl ?_
        refine g_iconst C dX1_tables_13 ?_
        refine gs_ast18 C (g' := (ug g 18 (uI y18 a 0))) rfl dX1_tables_14 (by omega) ?_
        refine g_iinc C dX1_tables_15 1 rfl (lv' := [(0, .ref (h 0)), (1, .int (iI (a + 1)))]) [1, 0] rfl (Nat.le_of_ble_eq_true rfl) ?_
        refine g_goto C (tgt := 2) dX1_tables_18 (by decide) ?_
        exact ih1 (a + 1) (uI y18 a 0) (by omega) (uI_all (P := fun j y => y = 0) hz rfl) (by omega)
  exact L1 _ 0 (g 18) (by omega) (fun j h0 h1 => absurd h1 (by omega)) (Nat.lt_succ_self _)

section MK
variable {p : Program} {l : Launch} {e : Env} {R : Room} {s : State} {mm : MethodId} {args : Array Value} {below : List Frame} {meth : Method} {c : Code} {cc : ByteArray} {nL : Nat} {ret : Option FieldType} {D : va_G} {A B : Nat → Prop} {cells slots : Nat} {Q : State → Prop} {pc : Nat} {lv : List (Nat × Value)} {st : List Value}
theorem kX1_X1_tables (h : Nat → Nat) (f : Nat → Int) (g : Nat → Int → Int) (N : Nat → Nat) (M : Nat → Nat → Nat) (U : va_W)  (C : CX p l s mm args meth c RX1 cc nL ret D A) (hF : 1 ≤ f 0 ∧ f 0 ≤ 5) (hS : 2 ≤ f 1 ∧ f 1 ≤ 6) (hkd : ∀ j, 0 ≤ j → j < 6 → 0 ≤ g 5 j ∧ g 5 j ≤ 3) (hth : ∀ j, 0 ≤ j → j < 5 → 1 ≤ g 3 j ∧ g 3 j ≤ 50) (hht : ∀ j, 0 ≤ j → j < 6 → 0 ≤ g 4 j ∧ g 4 j ≤ 400) (hnp : 0 ≤ f 6 ∧ f 6 ≤ 55) (hN6 : N 6 = 55) (hpt : ∀ j, 0 ≤ j → j < f 6 → (0 ≤ g 24 j ∧ g 24 j ≤ 4) ∧ (0 ≤ g 25 j ∧ g 25 j ≤ 5) ∧ (0 ≤ g 26 j ∧ g 26 j ≤ 2) ∧ (0 ≤ g 27 j ∧ g 27 j ≤ 1)) (hR : 6 + 1 ≤ R.frames ∧ 8 + (5 + 11) + 64 * 6 ≤ R.locals) (hcat : (st.map fun v => v.category).sum ≤ 8) (hroom : cells ≤ R.cells ∧ slots ≤ R.slots) (d : decode cc pc = .ok (.invokevirtual 262, 3)) (K : ∀ (y14 : Int → Int) (y15 : Int → Int) (y16 : Int → Int) (y17 : Int → Int) (y18 : Int → Int) , (TSk (f 0) (f 1) (g 5) (g 4) (g 3) (f 6) (g 24) (g 25) (g 26) 480 y14 y15 y16) → (CMp (LDc (f 0) (f 1) (g 5)) y17 y18 480) → GO p l e R s mm args below meth c nL D A A cells slots Q (sW D h f (ug (ug (ug (ug (ug g 14 y14) 15 y15) 16 y16) 17 y17) 18 y18) N M (ptW (M 6) (g 24) (g 25) (g 26) (g 27) (f 6) ++ U)) (pc + 3) lv st) : GO p l e R s mm args below meth c nL D A A cells slots Q (sW D h f g N M (ptW (M 6) (g 24) (g 25) (g 26) (g 27) (f 6) ++ U)) (pc) lv (.ref (h 0) :: st) := by
  refine g_callVU C (c_X1_tables l D C.hl h f g N M U hF hS hkd hth hht hnp hN6 hpt) (As := []) (n := 0) (lw_V q603 q605 qs6 q48 q606) (by decide +kernel) rfl rfl hR (rcvM C) rfl rfl hcat hroom d (wr := []) Sb.rf exT_b hex_t (fun v w hp => ?_) kx_nu
  obtain ⟨rfl, y14, y15, y16, y17, y18, h0_, h1_, rfl⟩ := hp
  exact K y14 y15 y16 y17 y18 h0_ h1_
end MK

end SC15
