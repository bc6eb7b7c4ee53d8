/-! ===== contracts of the model: plans followed ===== -/
section MC5
set_option maxHeartbeats 4000000 in
set_option maxRecDepth 100000 in
theorem c_X3_follow (l : Launch) (D : va_G) (hst : l.stackTraces = false) (h : Nat → Nat) (f : Nat → Int) (g : Nat → Int → Int) (q : Int) (hF : 1 ≤ f 2 ∧ f 2 ≤ 5) (hS : 2 ≤ f 3 ∧ f 3 ≤ 6) (hkd : ∀ j, 0 ≤ j → j < 6 → 0 ≤ g 12 j ∧ g 12 j ≤ 3) (hth : ∀ j, 0 ≤ j → j < 5 → 1 ≤ g 10 j ∧ g 10 j ≤ 50) (hht : ∀ j, 0 ≤ j → j < 6 → 0 ≤ g 11 j ∧ g 11 j ≤ 400) (hnp : 0 ≤ f 8 ∧ f 8 ≤ 55) (hpt : ∀ j, 0 ≤ j → j < f 8 → (0 ≤ g 14 j ∧ g 14 j ≤ 4) ∧ (0 ≤ g 15 j ∧ g 15 j ≤ 5) ∧ (0 ≤ g 16 j ∧ g 16 j ≤ 2) ∧ (0 ≤ g 17 j ∧ g 17 j ≤ 1)) (hq : 0 ≤ q ∧ q < 8) (hPL : PLok (f 2) (f 3) (g 12) (g 19 q) (g 18 q) (fun k => g 20 (400 * q + k))) : CT l D yX3_follow (ws_ yX3_follow cX3_follow 5 none) (rmD 3 0 0) (0) (0) va_A [.ref (h 36), .int (iI q)] (mW D h f g) exT (pV fun w => w = mW D h (up (up f 25 (fle (g 11) (g 10) (f 2) (f 3) (g 12) (g 19 q) (fun k => g 20 (400 * q + k)) (g 18 q))) 26 (plc (f 2) (f 3) (g 12) (g 19 q) (fun k => g 20 (400 * q + k)) (g 18 q))) (ug (ug (ug g 22 (fgo (f 8) (g 14) (g 15) (g 16) (f 2) (f 3) (g 12) (g 19 q) (fun k => g 20 (400 * q + k)) (g 18 q))) 23 (fho (f 2) (f 3) (g 12) (g 19 q) (fun k => g 20 (400 * q + k)) (g 18 q))) 24 (fti (f 2) (f 3) (g 12) (g 19 q) (fun k => g 20 (400 * q + k)) (g 18 q)))) xN := by
  refine ct_U (lv := [(0, .ref (h 36)), (1, .int (iI q))]) RX3 (by decide) rfl rfl hst (Nat.le_of_ble_eq_true rfl) rfl ?_
  intro p e s mm args below meth c A C htab hex hnm
  refine g_iconst C dX3_follow_0 ?_
  refine g_istore_n C dX3_follow_1 rfl (lv' := [(0, .ref (h 36)), (1, .int (iI q)), (2, .int (iI 0))]) [1, 2, 0] rfl (Nat.le_of_ble_eq_true rfl) ?_
  have L1 : ∀ (n : Nat) (k : Int) (y22 : Int → Int), (0 ≤ k ∧ k ≤ 55) → (∀ j, 0 ≤ j → j < k → y22 j = 0) → (55 - k).toNat < n → GO p l e (rmD 3 0 0) s mm args below meth c 5 D A A 0 0 (MX below D A (pV fun w => w = mW D h (up (up f 25 (fle (g 11) (g 10) (f 2) (f 3) (g 12) (g 19 q) (fun k => g 20 (400 * q + k)) (g 18 q))) 26 (plc (f 2) (f 3) (g 12) (g 19 q) (fun k => g 20 (400 * q + k)) (g 18 q))) (ug (ug (ug g 22 (fgo (f 8) (g 14) (g 15) (g 16) (f 2) (f 3) (g 12) (g 19 q) (fun k => g 20 (400 * q + k)) (g 18 q))) 23 (fho (f 2) (f 3) (g 12) (g 19 q) (fun k => g 20 (400 * q + k)) (g 18 q))) 24 (fti (f 2) (f 3) (g 12) (g 19 q) (fun k => g 20 (400 * q + k)) (g 18 q)))) xN args s (0) (0)) (mW D h f (ug g 22 y22)) 2 [(0, .ref (h 36)), (1, .int (iI q)), (2, .int (iI k))] [] := by
    intro n
    induction n with
    | zero => intro k y22 hk h22 hm; exact absurd hm (Nat.not_lt_zero _)
    | succ n ih1 =>
      intro k y22 hk h22 hm1
      refine g_iload_n C dX3_follow_2 rfl 2 rfl ?_
      refine g_bipush C dX3_follow_3 (z := 55) rfl ?_
      refine g_icmp_ge C (tgt := 21) dX3_follow_5 (by decide) (by omega) (by omega) (fun hc5_2 => ?_) (fun hc5_2 => ?_)
      ·
        refine g_iconst C dX3_follow_21 ?_
        refine g_istore_n C dX3_follow_22 rfl (lv' := [(0, .ref (h 36)), (1, .int (iI q)), (2, .int (iI 0))]) [1, 2, 0] rfl (Nat.le_of_ble_eq_true rfl) ?_
        have L3 : ∀ (n : Nat) (k : Int) (y23 : Int → Int), (0 ≤ k ∧ k ≤ 30) → (∀ j, 0 ≤ j → j < k → y23 j = 0) → (30 - k).toNat < n → GO p l e (rmD 3 0 0) s mm args below meth c 5 D A A 0 0 (MX below D A (pV fun w => w = mW D h (up (up f 25 (fle (g 11) (g 10) (f 2) (f 3) (g 12) (g 19 q) (fun k => g 20 (400 * q + k)) (g 18 q))) 26 (plc (f 2) (f 3) (g 12) (g 19 q) (fun k => g 20 (400 * q + k)) (g 18 q))) (ug (ug (ug g 22 (fgo (f 8) (g 14) (g 15) (g 16) (f 2) (f 3) (g 12) (g 19 q) (fun k => g 20 (400 * q + k)) (g 18 q))) 23 (fho (f 2) (f 3) (g 12) (g 19 q) (fun k => g 20 (400 * q + k)) (g 18 q))) 24 (fti (f 2) (f 3) (g 12) (g 19 q) (fun k => g 20 (400 * q + k)) (g 18 q)))) xN args s (0) (0)) (mW D h f (ug (ug g 22 y22) 23 y23)) 23 [(0, .ref (h 36)), (1, .int (iI q)), (2, .int (iI k))] [] := by
          intro n
          induction n with
          | zero => intro k y23 hk h23 hm; exact absurd hm (Nat.not_lt_zero _)
          | succ n ih3 =>
            intro k y23 hk h23 hm3
            refine g_iload_n C dX3_follow_23 rfl 2 rfl ?_
            refine g_bipush C dX3_follow_24 (z := 30) rfl ?_
            refine g_icmp_ge C (tgt := 42) dX3_follow_26 (by decide) (by omega) (by omega) (fun hc26_4 => ?_) (fun hc26_4 => ?_)
            ·
              refine g_iconst C dX3_follow_42 ?_
              refine g_istore_n C dX3_follow_43 rfl (lv' := [(0, .ref (h 36)), (1, .int (iI q)), (2, .int (iI 0))]) [1, 2, 0] rfl (Nat.le_of_ble_eq_true rfl) ?_
              have L5 : ∀ (n : Nat) (k : Int) (y24 : Int → Int), (0 ≤ k ∧ k ≤ 5) → (∀ j, 0 ≤ j → j < k → y24 j = 0) → (5 - k).toNat < n → GO p l e (rmD 3 0 0) s mm args below meth c 5 D A A 0 0 (MX below D A (pV fun w => w = mW D h (up (up f 25 (fle (g 11) (g 10) (f 2) (f 3) (g 12) (g 19 q) (fun k => g 20 (400 * q + k)) (g 18 q))) 26 (plc (f 2) (f 3) (g 12) (g 19 q) (fun k => g 20 (400 * q + k)) (g 18 q))) (ug (ug (ug g 22 (fgo (f 8) (g 14) (g 15) (g 16) (f 2) (f 3) (g 12) (g 19 q) (fun k => g 20 (400 * q + k)) (g 18 q))) 23 (fho (f 2) (f 3) (g 12) (g 19 q) (fun k => g 20 (400 * q + k)) (g 18 q))) 24 (fti (f 2) (f 3) (g 12) (g 19 q) (fun k => g 20 (400 * q + k)) (g 18 q)))) xN args s (0) (0)) (mW D h f (ug (ug (ug g 22 y22) 23 y23) 24 y24)) 44 [(0, .ref (h 36)), (1, .int (iI q)), (2, .int (iI k))] [] := by
                intro n
                induction n with
                | zero => intro k y24 hk h24 hm; exact absurd hm (Nat.not_lt_zero _)
                | succ n ih5 =>
                  intro k y24 hk h24 hm5
                  refine g_iload_n C dX3_follow_44 rfl 2 rfl ?_
                  refine g_iconst C dX3_follow_45 ?_
                  refine g_icmp_ge C (tgt := 62) dX3_follow_46 (by decide) (by omega) (by omega) (fun hc46_6 => ?_) (fun hc46_6 => ?_)
                  ·
                    refine g_aload_n C dX3_follow_62 rfl 0 rfl ?_
                    refine g_iconst C dX3_follow_63 ?_
                    refine gm_put25 C (f' := (up f 25 0)) rfl dX3_follow_64 ?_
                    refine g_aload_n C dX3_follow_67 rfl 0 rfl ?_
                    refine g_aload_n C dX3_follow_68 rfl 0 rfl ?_
                    refine gm_get19 C dX3_follow_69 ?_
                    refine g_iload_n C dX3_follow_72 rfl 1 rfl ?_
                    refine gm_ald19 C (v := (g 19) q) rfl dX3_follow_73 (by omega) ?_
                    refine gm_put26 C (f' := (up (up f 25 0) 26 ((g 19) q))) rfl dX3_follow_74 ?_
                    have hpn := hPL.2.1
                    refine g_iconst C dX3_follow_77 ?_
                    refine g_istore_n C dX3_follow_78 rfl (lv' := [(0, .ref (h 36)), (1, .int (iI q)), (2, .int (iI 0))]) [1, 2, 0] rfl (Nat.le_of_ble_eq_true rfl) ?_
                    have L7 : ∀ (n : Nat) (k : Int) (y22 : Int → Int) (y23 : Int → Int) (y24 : Int → Int) (ln : Int) (la : Int), (0 ≤ k ∧ k ≤ g 18 q) → (∀ j, 0 ≤ j → j < 55 → y22 j = fgo (f 8) (g 14) (g 15) (g 16) (f 2) (f 3) (g 12) (g 19 q) (fun k => g 20 (400 * q + k)) k j) → (∀ j, 0 ≤ j → j < 30 → y23 j = fho (f 2) (f 3) (g 12) (g 19 q) (fun k => g 20 (400 * q + k)) k j) → (∀ j, 0 ≤ j → j < 5 → y24 j = fti (f 2) (f 3) (g 12) (g 19 q) (fun k => g 20 (400 * q + k)) k j) → (ln = fle (g 11) (g 10) (f 2) (f 3) (g 12) (g 19 q) (fun k => g 20 (400 * q + k)) k) → (-400 * k ≤ ln ∧ ln ≤ 402 * k) → (la = plc (f 2) (f 3) (g 12) (g 19 q) (fun k => g 20 (400 * q + k)) k) → (g 18 q - k).toNat < n → GO p l e (rmD 3 0 0) s mm args below meth c 5 D A A 0 0 (MX below D A (pV fun w => w = mW D h (up (up f 25 (fle (g 11) (g 10) (f 2) (f 3) (g 12) (g 19 q) (fun k => g 20 (400 * q + k)) (g 18 q))) 26 (plc (f 2) (f 3) (g 12) (g 19 q) (fun k => g 20 (400 * q + k)) (g 18 q))) (ug (ug (ug g 22 (fgo (f 8) (g 14) (g 15) (g 16) (f 2) (f 3) (g 12) (g 19 q) (fun k => g 20 (400 * q + k)) (g 18 q))) 23 (fho (f 2) (f 3) (g 12) (g 19 q) (fun k => g 20 (400 * q + k)) (g 18 q))) 24 (fti (f 2) (f 3) (g 12) (g 19 q) (fun k => g 20 (400 * q + k)) (g 18 q)))) xN args s (0) (0)) (mW D h (up (up f 25 ln) 26 la) (ug (ug (ug g 22 y22) 23 y23) 24 y24)) 79 [(0, .ref (h 36)), (1, .int (iI q)), (2, .int (iI k))] [] := by
                      intro n
                      induction n with
                      | zero => intro k y22 y23 y24 ln la hk h22 h23 h24 hln hlb hla hm; exact absurd hm (Nat.not_lt_zero _)
                      | succ n ih7 =>
                        intro k y22 y23 y24 ln la hk h22 h23 h24 hln hlb hla hm7
                        have hpn := hPL.2.1
                        have hpi := hPL.at hF hS (k := k) hk.1 hk.2
                        rw [← hla] at hpi
                        unfold PIn at hpi
                        refine g_iload_n C dX3_follow_79 rfl 2 rfl ?_
                        refine g_aload_n C dX3_follow_80 rfl 0 rfl ?_
                        refine gm_get18 C dX3_follow_81 ?_
                        refine g_iload_n C dX3_follow_84 rfl 1 rfl ?_
                        refine gm_ald18 C (v := (g 18) q) rfl dX3_follow_85 (by omega) ?_
                        refine g_icmp_ge C (tgt := 232) dX3_follow_86 (by decide) (by omega) (by omega) (fun hc86_8 => ?_) (fun hc86_8 => ?_)
                        ·
                          refine gm_con22 (x := fgo (f 8) (g 14) (g 15) (g 16) (f 2) (f 3) (g 12) (g 19 q) (fun k => g 20 (400 * q + k)) (g 18 q)) (g' := (ug (ug (ug g 22 (fgo (f 8) (g 14) (g 15) (g 16) (f 2) (f 3) (g 12) (g 19 q) (fun k => g 20 (400 * q + k)) (g 18 q))) 23 y23) 24 y24)) (fun j h0 h1 => (h22 j h0 (by omega)).trans (by rw [show k = g 18 q by omega])) rfl ?_
                          refine gm_con23 (x := fho (f 2) (f 3) (g 12) (g 19 q) (fun k => g 20 (400 * q + k)) (g 18 q)) (g' := (ug (ug (ug g 22 (fgo (f 8) (g 14) (g 15) (g 16) (f 2) (f 3) (g 12) (g 19 q) (fun k => g 20 (400 * q + k)) (g 18 q))) 23 (fho (f 2) (f 3) (g 12) (g 19 q) (fun k => g 20 (400 * q + k)) (g 18 q))) 24 y24)) (fun j h0 h1 => (h23 j h0 (by omega)).trans (by rw [show k = g 18 q by omega])) rfl ?_
                          refine gm_con24 (x := fti (f 2) (f 3) (g 12) (g 19 q) (fun k => g 20 (400 * q + k)) (g 18 q)) (g' := (ug (ug (ug g 22 (fgo (f 8) (g 14) (g 15) (g 16) (f 2) (f 3) (g 12) (g 19 q) (fun k => g 20 (400 * q + k)) (g 18 q))) 23 (fho (f 2) (f 3) (g 12) (g 19 q) (fun k => g 20 (400 * q + k)) (g 18 q))) 24 (fti (f 2) (f 3) (g 12) (g 19 q) (fun k => g 20 (400 * q + k)) (g 18 q)))) (fun j h0 h1 => (h24 j h0 (by omega)).trans (by rw [show k = g 18 q by omega])) rfl ?_
                          have ek : k = g 18 q := by omega
                          subst ek
                          subst hln hla
                          exact g_vret C dX3_follow_232 (Nat.le_of_ble_eq_true rfl) (Nat.le_of_ble_eq_true rfl) ⟨rfl, rfl⟩
                        ·
                          refine g_aload_n C dX3_follow_89 rfl 0 rfl ?_
                          refine gm_get20 C dX3_follow_90 ?_
                          refine g_sipush C dX3_follow_93 (z := 400) rfl ?_
                          refine g_iload_n C dX3_follow_96 rfl 1 rfl ?_
                          refine g_imul C dX3_follow_97 ?_
                          refine g_iload_n C dX3_follow_98 rfl 2 rfl ?_
                          refine g_iadd C dX3_follow_99 ?_
                          refine gm_ald20 C (v := (g 20) ((400 * q) + k)) rfl dX3_follow_100 (by have := hPL.2.1; omega) ?_
                          refine g_istore_n C dX3_follow_101 rfl (lv' := [(0, .ref (h 36)), (1, .int (iI q)), (2, .int (iI k)), (3, .int (iI ((g 20) ((400 * q) + k))))]) [1, 2, 3, 0] rfl (Nat.le_of_ble_eq_true rfl) ?_
                          have hmv : (0 ≤ g 20 (400 * q + k) ∧ g 20 (400 * q + k) < 8) ∧ lead (f 2) (f 3) (g 12) la (g 20 (400 * q + k)) ≠ -1 := by rw [hla]; exact hPL.2.2 k hk.1 (by omega)
                          refine g_aload_n C dX3_follow_102 rfl 0 rfl ?_
                          refine g_aload_n C dX3_follow_103 rfl 0 rfl ?_
                          refine gm_get26 C (v := la) rfl dX3_follow_104 ?_
                          refine g_iload_n C dX3_follow_107 rfl 3 rfl ?_
                          refine kX3_X3_alongOf la ((g 20) ((400 * q) + k)) C hnp hpt (by omega) (by omega) ⟨Nat.le_of_ble_eq_true rfl, Nat.le_of_ble_eq_true rfl⟩ (Nat.le_of_ble_eq_true rfl) ⟨Nat.le_of_ble_eq_true rfl, Nat.le_of_ble_eq_true rfl⟩ (rv := alg (f 8) (g 14) (g 15) (g 16) la ((g 20) ((400 * q) + k))) rfl dX3_follow_108 ?_
                          refine g_istore C dX3_follow_111 (lv' := [(0, .ref (h 36)), (1, .int (iI q)), (2, .int (iI k)), (3, .int (iI ((g 20) ((400 * q) + k)))), (4, .int (iI (alg (f 8) (g 14) (g 15) (g 16) la ((g 20) ((400 * q) + k)))))]) [1, 2, 3, 4, 0] rfl (Nat.le_of_ble_eq_true rfl) ?_
                          have J9 : ∀ (n22 : Int → Int), (∀ j, 0 ≤ j → j < 55 → n22 j = fgo (f 8) (g 14) (g 15) (g 16) (f 2) (f 3) (g 12) (g 19 q) (fun k => g 20 (400 * q + k)) (k + 1) j) → GO p l e (rmD 3 0 0) s mm args below meth c 5 D A A 0 0 (MX below D A (pV fun w => w = mW D h (up (up f 25 (fle (g 11) (g 10) (f 2) (f 3) (g 12) (g 19 q) (fun k => g 20 (400 * q + k)) (g 18 q))) 26 (plc (f 2) (f 3) (g 12) (g 19 q) (fun k => g 20 (400 * q + k)) (g 18 q))) (ug (ug (ug g 22 (fgo (f 8) (g 14) (g 15) (g 16) (f 2) (f 3) (g 12) (g 19 q) (fun k => g 20 (400 * q + k)) (g 18 q))) 23 (fho (f 2) (f 3) (g 12) (g 19 q) (fun k => g 20 (400 * q + k)) (g 18 q))) 24 (fti (f 2) (f 3) (g 12) (g 19 q) (fun k => g 20 (400 * q + k)) (g 18 q)))) xN args s (0) (0)) (mW D h (up (up f 25 ln) 26 la) (ug (ug (ug g 22 n22) 23 y23) 24 y24)) 130 [(0, .ref (h 36)), (1, .int (iI q)), (2, .int (iI k)), (3, .int (iI ((g 20) ((400 * q) + k)))), (4, .int (iI (alg (f 8) (g 14) (g 15) (g 16) la ((g 20) ((400 * q) + k)))))] [] := by
                            intro n22 h22n
                            have J10 : ∀ (n23 : Int → Int), (∀ j, 0 ≤ j → j < 30 → n23 j = fho (f 2) (f 3) (g 12) (g 19 q) (fun k => g 20 (400 * q + k)) (k + 1) j) → GO p l e (rmD 3 0 0) s mm args below meth c 5 D A A 0 0 (MX below D A (pV fun w => w = mW D h (up (up f 25 (fle (g 11) (g 10) (f 2) (f 3) (g 12) (g 19 q) (fun k => g 20 (400 * q + k)) (g 18 q))) 26 (plc (f 2) (f 3) (g 12) (g 19 q) (fun k => g 20 (400 * q + k)) (g 18 q))) (ug (ug (ug g 22 (fgo (f 8) (g 14) (g 15) (g 16) (f 2) (f 3) (g 12) (g 19 q) (fun k => g 20 (400 * q + k)) (g 18 q))) 23 (fho (f 2) (f 3) (g 12) (g 19 q) (fun k => g 20 (400 * q + k)) (g 18 q))) 24 (fti (f 2) (f 3) (g 12) (g 19 q) (fun k => g 20 (400 * q + k)) (g 18 q)))) xN args s (0) (0)) (mW D h (up (up f 25 ln) 26 la) (ug (ug (ug g 22 n22) 23 n23) 24 y24)) 149 [(0, .ref (h 36)), (1, .int (iI q)), (2, .int (iI k)), (3, .int (iI ((g 20) ((400 * q) + k)))), (4, .int (iI (alg (f 8) (g 14) (g 15) (g 16) la ((g 20) ((400 * q) + k)))))] [] := by
                              intro n23 h23n
                              have J11 : ∀ (m24 : Int → Int), (∀ j, 0 ≤ j → j < 5 → m24 j = fti (f 2) (f 3) (g 12) (g 19 q) (fun k => g 20 (400 * q + k)) k j + bI (decide (g 20 (400 * q + k) = 6 ∧ la / 2 / 6 = j))) → GO p l e (rmD 3 0 0) s mm args below meth c 5 D A A 0 0 (MX below D A (pV fun w => w = mW D h (up (up f 25 (fle (g 11) (g 10) (f 2) (f 3) (g 12) (g 19 q) (fun k => g 20 (400 * q + k)) (g 18 q))) 26 (plc (f 2) (f 3) (g 12) (g 19 q) (fun k => g 20 (400 * q + k)) (g 18 q))) (ug (ug (ug g 22 (fgo (f 8) (g 14) (g 15) (g 16) (f 2) (f 3) (g 12) (g 19 q) (fun k => g 20 (400 * q + k)) (g 18 q))) 23 (fho (f 2) (f 3) (g 12) (g 19 q) (fun k => g 20 (400 * q + k)) (g 18 q))) 24 (fti (f 2) (f 3) (g 12) (g 19 q) (fun k => g 20 (400 * q + k)) (g 18 q)))) xN args s (0) (0)) (mW D h (up (up f 25 ln) 26 la) (ug (ug (ug g 22 n22) 23 n23) 24 m24)) 171 [(0, .ref (h 36)), (1, .int (iI q)), (2, .int (iI k)), (3, .int (iI ((g 20) ((400 * q) + k)))), (4, .int (iI (alg (f 8) (g 14) (g 15) (g 16) la ((g 20) ((400 * q) + k)))))] [] := by
                                intro m24 h24m
                                have J12 : ∀ (n24 : Int → Int), (∀ j, 0 ≤ j → j < 5 → n24 j = fti (f 2) (f 3) (g 12) (g 19 q) (fun k => g 20 (400 * q + k)) (k + 1) j) → GO p l e (rmD 3 0 0) s mm args below meth c 5 D A A 0 0 (MX below D A (pV fun w => w = mW D h (up (up f 25 (fle (g 11) (g 10) (f 2) (f 3) (g 12) (g 19 q) (fun k => g 20 (400 * q + k)) (g 18 q))) 26 (plc (f 2) (f 3) (g 12) (g 19 q) (fun k => g 20 (400 * q + k)) (g 18 q))) (ug (ug (ug g 22 (fgo (f 8) (g 14) (g 15) (g 16) (f 2) (f 3) (g 12) (g 19 q) (fun k => g 20 (400 * q + k)) (g 18 q))) 23 (fho (f 2) (f 3) (g 12) (g 19 q) (fun k => g 20 (400 * q + k)) (g 18 q))) 24 (fti (f 2) (f 3) (g 12) (g 19 q) (fun k => g 20 (400 * q + k)) (g 18 q)))) xN args s (0) (0)) (mW D h (up (up f 25 ln) 26 la) (ug (ug (ug g 22 n22) 23 n23) 24 n24)) 195 [(0, .ref (h 36)), (1, .int (iI q)), (2, .int (iI k)), (3, .int (iI ((g 20) ((400 * q) + k)))), (4, .int (iI (alg (f 8) (g 14) (g 15) (g 16) la ((g 20) ((400 * q) + k)))))] [] := by
                                  intro n24 h24n
                                  refine g_aload_n C dX3_follow_195 rfl 0 rfl ?_
                                  refine g_dup C dX3_follow_196 rfl ?_
                                  refine gm_get25 C (v := ln) rfl dX3_follow_197 ?_
                                  refine g_aload_n C dX3_follow_200 rfl 0 rfl ?_
                                  refine g_aload_n C dX3_follow_201 rfl 0 rfl ?_
                                  refine gm_get26 C (v := la) rfl dX3_follow_202 ?_
                                  refine g_iload_n C dX3_follow_205 rfl 3 rfl ?_
                                  refine kX3_X3_longOf la ((g 20) ((400 * q) + k)) C hF hS hth hht (by omega) (by omega) (show lead (f 2) (f 3) (g 12) la ((g 20) ((400 * q) + k)) ≠ -1 by omega) (show la / 2 / 6 < f 2 by omega) (show la / 2 % 6 < f 3 by omega) ⟨Nat.le_of_ble_eq_true rfl, Nat.le_of_ble_eq_true rfl⟩ (Nat.le_of_ble_eq_true rfl) ⟨Nat.le_of_ble_eq_true rfl, Nat.le_of_ble_eq_true rfl⟩ (rv := leng (g 11) (g 10) la ((g 20) ((400 * q) + k))) rfl dX3_follow_206 ?_
                                  refine g_iadd C dX3_follow_209 ?_
                                  refine gm_put25 C (f' := (up (up f 25 (ln + (leng (g 11) (g 10) la ((g 20) ((400 * q) + k))))) 26 la)) rfl dX3_follow_210 ?_
                                  refine g_aload_n C dX3_follow_213 rfl 0 rfl ?_
                                  refine g_aload_n C dX3_follow_214 rfl 0 rfl ?_
                                  refine g_aload_n C dX3_follow_215 rfl 0 rfl ?_
                                  refine gm_get26 C (v := la) rfl dX3_follow_216 ?_
                                  refine g_iload_n C dX3_follow_219 rfl 3 rfl ?_
                                  refine kX3_X3_moved la ((g 20) ((400 * q) + k)) C hF hS hkd (by omega) (by omega) ⟨Nat.le_of_ble_eq_true rfl, Nat.le_of_ble_eq_true rfl⟩ (Nat.le_of_ble_eq_true rfl) ⟨Nat.le_of_ble_eq_true rfl, Nat.le_of_ble_eq_true rfl⟩ (rv := lead (f 2) (f 3) (g 12) la ((g 20) ((400 * q) + k))) rfl dX3_follow_220 ?_
                                  refine gm_put26 C (f' := (up (up f 25 (ln + (leng (g 11) (g 10) la ((g 20) ((400 * q) + k))))) 26 (lead (f 2) (f 3) (g 12) la ((g 20) ((400 * q) + k))))) rfl dX3_follow_223 ?_
                                  refine g_iinc C dX3_follow_226 2 rfl (lv' := [(0, .ref (h 36)), (1, .int (iI q)), (2, .int (iI (k + 1))), (3, .int (iI ((g 20) ((400 * q) + k)))), (4, .int (iI (alg (f 8) (g 14) (g 15) (g 16) la ((g 20) ((400 * q) + k)))))]) [1, 2, 0, 3, 4] rfl (Nat.le_of_ble_eq_true rfl) ?_
                                  refine g_goto C (tgt := 79) dX3_follow_229 (by decide) ?_
                                  refine g_lv [0, 1, 2] rfl ?_
                                  exact ih7 (k + 1) n22 n23 n24 (ln + (leng (g 11) (g 10) la ((g 20) ((400 * q) + k)))) (lead (f 2) (f 3) (g 12) la ((g 20) ((400 * q) + k))) (by omega) h22n h23n h24n (by rw [fle_s hk.1, hln, hla]) (by have := leng_rg hF hS hth hht (by unfold PIn; exact hpi) hmv.1 hmv.2; omega) (by rw [plc_s hk.1, hla]) (by omega)
                                refine g_iload_n C dX3_follow_171 rfl 3 rfl ?_
                                refine g_bipush C dX3_follow_172 (z := 7) rfl ?_
                                refine g_icmp_ne C (tgt := 195) dX3_follow_174 (by decide) (by omega) (by omega) (fun hc174_13 => ?_) (fun hc174_13 => ?_)
                                ·
                                  exact J12 m24 (fun j h0 h1 => by rw [fti_s hk.1, ← hla, h24m j h0 h1]; congr 2; exact decide_eq_decide.mpr (by omega))
                                ·
                                  have h7 := (leadn_7 ((show g 20 (400 * q + k) = 7 by omega) ▸ hmv.2)).1
                                  refine g_aload_n C dX3_follow_177 rfl 0 rfl ?_
                                  refine gm_get24 C dX3_follow_178 ?_
                                  refine g_aload_n C dX3_follow_181 rfl 0 rfl ?_
                                  refine gm_get26 C (v := la) rfl dX3_follow_182 ?_
                                  refine kX3_X3_foldOf la C (by omega) ⟨Nat.le_of_ble_eq_true rfl, Nat.le_of_ble_eq_true rfl⟩ (Nat.le_of_ble_eq_true rfl) ⟨Nat.le_of_ble_eq_true rfl, Nat.le_of_ble_eq_true rfl⟩ (rv := la / 2 / 6) rfl dX3_follow_185 ?_
                                  refine g_iconst C dX3_follow_188 ?_
                                  refine g_isub C dX3_follow_189 ?_
                                  refine g_dup2 C dX3_follow_190 rfl rfl ?_
                                  refine gm_ald24 C (v := m24 ((la / 2 / 6) - 1)) rfl dX3_follow_191 (by omega) ?_
                                  refine g_iconst C dX3_follow_192 ?_
                                  refine g_iadd C dX3_follow_193 ?_
                                  refine gm_ast24 C (g' := (ug (ug (ug g 22 n22) 23 n23) 24 (uI m24 ((la / 2 / 6) - 1) ((m24 ((la / 2 / 6) - 1)) + 1)))) rfl dX3_follow_194 (by omega) ?_
                                  exact J12 (uI m24 ((la / 2 / 6) - 1) ((m24 ((la / 2 / 6) - 1)) + 1)) (fun j h0 h1 => by rw [fti_s hk.1, ← hla]; unfold uI; split; (· rename_i e9; rw [bI_d (by omega), ← e9, h24m _ (by omega) (by omega), bI_dn (by omega)]; omega); (· rename_i e9; rw [bI_dn (by omega), h24m j h0 h1, bI_dn (by omega)]))
                              refine g_iload_n C dX3_follow_149 rfl 3 rfl ?_
                              refine g_bipush C dX3_follow_150 (z := 6) rfl ?_
                              refine g_icmp_ne C (tgt := 171) dX3_follow_152 (by decide) (by omega) (by omega) (fun hc152_14 => ?_) (fun hc152_14 => ?_)
                              ·
                                exact J11 y24 (fun j h0 h1 => by rw [bI_dn (by omega), h24 j h0 h1]; omega)
                              ·
                                have h6 := (leadn_6 ((show g 20 (400 * q + k) = 6 by omega) ▸ hmv.2)).1
                                refine g_aload_n C dX3_follow_155 rfl 0 rfl ?_
                                refine gm_get24 C dX3_follow_156 ?_
                                refine g_aload_n C dX3_follow_159 rfl 0 rfl ?_
                                refine gm_get26 C (v := la) rfl dX3_follow_160 ?_
                                refine kX3_X3_foldOf la C (by omega) ⟨Nat.le_of_ble_eq_true rfl, Nat.le_of_ble_eq_true rfl⟩ (Nat.le_of_ble_eq_true rfl) ⟨Nat.le_of_ble_eq_true rfl, Nat.le_of_ble_eq_true rfl⟩ (rv := la / 2 / 6) rfl dX3_follow_163 ?_
                                refine g_dup2 C dX3_follow_166 rfl rfl ?_
                                refine gm_ald24 C (v := y24 (la / 2 / 6)) rfl dX3_follow_167 (by omega) ?_
                                refine g_iconst C dX3_follow_168 ?_
                                refine g_iadd C dX3_follow_169 ?_
                                refine gm_ast24 C (g' := (ug (ug (ug g 22 n22) 23 n23) 24 (uI y24 (la / 2 / 6) ((y24 (la / 2 / 6)) + 1)))) rfl dX3_follow_170 (by omega) ?_
                                exact J11 (uI y24 (la / 2 / 6) ((y24 (la / 2 / 6)) + 1)) (fun j h0 h1 => by unfold uI; split; (· rename_i e9; rw [bI_d (by omega), ← e9, h24 _ (by omega) (by omega)]); (· rename_i e9; rw [bI_dn (by omega), h24 j h0 h1]; omega))
                            refine g_iload_n C dX3_follow_130 rfl 3 rfl ?_
                            refine g_if_ne C (tgt := 149) dX3_follow_131 (by decide) (by omega) (fun hc131_15 => ?_) (fun hc131_15 => ?_)
                            ·
                              exact J10 y23 (fun j h0 h1 => by rw [fho_s hk.1, ← hla, bI_dn (by omega), h23 j h0 h1]; omega)
                            ·
                              refine g_aload_n C dX3_follow_134 rfl 0 rfl ?_
                              refine gm_get23 C dX3_follow_135 ?_
                              refine g_aload_n C dX3_follow_138 rfl 0 rfl ?_
                              refine gm_get26 C (v := la) rfl dX3_follow_139 ?_
                              refine g_iconst C dX3_follow_142 ?_
                              refine g_idiv C dX3_follow_143 (by omega) (by omega) ?_
                              refine g_dup2 C dX3_follow_144 rfl rfl ?_
                              refine gm_ald23 C (v := y23 (la / 2)) rfl dX3_follow_145 (by omega) ?_
                              refine g_iconst C dX3_follow_146 ?_
                              refine g_iadd C dX3_follow_147 ?_
                              refine gm_ast23 C (g' := (ug (ug (ug g 22 n22) 23 (uI y23 (la / 2) ((y23 (la / 2)) + 1))) 24 y24)) rfl dX3_follow_148 (by omega) ?_
                              exact J10 (uI y23 (la / 2) ((y23 (la / 2)) + 1)) (fun j h0 h1 => by rw [fho_s hk.1, ← hla]; unfold uI; split; (· rename_i e9; rw [bI_d (by omega), ← e9, h23 _ (by omega) (by omega)]); (· rename_i e9; rw [bI_dn (by omega), h23 j h0 h1]; omega))
                          have hal := alg_rg (np := f 8) (pf := g 14) (ps := g 15) (pk := g 16) (p := la) (m := g 20 (400 * q + k)) hnp.1
                          refine g_iload C dX3_follow_113 4 rfl ?_
                          refine g_iconst C dX3_follow_115 ?_
                          refine g_icmp_eq C (tgt := 130) dX3_follow_116 (by decide) (by omega) (by omega) (fun hc116_16 => ?_) (fun hc116_16 => ?_)
                          ·
                            exact J9 y22 (fun j h0 h1 => by rw [fgo_s hk.1, ← hla, bI_dn (by omega), h22 j h0 h1]; omega)
                          ·
                            refine g_aload_n C dX3_follow_119 rfl 0 rfl ?_
                            refine gm_get22 C dX3_follow_120 ?_
                            refine g_iload C dX3_follow_123 4 rfl ?_
                            refine g_dup2 C dX3_follow_125 rfl rfl ?_
                            refine gm_ald22 C (v := y22 (alg (f 8) (g 14) (g 15) (g 16) la ((g 20) ((400 * q) + k)))) rfl dX3_follow_126 (by omega) ?_
                            refine g_iconst C dX3_follow_127 ?_
                            refine g_iadd C dX3_follow_128 ?_
                            refine gm_ast22 C (g' := (ug (ug (ug g 22 (uI y22 (alg (f 8) (g 14) (g 15) (g 16) la ((g 20) ((400 * q) + k))) ((y22 (alg (f 8) (g 14) (g 15) (g 16) la ((g 20) ((400 * q) + k)))) + 1))) 23 y23) 24 y24)) rfl dX3_follow_129 (by omega) ?_
                            exact J9 (uI y22 (alg (f 8) (g 14) (g 15) (g 16) la ((g 20) ((400 * q) + k))) ((y22 (alg (f 8) (g 14) (g 15) (g 16) la ((g 20) ((400 * q) + k)))) + 1)) (fun j h0 h1 => by rw [fgo_s hk.1, ← hla]; unfold uI; split; (· rename_i e9; rw [bI_d e9.symm, ← e9, h22 _ (by omega) (by omega)]); (· rename_i e9; rw [bI_dn (fun z => e9 z.symm), h22 j h0 h1]; omega))
                    exact L7 _ 0 y22 y23 y24 0 ((g 19) q) (by omega) (fun j h0 h1 => (h22 j h0 (by omega)).trans rfl) (fun j h0 h1 => (h23 j h0 (by omega)).trans rfl) (fun j h0 h1 => (h24 j h0 (by omega)).trans rfl) rfl (by omega) rfl (Nat.lt_succ_self _)
                  ·
                    refine g_aload_n C dX3_follow_49 rfl 0 rfl ?_
                    refine gm_get24 C dX3_follow_50 ?_
                    refine g_iload_n C dX3_follow_53 rfl 2 rfl ?_
                    refine g_iconst C dX3_follow_54 ?_
                    refine gm_ast24 C (g' := (ug (ug (ug g 22 y22) 23 y23) 24 (uI y24 k 0))) rfl dX3_follow_55 (by omega) ?_
                    refine g_iinc C dX3_follow_56 2 rfl (lv' := [(0, .ref (h 36)), (1, .int (iI q)), (2, .int (iI (k + 1)))]) [1, 2, 0] rfl (Nat.le_of_ble_eq_true rfl) ?_
                    refine g_goto C (tgt := 44) dX3_follow_59 (by decide) ?_
                    exact ih5 (k + 1) (uI y24 k 0) (by omega) (uI_all (P := fun j y => y = 0) h24 rfl) (by omega)
              exact L5 _ 0 (g 24) (by omega) (fun j h0 h1 => absurd h1 (by omega)) (Nat.lt_succ_self _)
            ·
              refine g_aload_n C dX3_follow_29 rfl 0 rfl ?_
              refine gm_get23 C dX3_follow_30 ?_
              refine g_iload_n C dX3_follow_33 rfl 2 rfl ?_
              refine g_iconst C dX3_follow_34 ?_
              refine gm_ast23 C (g' := (ug (ug g 22 y22) 23 (uI y23 k 0))) rfl dX3_follow_35 (by omega) ?_
              refine g_iinc C dX3_follow_36 2 rfl (lv' := [(0, .ref (h 36)), (1, .int (iI q)), (2, .int (iI (k + 1)))]) [1, 2, 0] rfl (Nat.le_of_ble_eq_true rfl) ?_
              refine g_goto C (tgt := 23) dX3_follow_39 (by decide) ?_
              exact ih3 (k + 1) (uI y23 k 0) (by omega) (uI_all (P := fun j y => y = 0) h23 rfl) (by omega)
        exact L3 _ 0 (g 23) (by omega) (fun j h0 h1 => absurd h1 (by omega)) (Nat.lt_succ_self _)
      ·
        refine g_aload_n C dX3_follow_8 rfl 0 rfl ?_
        refine gm_get22 C dX3_follow_9 ?_
        refine g_iload_n C dX3_follow_12 rfl 2 rfl ?_
        refine g_iconst C dX3_follow_13 ?_
        refine gm_ast22 C (g' := (ug g 22 (uI y22 k 0))) rfl dX3_follow_14 (by omega) ?_
        refine g_iinc C dX3_follow_15 2 rfl (lv' := [(0, .ref (h 36)), (1, .int (iI q)), (2, .int (iI (k + 1)))]) [1, 2, 0] rfl (Nat.le_of_ble_eq_true rfl) ?_
        refine g_goto C (tgt := 2) dX3_follow_18 (by decide) ?_
        exact ih1 (k + 1) (uI y22 k 0) (by omega) (uI_all (P := fun j y => y = 0) h22 rfl) (by omega)
  exact L1 _ 0 (g 22) (by omega) (fun j h0 h1 => absurd h1 (by omega)) (Nat.lt_succ_self _)

section MK
variable {p : Program} {l : Launch} {e : Env} {R : Room} {s : State} {mm : MethodId} {args : Array Value} {below : List Frame} {meth : Method} {c : Code} {cc : ByteArray} {nL : Nat} {ret : Option FieldType} {D : va_G} {A B : Nat → Prop} {cells slots : Nat} {Q : State → Prop} {pc : Nat} {lv : List (Nat × Value)} {st : List Value}
theorem kX3_X3_follow {h : Nat → Nat} {f : Nat → Int} {g : Nat → Int → Int} (q : Int) (C : CX p l s mm args meth c RX3 cc nL ret D A) (hF : 1 ≤ f 2 ∧ f 2 ≤ 5) (hS : 2 ≤ f 3 ∧ f 3 ≤ 6) (hkd : ∀ j, 0 ≤ j → j < 6 → 0 ≤ g 12 j ∧ g 12 j ≤ 3) (hth : ∀ j, 0 ≤ j → j < 5 → 1 ≤ g 10 j ∧ g 10 j ≤ 50) (hht : ∀ j, 0 ≤ j → j < 6 → 0 ≤ g 11 j ∧ g 11 j ≤ 400) (hnp : 0 ≤ f 8 ∧ f 8 ≤ 55) (hpt : ∀ j, 0 ≤ j → j < f 8 → (0 ≤ g 14 j ∧ g 14 j ≤ 4) ∧ (0 ≤ g 15 j ∧ g 15 j ≤ 5) ∧ (0 ≤ g 16 j ∧ g 16 j ≤ 2) ∧ (0 ≤ g 17 j ∧ g 17 j ≤ 1)) (hq : 0 ≤ q ∧ q < 8) (hPL : PLok (f 2) (f 3) (g 12) (g 19 q) (g 18 q) (fun k => g 20 (400 * q + k))) (hR : 3 + 1 ≤ R.frames ∧ 8 + (5 + 11) + 64 * 3 ≤ R.locals) (hcat : (st.map fun v => v.category).sum ≤ 8) (hroom : cells ≤ R.cells ∧ slots ≤ R.slots) (d : decode cc pc = .ok (.invokevirtual 184, 3)) (K : GO p l e R s mm args below meth c nL D A A cells slots Q (mW D h (up (up f 25 (fle (g 11) (g 10) (f 2) (f 3) (g 12) (g 19 q) (fun k => g 20 (400 * q + k)) (g 18 q))) 26 (plc (f 2) (f 3) (g 12) (g 19 q) (fun k => g 20 (400 * q + k)) (g 18 q))) (ug (ug (ug g 22 (fgo (f 8) (g 14) (g 15) (g 16) (f 2) (f 3) (g 12) (g 19 q) (fun k => g 20 (400 * q + k)) (g 18 q))) 23 (fho (f 2) (f 3) (g 12) (g 19 q) (fun k => g 20 (400 * q + k)) (g 18 q))) 24 (fti (f 2) (f 3) (g 12) (g 19 q) (fun k => g 20 (400 * q + k)) (g 18 q)))) (pc + 3) lv (st)) : GO p l e R s mm args below meth c nL D A A cells slots Q (mW D h f g) (pc) lv (.int (iI q) :: .ref (h 36) :: st) := by
  refine g_callVU C (c_X3_follow l D C.hl h f g q hF hS hkd hth hht hnp hpt hq hPL) (As := [.int (iI q)]) (n := 1) (lw_V q1220 q1222 qs38 q69 q1223) (by decide +kernel) rfl rfl hR (rcv C 0 rfl rfl rfl) rfl rfl hcat ⟨hroom.1, hroom.2⟩ d (wr := []) Sb.rf exT_b hex_t (fun v w hp => ?_) kx_nu
  obtain ⟨rfl, rfl⟩ := hp
  exact K 
end MK

end MC5
