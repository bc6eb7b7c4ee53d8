/-! ===== contracts of the class: settles ===== -/
/-- the least not done, of the first i -/
def BSt (V dn : Int → Int) (set i b : Int) : Prop := (b = -1 ∧ ∀ j, 0 ≤ j → j < i → dn j = 0 → 1000000000 ≤ V (60 * set + j)) ∨ ((0 ≤ b ∧ b < i) ∧ dn b = 0 ∧ V (60 * set + b) < 1000000000 ∧ ∀ j, 0 ≤ j → j < i → dn j = 0 → V (60 * set + b) ≤ V (60 * set + j))
theorem BSt_0 {V dn : Int → Int} {set : Int} : BSt V dn set 0 (-1) := Or.inl ⟨rfl, fun j h0 h1 => absurd h1 (by omega)⟩
theorem BSt_x {V dn : Int → Int} {set i b : Int} (h : BSt V dn set i b) (hx : dn i = 0 → 1000000000 ≤ V (60 * set + i) ∨ (b ≠ -1 ∧ V (60 * set + b) ≤ V (60 * set + i))) : BSt V dn set (i + 1) b := by
  rcases h with ⟨h1, h2⟩ | ⟨h1, h2, h3, h4⟩
  · refine Or.inl ⟨h1, fun j h0 h5 h6 => ?_⟩
    by_cases e : j = i
    · subst e; rcases hx h6 with q | q
      · exact q
      · exact absurd h1 q.1
    · exact h2 j h0 (by omega) h6
  · refine Or.inr ⟨⟨h1.1, by omega⟩, h2, h3, fun j h0 h5 h6 => ?_⟩
    by_cases e : j = i
    · subst e; rcases hx h6 with q | q
      · omega
      · exact q.2
    · exact h4 j h0 (by omega) h6
theorem BSt_y {V dn : Int → Int} {set i b : Int} (h : BSt V dn set i b) (h0 : 0 ≤ i) (hd : dn i = 0) (hv : V (60 * set + i) < 1000000000) (hx : b = -1 ∨ V (60 * set + i) < V (60 * set + b)) : BSt V dn set (i + 1) i := by
  refine Or.inr ⟨⟨h0, by omega⟩, hd, hv, fun j j0 j1 j2 => ?_⟩
  by_cases e : j = i
  · subst e; exact Int.le_refl _
  · rcases h with ⟨h1, h2⟩ | ⟨h1, h2, h3, h4⟩
    · have := h2 j j0 (by omega) j2; omega
    · have := h4 j j0 (by omega) j2
      rcases hx with hx | hx
      · omega
      · omega
theorem mvK_nn {LD LN CV V : Int → Int} {cl set : Int} {n : Nat} (hn : n ≤ 10) (hT : TBok n LD LN CV) (hs : 0 ≤ set ∧ set < 2 ^ n) {k : Int} (hk : 0 ≤ k ∧ k < 480) (hV : ∀ q, 0 ≤ q → q < 60 * 2 ^ n → 0 ≤ V q ∧ V q ≤ 1000000000) : 0 ≤ mvK 1000000000 1024 V LD LN CV cl set k ∧ mvK 1000000000 1024 V LD LN CV cl set k ≤ 1000411649 := by
  unfold mvK
  rcases nx_rg (cl := cl) hn hT hs hk with r | ⟨r1, r2, r3, r4, r5⟩
  · rw [if_pos r]; omega
  · rw [if_neg (by omega)]
    have := hV (60 * nxS LD CV cl set k + LD k) (by omega) (by omega)
    have h9 := ((hT k hk.1 hk.2).2 r1).1
    split <;> omega
theorem mvS_k {V ld co gp bt LN : Int → Int} {set k cl : Int} (hco : ld k ≠ -1 → co k = 1024 * LN k + 1) : mvS V ld co gp bt set (k / 8) (k % 8) cl = mvK 1000000000 1024 V ld LN (cvS gp bt) cl set k := by
  have e : 8 * (k / 8) + k % 8 = k := by omega
  have q9 := mvS_K (V := V) (ld := ld) (co := co) (gp := gp) (bt := bt) (LN := LN) (set := set) (p := k / 8) (m := k % 8) (cl := cl) (by rw [e]; exact hco)
  rw [e] at q9
  exact q9
theorem minI_le (a b : Int) : minI a b ≤ a ∧ minI a b ≤ b ∧ (minI a b = a ∨ minI a b = b) := by unfold minI; split <;> omega
section SC16
set_option maxHeartbeats 4000000 in
set_option maxRecDepth 100000 in
theorem c_X1_settles (l : Launch) (D : va_G) (hst : l.stackTraces = false) (h : Nat → Nat) (f : Nat → Int) (g : Nat → Int → Int) (N : Nat → Nat) (M : Nat → Nat → Nat) (T : va_W) (nb : Nat) (LN : Int → Int) (en set cl : Int) (hnp : 0 ≤ f 6 ∧ f 6 ≤ 55) (htb : ∀ j, 0 ≤ j → j < 480 → (-1 ≤ g 14 j ∧ g 14 j < 60) ∧ (-1 ≤ g 16 j ∧ g 16 j < f 6)) (hbt : ∀ j, 0 ≤ j → j < f 6 → -1 ≤ g 13 j ∧ g 13 j < 10) (hv : ∀ j, 0 ≤ j → j < 61440 → 0 ≤ g 12 j ∧ g 12 j ≤ 1000000000) (hco : ∀ j, 0 ≤ j → j < 480 → 0 ≤ g 15 j ∧ g 15 j ≤ 1000000) (hnb : nb ≤ 10) (hTB : TBok nb (g 14) LN (cvS (g 16) (g 13))) (hcost : ∀ k, 0 ≤ k → k < 480 → g 14 k ≠ -1 → g 15 k = 1024 * LN k + 1) (hCM : CMok (g 14) (g 17) (g 18)) (hse : 0 ≤ set ∧ set < 2 ^ nb) (hen : 0 ≤ en ∧ en < 60) (hcl : 0 ≤ cl ∧ cl ≤ 1) (hRK0 : RK 1000000000 1024 (g 14) LN (cvS (g 16) (g 13)) cl (2 ^ nb) en set (g 12)) : CT l D yX1_settles (ws_ yX1_settles cX1_settles 7 none) (rmD 2 0 0) (0) (0) va_A [.ref (h 0), .int (iI set), .int (iI cl)] (sW D h f g N M T) exT (pV fun w => ∃ y12 : Int → Int, ∃ y19 : Int → Int, (∀ j, 0 ≤ j → j < 61440 → 0 ≤ y12 j ∧ y12 j ≤ 1000000000) ∧ (RK 1000000000 1024 (g 14) LN (cvS (g 16) (g 13)) cl (2 ^ nb) en (set - 1) y12) ∧ w = sW D h f (ug (ug g 12 y12) 19 y19) N M T) (xN) := by
  refine ct_U (lv := [(0, .ref (h 0)), (1, .int (iI set)), (2, .int (iI cl))]) RX1 (by decide) rfl rfl hst (Nat.le_of_ble_eq_true rfl) rfl ?_
  intro p e s mm args below meth c A C htab hex hnm
  have hp2 := p2_le hnb
  refine g_iconst C dX1_settles_0 ?_
  refine g_istore_n C dX1_settles_1 rfl (lv' := [(0, .ref (h 0)), (1, .int (iI set)), (2, .int (iI cl)), (3, .int (iI 0))]) [1, 2, 3, 0] rfl (Nat.le_of_ble_eq_true rfl) ?_
  have L1 : ∀ (n : Nat) (a : Int) (y12 : Int → Int) (y19 : Int → Int), (0 ≤ a ∧ a ≤ 60) → (∀ j, 0 ≤ j → j < 61440 → 0 ≤ y12 j ∧ y12 j ≤ 1000000000) → (RK 1000000000 1024 (g 14) LN (cvS (g 16) (g 13)) cl (2 ^ nb) en set y12) → (UPk 1000000000 1024 y12 (g 14) LN (cvS (g 16) (g 13)) cl set (8 * a)) → (∀ j, 0 ≤ j → j < a → y19 j = 0) → (60 - a).toNat < n → GO p l e (rmD 2 0 0) s mm args below meth c 7 D A A 0 0 (MX below D A (pV fun w => ∃ y12 : Int → Int, ∃ y19 : Int → Int, (∀ j, 0 ≤ j → j < 61440 → 0 ≤ y12 j ∧ y12 j ≤ 1000000000) ∧ (RK 1000000000 1024 (g 14) LN (cvS (g 16) (g 13)) cl (2 ^ nb) en (set - 1) y12) ∧ w = sW D h f (ug (ug g 12 y12) 19 y19) N M T) (xN) args s (0) (0)) (sW D h f (ug (ug g 12 y12) 19 y19) N M T) 2 [(0, .ref (h 0)), (1, .int (iI set)), (2, .int (iI cl)), (3, .int (iI a))] [] := by
    intro n
    induction n with
    | zero => intro a y12 y19 ha hv hRK hU hz hm; exact absurd hm (Nat.not_lt_zero _)
    | succ n ih1 =>
      intro a y12 y19 ha hv hRK hU hz hm1
      refine g_iload_n C dX1_settles_2 rfl 3 rfl ?_
      refine g_bipush C dX1_settles_3 (z := 60) rfl ?_
      refine g_icmp_ge C (tgt := 88) dX1_settles_5 (by decide) (by omega) (by omega) (fun hc5_2 => ?_) (fun hc5_2 => ?_)
      ·
        have L3 : ∀ (n : Nat) (y12 : Int → Int) (y19 : Int → Int), (∀ j, 0 ≤ j → j < 61440 → 0 ≤ y12 j ∧ y12 j ≤ 1000000000) → (RK 1000000000 1024 (g 14) LN (cvS (g 16) (g 13)) cl (2 ^ nb) en set y12) → (UPk 1000000000 1024 y12 (g 14) LN (cvS (g 16) (g 13)) cl set 480) → (DNk 1000000000 1024 y12 (g 14) LN (cvS (g 16) (g 13)) y19 cl set) → (ORD y12 y19 set) → (d01 y19) → (ndn y19).toNat < n → GO p l e (rmD 2 0 0) s mm args below meth c 7 D A A 0 0 (MX below D A (pV fun w => ∃ y12 : Int → Int, ∃ y19 : Int → Int, (∀ j, 0 ≤ j → j < 61440 → 0 ≤ y12 j ∧ y12 j ≤ 1000000000) ∧ (RK 1000000000 1024 (g 14) LN (cvS (g 16) (g 13)) cl (2 ^ nb) en (set - 1) y12) ∧ w = sW D h f (ug (ug g 12 y12) 19 y19) N M T) (xN) args s (0) (0)) (sW D h f (ug (ug g 12 y12) 19 y19) N M T) 88 [(0, .ref (h 0)), (1, .int (iI set)), (2, .int (iI cl))] [] := by
          intro n
          induction n with
          | zero => intro y12 y19 hv hRK hU hD hO hd hm; exact absurd hm (Nat.not_lt_zero _)
          | succ n ih3 =>
            intro y12 y19 hv hRK hU hD hO hd hm3
            refine g_iconst C dX1_settles_88 ?_
            refine g_istore_n C dX1_settles_89 rfl (lv' := [(0, .ref (h 0)), (1, .int (iI set)), (2, .int (iI cl)), (3, .int (iI (-1)))]) [1, 2, 3, 0] rfl (Nat.le_of_ble_eq_true rfl) ?_
            refine g_iconst C dX1_settles_90 ?_
            refine g_istore C dX1_settles_91 (lv' := [(0, .ref (h 0)), (1, .int (iI set)), (2, .int (iI cl)), (3, .int (iI (-1))), (4, .int (iI 0))]) [1, 2, 3, 4, 0] rfl (Nat.le_of_ble_eq_true rfl) ?_
            have L4 : ∀ (n : Nat) (i : Int) (b : Int), (0 ≤ i ∧ i ≤ 60) → (BSt y12 y19 set i b) → (60 - i).toNat < n → GO p l e (rmD 2 0 0) s mm args below meth c 7 D A A 0 0 (MX below D A (pV fun w => ∃ y12 : Int → Int, ∃ y19 : Int → Int, (∀ j, 0 ≤ j → j < 61440 → 0 ≤ y12 j ∧ y12 j ≤ 1000000000) ∧ (RK 1000000000 1024 (g 14) LN (cvS (g 16) (g 13)) cl (2 ^ nb) en (set - 1) y12) ∧ w = sW D h f (ug (ug g 12 y12) 19 y19) N M T) (xN) args s (0) (0)) (sW D h f (ug (ug g 12 y12) 19 y19) N M T) 93 [(0, .ref (h 0)), (1, .int (iI set)), (2, .int (iI cl)), (3, .int (iI b)), (4, .int (iI i))] [] := by
              intro n
              induction n with
              | zero => intro i b hi hbs hm; exact absurd hm (Nat.not_lt_zero _)
              | succ n ih4 =>
                intro i b hi hbs hm4
                have hbr9 : b = -1 ∨ (0 ≤ b ∧ b < i) := hbs.elim (fun q => Or.inl q.1) (fun q => Or.inr q.1)
                refine g_iload C dX1_settles_93 4 rfl ?_
                refine g_bipush C dX1_settles_95 (z := 60) rfl ?_
                refine g_icmp_ge C (tgt := 167) dX1_settles_97 (by decide) (by omega) (by omega) (fun hc97_5 => ?_) (fun hc97_5 => ?_)
                ·
                  refine g_iload_n C dX1_settles_167 rfl 3 rfl ?_
                  refine g_iconst C dX1_settles_168 ?_
                  refine g_icmp_ne C (tgt := 173) dX1_settles_169 (by decide) (by omega) (by omega) (fun hc169_6 => ?_) (fun hc169_6 => ?_)
                  ·
                    have hbs2 := hbs.elim (fun q => absurd q.1 (by omega)) (fun q => q.2)
                    have hcb := hCM b (by omega) (by omega)
                    refine g_aload_n C dX1_settles_173 rfl 0 rfl ?_
                    refine gs_get19 C dX1_settles_174 ?_
                    refine g_iload_n C dX1_settles_177 rfl 3 rfl ?_
                    refine g_iconst C dX1_settles_178 ?_
                    refine gs_ast19 C (g' := (ug (ug g 12 y12) 19 (uI y19 b 1))) rfl dX1_settles_179 (by omega) rfl ?_
                    refine g_iconst C dX1_settles_180 ?_
                    refine g_istore C dX1_settles_181 (lv' := [(0, .ref (h 0)), (1, .int (iI set)), (2, .int (iI cl)), (3, .int (iI b)), (4, .int (iI 0))]) [1, 2, 3, 4, 0] rfl (Nat.le_of_ble_eq_true rfl) ?_
                    have L7 : ∀ (n : Nat) (i : Int) (y12 : Int → Int), (0 ≤ i ∧ i ≤ g 18 b) → (∀ j, 0 ≤ j → j < 61440 → 0 ≤ y12 j ∧ y12 j ≤ 1000000000) → (RK 1000000000 1024 (g 14) LN (cvS (g 16) (g 13)) cl (2 ^ nb) en set y12) → (UPk 1000000000 1024 y12 (g 14) LN (cvS (g 16) (g 13)) cl set 480) → (∀ k, 0 ≤ k → k < 480 → nxS (g 14) (cvS (g 16) (g 13)) cl set k = set → g 14 k ≠ b → (uI y19 b 1) (g 14 k) = 1 → y12 (60 * set + k / 8) ≤ mvK 1000000000 1024 y12 (g 14) LN (cvS (g 16) (g 13)) cl set k) → (ORD y12 (uI y19 b 1) set) → (∀ x, 0 ≤ x → x < 60 → (uI y19 b 1) x = 1 → y12 (60 * set + x) ≤ y12 (60 * set + b)) → (RLb 1000000000 1024 y12 (g 14) LN (cvS (g 16) (g 13)) (g 17) cl set b i) → (g 18 b - i).toNat < n → GO p l e (rmD 2 0 0) s mm args below meth c 7 D A A 0 0 (MX below D A (pV fun w => ∃ y12 : Int → Int, ∃ y19 : Int → Int, (∀ j, 0 ≤ j → j < 61440 → 0 ≤ y12 j ∧ y12 j ≤ 1000000000) ∧ (RK 1000000000 1024 (g 14) LN (cvS (g 16) (g 13)) cl (2 ^ nb) en (set - 1) y12) ∧ w = sW D h f (ug (ug g 12 y12) 19 y19) N M T) (xN) args s (0) (0)) (sW D h f (ug (ug g 12 y12) 19 (uI y19 b 1)) N M T) 183 [(0, .ref (h 0)), (1, .int (iI set)), (2, .int (iI cl)), (3, .int (iI b)), (4, .int (iI i))] [] := by
                      intro n
                      induction n with
                      | zero => intro i y12 hi hv hRK hU hDb hO hTp hL hm; exact absurd hm (Nat.not_lt_zero _)
                      | succ n ih7 =>
                        intro i y12 hi hv hRK hU hDb hO hTp hL hm7
                        refine g_iload C dX1_settles_183 4 rfl ?_
                        refine g_aload_n C dX1_settles_185 rfl 0 rfl ?_
                        refine gs_get18 C dX1_settles_186 ?_
                        refine g_iload_n C dX1_settles_189 rfl 3 rfl ?_
                        refine gs_ald18 C (v := (g 18) b) rfl dX1_settles_190 (by omega) ?_
                        refine g_icmp_ge C (tgt := 283) dX1_settles_191 (by decide) (by omega) (by omega) (fun hc191_8 => ?_) (fun hc191_8 => ?_)
                        ·
                          refine g_goto C (tgt := 88) dX1_settles_283 (by decide) ?_
                          refine g_lv [0, 1, 2] rfl ?_
                          exact ih3 y12 (uI y19 b 1) hv hRK hU (DNk_b hCM ⟨by omega, by omega⟩ hDb (by rw [show g 18 b = i by omega]; exact hL)) hO (d01_u hd) (by have q9 := ndn_lt (dn := y19) (b := b) ⟨by omega, by omega⟩ hbs2.1; have q8 := ndn_rg (uI y19 b 1); omega)
                        ·
                          refine g_aload_n C dX1_settles_194 rfl 0 rfl ?_
                          refine gs_get17 C dX1_settles_195 ?_
                          refine g_bipush C dX1_settles_198 (z := 8) rfl ?_
                          refine g_iload_n C dX1_settles_200 rfl 3 rfl ?_
                          refine g_imul C dX1_settles_201 ?_
                          refine g_iload C dX1_settles_202 4 rfl ?_
                          refine g_iadd C dX1_settles_204 ?_
                          refine gs_ald17 C (v := (g 17) ((8 * b) + i)) rfl dX1_settles_205 (by omega) ?_
                          refine g_istore C dX1_settles_206 (lv' := [(0, .ref (h 0)), (1, .int (iI set)), (2, .int (iI cl)), (3, .int (iI b)), (4, .int (iI i)), (5, .int (iI ((g 17) ((8 * b) + i))))]) [1, 2, 3, 4, 5, 0] rfl (Nat.le_of_ble_eq_true rfl) ?_
                          have hkr := hcb.2.1 i hi.1 (by omega)
                          have hdk : (uI y19 b 1) (g 17 (8 * b + i) / 8) = 0 ∨ (uI y19 b 1) (g 17 (8 * b + i) / 8) = 1 := d01_u hd _ (by omega) (by omega)
                          refine g_iload C dX1_settles_208 5 rfl ?_
                          refine g_bipush C dX1_settles_210 (z := 8) rfl ?_
                          refine g_idiv C dX1_settles_212 (by omega) (by omega) ?_
                          refine g_istore C dX1_settles_213 (lv' := [(0, .ref (h 0)), (1, .int (iI set)), (2, .int (iI cl)), (3, .int (iI b)), (4, .int (iI i)), (5, .int (iI ((g 17) ((8 * b) + i)))), (6, .int (iI (((g 17) ((8 * b) + i)) / 8)))]) [1, 2, 3, 4, 5, 6, 0] rfl (Nat.le_of_ble_eq_true rfl) ?_
                          refine g_aload_n C dX1_settles_215 rfl 0 rfl ?_
                          refine gs_get19 C dX1_settles_216 ?_
                          refine g_iload C dX1_settles_219 6 rfl ?_
                          refine gs_ald19 C (v := (uI y19 b 1) (((g 17) ((8 * b) + i)) / 8)) rfl dX1_settles_221 (by omega) ?_
                          refine g_if_ne C (tgt := 277) dX1_settles_222 (by decide) (by omega) (fun hc222_9 => ?_) (fun hc222_9 => ?_)
                          ·
                            refine g_iinc C dX1_settles_277 4 rfl (lv' := [(0, .ref (h 0)), (1, .int (iI set)), (2, .int (iI cl)), (3, .int (iI b)), (4, .int (iI (i + 1))), (5, .int (iI ((g 17) ((8 * b) + i)))), (6, .int (iI (((g 17) ((8 * b) + i)) / 8)))]) [1, 2, 3, 4, 0, 5, 6] rfl (Nat.le_of_ble_eq_true rfl) ?_
                            refine g_goto C (tgt := 183) dX1_settles_280 (by decide) ?_
                            refine g_lv [0, 1, 2, 3, 4] rfl ?_
                            exact ih7 (i + 1) y12 (by omega) hv hRK hU hDb hO hTp (RLb_d (by omega) hnb hTB hse (by omega) hkr.1 hkr.2 rfl hRK.1 hTp hL (by first | exact Or.inl (by omega) | exact Or.inr (by rw [← hbx]; omega))) (by omega)
                          ·
                            have hbx : bhS (g 14) (g 16) (g 13) set (g 17 (8 * b + i)) cl = nxS (g 14) (cvS (g 16) (g 13)) cl set (g 17 (8 * b + i)) := rfl
                            have hnx := nx_rg (cl := cl) hnb hTB hse (k := g 17 (8 * b + i)) hkr.1
                            refine g_aload_n C dX1_settles_225 rfl 0 rfl ?_
                            refine g_iload_n C dX1_settles_226 rfl 1 rfl ?_
                            refine g_iload C dX1_settles_227 5 rfl ?_
                            refine g_iload_n C dX1_settles_229 rfl 2 rfl ?_
                            refine kX1_X1_behind h f (ug (ug g 12 y12) 19 (uI y19 b 1)) N M T set ((g 17) ((8 * b) + i)) cl C hnp htb hbt (by omega) (by omega) hcl ⟨Nat.le_of_ble_eq_true rfl, Nat.le_of_ble_eq_true rfl⟩ (Nat.le_of_ble_eq_true rfl) ⟨Nat.le_of_ble_eq_true rfl, Nat.le_of_ble_eq_true rfl⟩ (rv := bhS (g 14) (g 16) (g 13) set ((g 17) ((8 * b) + i)) cl) rfl Sb.rf dX1_settles_230 ?_
                            refine g_iload_n C dX1_settles_233 rfl 1 rfl ?_
                            refine g_icmp_ne C (tgt := 277) dX1_settles_234 (by decide) (by omega) (by omega) (fun hc234_10 => ?_) (fun hc234_10 => ?_)
                            ·
                              refine g_iinc C dX1_settles_277 4 rfl (lv' := [(0, .ref (h 0)), (1, .int (iI set)), (2, .int (iI cl)), (3, .int (iI b)), (4, .int (iI (i + 1))), (5, .int (iI ((g 17) ((8 * b) + i)))), (6, .int (iI (((g 17) ((8 * b) + i)) / 8)))]) [1, 2, 3, 4, 0, 5, 6] rfl (Nat.le_of_ble_eq_true rfl) ?_
                              refine g_goto C (tgt := 183) dX1_settles_280 (by decide) ?_
                              refine g_lv [0, 1, 2, 3, 4] rfl ?_
                              exact ih7 (i + 1) y12 (by omega) hv hRK hU hDb hO hTp (RLb_d (by omega) hnb hTB hse (by omega) hkr.1 hkr.2 rfl hRK.1 hTp hL (by first | exact Or.inl (by omega) | exact Or.inr (by rw [← hbx]; omega))) (by omega)
                            ·
                              have hmv : mvS y12 (g 14) (g 15) (g 16) (g 13) set (g 17 (8 * b + i) / 8) (g 17 (8 * b + i) % 8) cl = mvK 1000000000 1024 y12 (g 14) LN (cvS (g 16) (g 13)) cl set (g 17 (8 * b + i)) := mvS_k (hcost _ hkr.1.1 hkr.1.2)
                              have hmk := mvK_nn (cl := cl) hnb hTB hse (k := g 17 (8 * b + i)) hkr.1 hRK.1
                              refine g_aload_n C dX1_settles_237 rfl 0 rfl ?_
                              refine gs_get12 C dX1_settles_238 ?_
                              refine g_bipush C dX1_settles_241 (z := 60) rfl ?_
                              refine g_iload_n C dX1_settles_243 rfl 1 rfl ?_
                              refine g_imul C dX1_settles_244 ?_
                              refine g_iload C dX1_settles_245 6 rfl ?_
                              refine g_iadd C dX1_settles_247 ?_
                              refine g_aload_n C dX1_settles_248 rfl 0 rfl ?_
                              refine gs_get12 C dX1_settles_249 ?_
                              refine g_bipush C dX1_settles_252 (z := 60) rfl ?_
                              refine g_iload_n C dX1_settles_254 rfl 1 rfl ?_
                              refine g_imul C dX1_settles_255 ?_
                              refine g_iload C dX1_settles_256 6 rfl ?_
                              refine g_iadd C dX1_settles_258 ?_
                              refine gs_ald12 C (v := y12 ((60 * set) + (((g 17) ((8 * b) + i)) / 8))) rfl dX1_settles_259 (by omega) ?_
                              have hf11 := hv ((60 * set) + (((g 17) ((8 * b) + i)) / 8)) (by omega) (by omega)
                              refine g_aload_n C dX1_settles_260 rfl 0 rfl ?_
                              refine g_iload_n C dX1_settles_261 rfl 1 rfl ?_
                              refine g_iload C dX1_settles_262 6 rfl ?_
                              refine g_iload C dX1_settles_264 5 rfl ?_
                              refine g_bipush C dX1_settles_266 (z := 8) rfl ?_
                              refine g_irem C dX1_settles_268 (by omega) (by omega) ?_
                              refine g_iload_n C dX1_settles_269 rfl 2 rfl ?_
                              refine kX1_X1_byMove h f (ug (ug g 12 y12) 19 (uI y19 b 1)) N M T set (((g 17) ((8 * b) + i)) / 8) (((g 17) ((8 * b) + i)) % 8) cl C hnp htb hbt hv hco (by omega) (by omega) (by omega) hcl ⟨Nat.le_of_ble_eq_true rfl, Nat.le_of_ble_eq_true rfl⟩ (Nat.le_of_ble_eq_true rfl) ⟨Nat.le_of_ble_eq_true rfl, Nat.le_of_ble_eq_true rfl⟩ (rv := mvS (y12) (g 14) (g 15) (g 16) (g 13) set (((g 17) ((8 * b) + i)) / 8) (((g 17) ((8 * b) + i)) % 8) cl) rfl Sb.rf dX1_settles_270 ?_
                              refine g_mmin C (x := y12 ((60 * set) + (((g 17) ((8 * b) + i)) / 8))) (y := mvS (y12) (g 14) (g 15) (g 16) (g 13) set (((g 17) ((8 * b) + i)) / 8) (((g 17) ((8 * b) + i)) % 8) cl) (z := minI (y12 ((60 * set) + (((g 17) ((8 * b) + i)) / 8))) (mvS (y12) (g 14) (g 15) (g 16) (g 13) set (((g 17) ((8 * b) + i)) / 8) (((g 17) ((8 * b) + i)) % 8) cl)) q962 ⟨q216, q61, q217⟩ (by omega) (by omega) (by unfold minI; split <;> split <;> omega) (Nat.le_of_ble_eq_true rfl) (Nat.le_of_ble_eq_true rfl) ⟨Nat.le_of_ble_eq_true rfl, Nat.le_of_ble_eq_true rfl⟩ dX1_settles_273 ?_
                              have hmn := minI_le (y12 ((60 * set) + (((g 17) ((8 * b) + i)) / 8))) (mvS (y12) (g 14) (g 15) (g 16) (g 13) set (((g 17) ((8 * b) + i)) / 8) (((g 17) ((8 * b) + i)) % 8) cl)
                              refine gs_ast12 C (g' := (ug (ug g 12 (uI y12 ((60 * set) + (((g 17) ((8 * b) + i)) / 8)) (minI (y12 ((60 * set) + (((g 17) ((8 * b) + i)) / 8))) (mvS (y12) (g 14) (g 15) (g 16) (g 13) set (((g 17) ((8 * b) + i)) / 8) (((g 17) ((8 * b) + i)) % 8) cl)))) 19 (uI y19 b 1))) rfl dX1_settles_276 (by omega) ?_
                              refine g_iinc C dX1_settles_277 4 rfl (lv' := [(0, .ref (h 0)), (1, .int (iI set)), (2, .int (iI cl)), (3, .int (iI b)), (4, .int (iI (i + 1))), (5, .int (iI ((g 17) ((8 * b) + i)))), (6, .int (iI (((g 17) ((8 * b) + i)) / 8)))]) [1, 2, 3, 4, 0, 5, 6] rfl (Nat.le_of_ble_eq_true rfl) ?_
                              refine g_goto C (tgt := 183) dX1_settles_280 (by decide) ?_
                              refine g_lv [0, 1, 2, 3, 4] rfl ?_
                              exact ih7 (i + 1) (uI y12 ((60 * set) + (((g 17) ((8 * b) + i)) / 8)) (minI (y12 ((60 * set) + (((g 17) ((8 * b) + i)) / 8))) (mvS (y12) (g 14) (g 15) (g 16) (g 13) set (((g 17) ((8 * b) + i)) / 8) (((g 17) ((8 * b) + i)) % 8) cl))) (by omega) (fun j h0 h1 => by have hvj := hv j h0 h1; unfold uI; split; (constructor; (rcases hmn.2.2 with e9 | e9 <;> omega); omega); exact hvj) (by have h9 := rl_step (by omega) (by omega) hnb hTB hse hen ⟨by omega, by omega⟩ uI_s hi.1 hkr.1 hkr.2 rfl (by omega) (by rw [← hbx]; omega) (show minI (y12 (60 * set + g 17 (8 * b + i) / 8)) (mvS y12 (g 14) (g 15) (g 16) (g 13) set (g 17 (8 * b + i) / 8) (g 17 (8 * b + i) % 8) cl) = minI (y12 (60 * set + g 17 (8 * b + i) / 8)) (mvK 1000000000 1024 y12 (g 14) LN (cvS (g 16) (g 13)) cl set (g 17 (8 * b + i))) by rw [hmv]) hRK hU hDb hO hTp hL (fun j j0 j1 => (hcb.2.1 j j0 (by omega)).2); exact h9.1) (by have h9 := rl_step (by omega) (by omega) hnb hTB hse hen ⟨by omega, by omega⟩ uI_s hi.1 hkr.1 hkr.2 rfl (by omega) (by rw [← hbx]; omega) (show minI (y12 (60 * set + g 17 (8 * b + i) / 8)) (mvS y12 (g 14) (g 15) (g 16) (g 13) set (g 17 (8 * b + i) / 8) (g 17 (8 * b + i) % 8) cl) = minI (y12 (60 * set + g 17 (8 * b + i) / 8)) (mvK 1000000000 1024 y12 (g 14) LN (cvS (g 16) (g 13)) cl set (g 17 (8 * b + i))) by rw [hmv]) hRK hU hDb hO hTp hL (fun j j0 j1 => (hcb.2.1 j j0 (by omega)).2); exact h9.2.1) (by have h9 := rl_step (by omega) (by omega) hnb hTB hse hen ⟨by omega, by omega⟩ uI_s hi.1 hkr.1 hkr.2 rfl (by omega) (by rw [← hbx]; omega) (show minI (y12 (60 * set + g 17 (8 * b + i) / 8)) (mvS y12 (g 14) (g 15) (g 16) (g 13) set (g 17 (8 * b + i) / 8) (g 17 (8 * b + i) % 8) cl) = minI (y12 (60 * set + g 17 (8 * b + i) / 8)) (mvK 1000000000 1024 y12 (g 14) LN (cvS (g 16) (g 13)) cl set (g 17 (8 * b + i))) by rw [hmv]) hRK hU hDb hO hTp hL (fun j j0 j1 => (hcb.2.1 j j0 (by omega)).2); exact h9.2.2.1) (by have h9 := rl_step (by omega) (by omega) hnb hTB hse hen ⟨by omega, by omega⟩ uI_s hi.1 hkr.1 hkr.2 rfl (by omega) (by rw [← hbx]; omega) (show minI (y12 (60 * set + g 17 (8 * b + i) / 8)) (mvS y12 (g 14) (g 15) (g 16) (g 13) set (g 17 (8 * b + i) / 8) (g 17 (8 * b + i) % 8) cl) = minI (y12 (60 * set + g 17 (8 * b + i) / 8)) (mvK 1000000000 1024 y12 (g 14) LN (cvS (g 16) (g 13)) cl set (g 17 (8 * b + i))) by rw [hmv]) hRK hU hDb hO hTp hL (fun j j0 j1 => (hcb.2.1 j j0 (by omega)).2); exact h9.2.2.2.1) (by have h9 := rl_step (by omega) (by omega) hnb hTB hse hen ⟨by omega, by omega⟩ uI_s hi.1 hkr.1 hkr.2 rfl (by omega) (by rw [← hbx]; omega) (show minI (y12 (60 * set + g 17 (8 * b + i) / 8)) (mvS y12 (g 14) (g 15) (g 16) (g 13) set (g 17 (8 * b + i) / 8) (g 17 (8 * b + i) % 8) cl) = minI (y12 (60 * set + g 17 (8 * b + i) / 8)) (mvK 1000000000 1024 y12 (g 14) LN (cvS (g 16) (g 13)) cl set (g 17 (8 * b + i))) by rw [hmv]) hRK hU hDb hO hTp hL (fun j j0 j1 => (hcb.2.1 j j0 (by omega)).2); exact h9.2.2.2.2.1) (by have h9 := rl_step (by omega) (by omega) hnb hTB hse hen ⟨by omega, by omega⟩ uI_s hi.1 hkr.1 hkr.2 rfl (by omega) (by rw [← hbx]; omega) (show minI (y12 (60 * set + g 17 (8 * b + i) / 8)) (mvS y12 (g 14) (g 15) (g 16) (g 13) set (g 17 (8 * b + i) / 8) (g 17 (8 * b + i) % 8) cl) = minI (y12 (60 * set + g 17 (8 * b + i) / 8)) (mvK 1000000000 1024 y12 (g 14) LN (cvS (g 16) (g 13)) cl set (g 17 (8 * b + i))) by rw [hmv]) hRK hU hDb hO hTp hL (fun j j0 j1 => (hcb.2.1 j j0 (by omega)).2); exact h9.2.2.2.2.2.1) (by omega)
                    exact L7 _ 0 y12 (by omega) hv hRK hU (DNk_ex hD) (ORD_b hd hO ⟨by omega, by omega⟩ hbs2.1 (fun j h0 h1 => hbs2.2.2 j h0 (by omega))) (ORD_top hd hO ⟨by omega, by omega⟩ hbs2.1) (fun j h0 h1 => absurd h1 (by omega)) (Nat.lt_succ_self _)
                  ·
                    have hbe : b = -1 := by omega
                    have hbs3 := hbs.elim (fun q => q.2) (fun q => absurd q.1 (by omega))
                    exact g_vret C dX1_settles_172 (Nat.le_of_ble_eq_true rfl) (Nat.le_of_ble_eq_true rfl) ⟨rfl, y12, y19, hv, (lay_end hnb hTB hse hd hRK hU hD (fun j h0 h1 => hbs3 j h0 (by omega))), rfl⟩
                ·
                  have hdi := hd i hi.1 (by omega)
                  refine g_aload_n C dX1_settles_100 rfl 0 rfl ?_
                  refine gs_get19 C dX1_settles_101 ?_
                  refine g_iload C dX1_settles_104 4 rfl ?_
                  refine gs_ald19 C (v := y19 i) rfl dX1_settles_106 (by omega) ?_
                  refine g_if_ne C (tgt := 161) dX1_settles_107 (by decide) (by omega) (fun hc107_12 => ?_) (fun hc107_12 => ?_)
                  ·
                    refine g_iinc C dX1_settles_161 4 rfl (lv' := [(0, .ref (h 0)), (1, .int (iI set)), (2, .int (iI cl)), (3, .int (iI b)), (4, .int (iI (i + 1)))]) [1, 2, 3, 4, 0] rfl (Nat.le_of_ble_eq_true rfl) ?_
                    refine g_goto C (tgt := 93) dX1_settles_164 (by decide) ?_
                    exact ih4 (i + 1) b (by omega) (BSt_x hbs (fun q9 => by first | omega | exact Or.inl (by omega) | exact Or.inr ⟨by omega, by omega⟩)) (by omega)
                  ·
                    refine g_aload_n C dX1_settles_110 rfl 0 rfl ?_
                    refine gs_get12 C dX1_settles_111 ?_
                    refine g_bipush C dX1_settles_114 (z := 60) rfl ?_
                    refine g_iload_n C dX1_settles_116 rfl 1 rfl ?_
                    refine g_imul C dX1_settles_117 ?_
                    refine g_iload C dX1_settles_118 4 rfl ?_
                    refine g_iadd C dX1_settles_120 ?_
                    refine gs_ald12 C (v := y12 ((60 * set) + i)) rfl dX1_settles_121 (by omega) ?_
                    have hf13 := hv ((60 * set) + i) (by omega) (by omega)
                    refine g_ldc C q953 dX1_settles_122 (z := 1000000000) rfl ?_
                    refine g_icmp_ge C (tgt := 161) dX1_settles_124 (by decide) (by omega) (by omega) (fun hc124_14 => ?_) (fun hc124_14 => ?_)
                    ·
                      refine g_iinc C dX1_settles_161 4 rfl (lv' := [(0, .ref (h 0)), (1, .int (iI set)), (2, .int (iI cl)), (3, .int (iI b)), (4, .int (iI (i + 1)))]) [1, 2, 3, 4, 0] rfl (Nat.le_of_ble_eq_true rfl) ?_
                      refine g_goto C (tgt := 93) dX1_settles_164 (by decide) ?_
                      exact ih4 (i + 1) b (by omega) (BSt_x hbs (fun q9 => by first | omega | exact Or.inl (by omega) | exact Or.inr ⟨by omega, by omega⟩)) (by omega)
                    ·
                      refine g_iload_n C dX1_settles_127 rfl 3 rfl ?_
                      refine g_iconst C dX1_settles_128 ?_
                      refine g_icmp_eq C (tgt := 158) dX1_settles_129 (by decide) (by omega) (by omega) (fun hc129_15 => ?_) (fun hc129_15 => ?_)
                      ·
                        refine g_iload C dX1_settles_158 4 rfl ?_
                        refine g_istore_n C dX1_settles_160 rfl (lv' := [(0, .ref (h 0)), (1, .int (iI set)), (2, .int (iI cl)), (3, .int (iI i)), (4, .int (iI i))]) [1, 2, 3, 0, 4] rfl (Nat.le_of_ble_eq_true rfl) ?_
                        refine g_iinc C dX1_settles_161 4 rfl (lv' := [(0, .ref (h 0)), (1, .int (iI set)), (2, .int (iI cl)), (3, .int (iI i)), (4, .int (iI (i + 1)))]) [1, 2, 3, 4, 0] rfl (Nat.le_of_ble_eq_true rfl) ?_
                        refine g_goto C (tgt := 93) dX1_settles_164 (by decide) ?_
                        exact ih4 (i + 1) i (by omega) (BSt_y hbs hi.1 (by omega) (by omega) (by first | exact Or.inl (by omega) | exact Or.inr (by omega))) (by omega)
                      ·
                        refine g_aload_n C dX1_settles_132 rfl 0 rfl ?_
                        refine gs_get12 C dX1_settles_133 ?_
                        refine g_bipush C dX1_settles_136 (z := 60) rfl ?_
                        refine g_iload_n C dX1_settles_138 rfl 1 rfl ?_
                        refine g_imul C dX1_settles_139 ?_
                        refine g_iload C dX1_settles_140 4 rfl ?_
                        refine g_iadd C dX1_settles_142 ?_
                        refine gs_ald12 C (v := y12 ((60 * set) + i)) rfl dX1_settles_143 (by omega) ?_
                        have hf16 := hv ((60 * set) + i) (by omega) (by omega)
                        refine g_aload_n C dX1_settles_144 rfl 0 rfl ?_
                        refine gs_get12 C dX1_settles_145 ?_
                        refine g_bipush C dX1_settles_148 (z := 60) rfl ?_
                        refine g_iload_n C dX1_settles_150 rfl 1 rfl ?_
                        refine g_imul C dX1_settles_151 ?_
                        refine g_iload_n C dX1_settles_152 rfl 3 rfl ?_
                        refine g_iadd C dX1_settles_153 ?_
                        refine gs_ald12 C (v := y12 ((60 * set) + b)) rfl dX1_settles_154 (by omega) ?_
                        have hf17 := hv ((60 * set) + b) (by omega) (by omega)
                        refine g_icmp_ge C (tgt := 161) dX1_settles_155 (by decide) (by omega) (by omega) (fun hc155_18 => ?_) (fun hc155_18 => ?_)
                        ·
                          refine g_iinc C dX1_settles_161 4 rfl (lv' := [(0, .ref (h 0)), (1, .int (iI set)), (2, .int (iI cl)), (3, .int (iI b)), (4, .int (iI (i + 1)))]) [1, 2, 3, 4, 0] rfl (Nat.le_of_ble_eq_true rfl) ?_
                          refine g_goto C (tgt := 93) dX1_settles_164 (by decide) ?_
                          exact ih4 (i + 1) b (by omega) (BSt_x hbs (fun q9 => by first | omega | exact Or.inl (by omega) | exact Or.inr ⟨by omega, by omega⟩)) (by omega)
                        ·
                          refine g_iload C dX1_settles_158 4 rfl ?_
                          refine g_istore_n C dX1_settles_160 rfl (lv' := [(0, .ref (h 0)), (1, .int (iI set)), (2, .int (iI cl)), (3, .int (iI i)), (4, .int (iI i))]) [1, 2, 3, 0, 4] rfl (Nat.le_of_ble_eq_true rfl) ?_
                          refine g_iinc C dX1_settles_161 4 rfl (lv' := [(0, .ref (h 0)), (1, .int (iI set)), (2, .int (iI cl)), (3, .int (iI i)), (4, .int (iI (i + 1)))]) [1, 2, 3, 4, 0] rfl (Nat.le_of_ble_eq_true rfl) ?_
                          refine g_goto C (tgt := 93) dX1_settles_164 (by decide) ?_
                          exact ih4 (i + 1) i (by omega) (BSt_y hbs hi.1 (by omega) (by omega) (by first | exact Or.inl (by omega) | exact Or.inr (by omega))) (by omega)
            exact L4 _ 0 (-1) (by omega) BSt_0 (Nat.lt_succ_self _)
        refine g_lv [0, 1, 2] rfl ?_
        exact L3 _ y12 y19 hv hRK (by rw [show 480 = 8 * a by omega]; exact hU) (DNk_z (fun j h0 h1 => hz j h0 (by omega)) hnb hTB hse) (ORD_z (fun j h0 h1 => hz j h0 (by omega))) (fun j h0 h1 => Or.inl (hz j h0 (by omega))) (Nat.lt_succ_self _)
      ·
        refine g_aload_n C dX1_settles_8 rfl 0 rfl ?_
        refine gs_get19 C dX1_settles_9 ?_
        refine g_iload_n C dX1_settles_12 rfl 3 rfl ?_
        refine g_iconst C dX1_settles_13 ?_
        refine gs_ast19 C (g' := (ug (ug g 12 y12) 19 (uI y19 a 0))) rfl dX1_settles_14 (by omega) rfl ?_
        refine g_iconst C dX1_settles_15 ?_
        refine g_istore C dX1_settles_16 (lv' := [(0, .ref (h 0)), (1, .int (iI set)), (2, .int (iI cl)), (3, .int (iI a)), (4, .int (iI 0))]) [1, 2, 3, 4, 0] rfl (Nat.le_of_ble_eq_true rfl) ?_
        have L19 : ∀ (n : Nat) (m : Int) (y12 : Int → Int), (0 ≤ m ∧ m ≤ 8) → (∀ j, 0 ≤ j → j < 61440 → 0 ≤ y12 j ∧ y12 j ≤ 1000000000) → (RK 1000000000 1024 (g 14) LN (cvS (g 16) (g 13)) cl (2 ^ nb) en set y12) → (UPk 1000000000 1024 y12 (g 14) LN (cvS (g 16) (g 13)) cl set (8 * a + m)) → (8 - m).toNat < n → GO p l e (rmD 2 0 0) s mm args below meth c 7 D A A 0 0 (MX below D A (pV fun w => ∃ y12 : Int → Int, ∃ y19 : Int → Int, (∀ j, 0 ≤ j → j < 61440 → 0 ≤ y12 j ∧ y12 j ≤ 1000000000) ∧ (RK 1000000000 1024 (g 14) LN (cvS (g 16) (g 13)) cl (2 ^ nb) en (set - 1) y12) ∧ w = sW D h f (ug (ug g 12 y12) 19 y19) N M T) (xN) args s (0) (0)) (sW D h f (ug (ug g 12 y12) 19 (uI y19 a 0)) N M T) 18 [(0, .ref (h 0)), (1, .int (iI set)), (2, .int (iI cl)), (3, .int (iI a)), (4, .int (iI m))] [] := by
          intro n
          induction n with
          | zero => intro m y12 hm hv hRK hU2 hm; exact absurd hm (Nat.not_lt_zero _)
          | succ n ih19 =>
            intro m y12 hm hv hRK hU2 hm19
            refine g_iload C dX1_settles_18 4 rfl ?_
            refine g_bipush C dX1_settles_20 (z := 8) rfl ?_
            refine g_icmp_ge C (tgt := 82) dX1_settles_22 (by decide) (by omega) (by omega) (fun hc22_20 => ?_) (fun hc22_20 => ?_)
            ·
              refine g_iinc C dX1_settles_82 3 rfl (lv' := [(0, .ref (h 0)), (1, .int (iI set)), (2, .int (iI cl)), (3, .int (iI (a + 1))), (4, .int (iI m))]) [1, 2, 3, 0, 4] rfl (Nat.le_of_ble_eq_true rfl) ?_
              refine g_goto C (tgt := 2) dX1_settles_85 (by decide) ?_
              refine g_lv [0, 1, 2, 3] rfl ?_
              exact ih1 (a + 1) y12 (uI y19 a 0) (by omega) hv hRK (by rw [show 8 * (a + 1) = 8 * a + m by omega]; exact hU2) (uI_all (P := fun j y => y = 0) hz rfl) (by omega)
            ·
              have hk8 : (8 * a + m) / 8 = a := by omega
              have hkm : (8 * a + m) % 8 = m := by omega
              have hbx : bhS (g 14) (g 16) (g 13) set (8 * a + m) cl = nxS (g 14) (cvS (g 16) (g 13)) cl set (8 * a + m) := rfl
              have hnx := nx_rg (cl := cl) hnb hTB hse (k := 8 * a + m) ⟨by omega, by omega⟩
              refine g_aload_n C dX1_settles_25 rfl 0 rfl ?_
              refine g_iload_n C dX1_settles_26 rfl 1 rfl ?_
              refine g_bipush C dX1_settles_27 (z := 8) rfl ?_
              refine g_iload_n C dX1_settles_29 rfl 3 rfl ?_
              refine g_imul C dX1_settles_30 ?_
              refine g_iload C dX1_settles_31 4 rfl ?_
              refine g_iadd C dX1_settles_33 ?_
              refine g_iload_n C dX1_settles_34 rfl 2 rfl ?_
              refine kX1_X1_behind h f (ug (ug g 12 y12) 19 (uI y19 a 0)) N M T set ((8 * a) + m) cl C hnp htb hbt (by omega) (by omega) hcl ⟨Nat.le_of_ble_eq_true rfl, Nat.le_of_ble_eq_true rfl⟩ (Nat.le_of_ble_eq_true rfl) ⟨Nat.le_of_ble_eq_true rfl, Nat.le_of_ble_eq_true rfl⟩ (rv := bhS (g 14) (g 16) (g 13) set ((8 * a) + m) cl) rfl Sb.rf dX1_settles_35 ?_
              refine g_iload_n C dX1_settles_38 rfl 1 rfl ?_
              refine g_icmp_le C (tgt := 76) dX1_settles_39 (by decide) (by omega) (by omega) (fun hc39_21 => ?_) (fun hc39_21 => ?_)
              ·
                refine g_iinc C dX1_settles_76 4 rfl (lv' := [(0, .ref (h 0)), (1, .int (iI set)), (2, .int (iI cl)), (3, .int (iI a)), (4, .int (iI (m + 1)))]) [1, 2, 3, 4, 0] rfl (Nat.le_of_ble_eq_true rfl) ?_
                refine g_goto C (tgt := 18) dX1_settles_79 (by decide) ?_
                exact ih19 (m + 1) y12 (by omega) hv hRK (by rw [← Int.add_assoc]; exact UPk_x hU2 (by rw [← hbx]; omega)) (by omega)
              ·
                have hmv : mvS y12 (g 14) (g 15) (g 16) (g 13) set a m cl = mvK 1000000000 1024 y12 (g 14) LN (cvS (g 16) (g 13)) cl set (8 * a + m) := mvS_K (hcost (8 * a + m) (by omega) (by omega))
                have hmk := mvK_nn (cl := cl) hnb hTB hse (k := 8 * a + m) ⟨by omega, by omega⟩ hRK.1
                refine g_aload_n C dX1_settles_42 rfl 0 rfl ?_
                refine gs_get12 C dX1_settles_43 ?_
                refine g_bipush C dX1_settles_46 (z := 60) rfl ?_
                refine g_iload_n C dX1_settles_48 rfl 1 rfl ?_
                refine g_imul C dX1_settles_49 ?_
                refine g_iload_n C dX1_settles_50 rfl 3 rfl ?_
                refine g_iadd C dX1_settles_51 ?_
                refine g_aload_n C dX1_settles_52 rfl 0 rfl ?_
                refine gs_get12 C dX1_settles_53 ?_
                refine g_bipush C dX1_settles_56 (z := 60) rfl ?_
                refine g_iload_n C dX1_settles_58 rfl 1 rfl ?_
                refine g_imul C dX1_settles_59 ?_
                refine g_iload_n C dX1_settles_60 rfl 3 rfl ?_
                refine g_iadd C dX1_settles_61 ?_
                refine gs_ald12 C (v := y12 ((60 * set) + a)) rfl dX1_settles_62 (by omega) ?_
                have hf22 := hv ((60 * set) + a) (by omega) (by omega)
                refine g_aload_n C dX1_settles_63 rfl 0 rfl ?_
                refine g_iload_n C dX1_settles_64 rfl 1 rfl ?_
                refine g_iload_n C dX1_settles_65 rfl 3 rfl ?_
                refine g_iload C dX1_settles_66 4 rfl ?_
                refine g_iload_n C dX1_settles_68 rfl 2 rfl ?_
                refine kX1_X1_byMove h f (ug (ug g 12 y12) 19 (uI y19 a 0)) N M T set a m cl C hnp htb hbt hv hco (by omega) (by omega) (by omega) hcl ⟨Nat.le_of_ble_eq_true rfl, Nat.le_of_ble_eq_true rfl⟩ (Nat.le_of_ble_eq_true rfl) ⟨Nat.le_of_ble_eq_true rfl, Nat.le_of_ble_eq_true rfl⟩ (rv := mvS (y12) (g 14) (g 15) (g 16) (g 13) set a m cl) rfl Sb.rf dX1_settles_69 ?_
                refine g_mmin C (x := y12 ((60 * set) + a)) (y := mvS (y12) (g 14) (g 15) (g 16) (g 13) set a m cl) (z := minI (y12 ((60 * set) + a)) (mvS (y12) (g 14) (g 15) (g 16) (g 13) set a m cl)) q962 ⟨q216, q61, q217⟩ (by omega) (by omega) (by unfold minI; split <;> split <;> omega) (Nat.le_of_ble_eq_true rfl) (Nat.le_of_ble_eq_true rfl) ⟨Nat.le_of_ble_eq_true rfl, Nat.le_of_ble_eq_true rfl⟩ dX1_settles_72 ?_
                have hmn := minI_le (y12 ((60 * set) + a)) (mvS (y12) (g 14) (g 15) (g 16) (g 13) set a m cl)
                refine gs_ast12 C (g' := (ug (ug g 12 (uI y12 ((60 * set) + a) (minI (y12 ((60 * set) + a)) (mvS (y12) (g 14) (g 15) (g 16) (g 13) set a m cl)))) 19 (uI y19 a 0))) rfl dX1_settles_75 (by omega) ?_
                refine g_iinc C dX1_settles_76 4 rfl (lv' := [(0, .ref (h 0)), (1, .int (iI set)), (2, .int (iI cl)), (3, .int (iI a)), (4, .int (iI (m + 1)))]) [1, 2, 3, 4, 0] rfl (Nat.le_of_ble_eq_true rfl) ?_
                refine g_goto C (tgt := 18) dX1_settles_79 (by decide) ?_
                exact ih19 (m + 1) (uI y12 ((60 * set) + a) (minI (y12 ((60 * set) + a)) (mvS (y12) (g 14) (g 15) (g 16) (g 13) set a m cl))) (by omega) (fun j h0 h1 => by have hvj := hv j h0 h1; unfold uI; split; (constructor; (rcases hmn.2.2 with e9 | e9 <;> omega); omega); exact hvj) (by have h9 := RK_min (by omega) (by omega) hnb hTB hse (show 0 ≤ (8 * a + m) ∧ (8 * a + m) < 480 by omega) hen hRK (show minI (y12 (60 * set + a)) (mvS y12 (g 14) (g 15) (g 16) (g 13) set a m cl) = minI (y12 (60 * set + (8 * a + m) / 8)) (mvK 1000000000 1024 y12 (g 14) LN (cvS (g 16) (g 13)) cl set (8 * a + m)) by rw [hk8, hmv]); rw [hk8] at h9; exact h9) (by rw [← Int.add_assoc]; have h9 := UPk_s hnb hTB hse (show 0 ≤ (8 * a + m) ∧ (8 * a + m) < 480 by omega) (show minI (y12 (60 * set + a)) (mvS y12 (g 14) (g 15) (g 16) (g 13) set a m cl) = minI (y12 (60 * set + (8 * a + m) / 8)) (mvK 1000000000 1024 y12 (g 14) LN (cvS (g 16) (g 13)) cl set (8 * a + m)) by rw [hk8, hmv]) hU2; rw [hk8] at h9; exact h9) (by omega)
        exact L19 _ 0 y12 (by omega) hv hRK (by rw [Int.add_zero]; exact hU) (Nat.lt_succ_self _)
  exact L1 _ 0 (g 12) (g 19) (by omega) hv hRK0 (fun k h0 h1 => absurd h1 (by omega)) (fun j h0 h1 => absurd h1 (by omega)) (Nat.lt_succ_self _)

end SC16
