/-! ===== each operation of the law: class and model answer alike, and the relation holds behind it ===== -/
theorem PS_z {f : Nat → Int} {g : Nat → Int → Int} {M : Nat → Nat → Nat} {P : List PR} (h : PS f g M P) (h0 : f 7 = 0) : P = [] := by
  have := h.1
  exact List.eq_nil_of_length_eq_zero (by omega)
theorem PS_n {f : Nat → Int} {g : Nat → Int → Int} {M : Nat → Nat → Nat} (h0 : f 7 = 0) : PS f g M [] := ⟨by rw [h0]; rfl, fun i r h => by simp at h⟩
theorem PLs_m {D : va_G} {f : Nat → Int} {g : Nat → Int → Int} {N : Nat → Nat} {M : Nat → Nat → Nat} {P : List PR} {F : Nat → Int} {G : Nat → Int → Int} (hR : RL D f g N M P F G) : ∀ q, 0 ≤ q → q < F 7 → PLok (F 2) (F 3) (G 12) (G 19 q) (G 18 q) (fun k => G 20 (400 * q + k)) := by
  intro q h0 h1
  obtain ⟨⟨hF, hS, ht2, hkd, hth, hht, hri, htp, h7, hN7, hnp, hN6, hpt, hPL, hkc, hkb, hv, hPS⟩, ⟨e0, e1, e2, e9, e10, e7, e6, e11⟩, ⟨g3, g4, g5, g8, g24, g25, g26, g27⟩, hk8, hpl⟩ := id hR
  have hlen := hPS.1
  obtain ⟨r, hr⟩ : ∃ r, P[q.toNat]? = some r := ⟨_, List.getElem?_eq_getElem (by omega)⟩
  have hv1 := (hPS.2 _ _ hr).2.1
  obtain ⟨p1, p2, p3⟩ := hpl _ _ hr
  rw [Int.toNat_of_nonneg h0] at p1 p2 p3
  rw [p1, p2, e0, e1, g5] at hv1
  rw [p2] at p3
  exact PLok_cg hv1 (fun j j0 j1 => (p3 j j0 j1).symm)
theorem tpS_rg (t : Int → Int) (j : Int) : 0 ≤ tpS t j ∧ tpS t j ≤ 255 := andI_255 _
theorem bP_cg {p q : Prop} (h : p ↔ q) : bP p = bP q := by rw [propext h]
theorem uI_cl {x : Int → Int} {a v lo hi n : Int} (h : ∀ j, 0 ≤ j → j < n → lo ≤ x j ∧ x j ≤ hi) (hv : lo ≤ v ∧ v ≤ hi) : ∀ j, 0 ≤ j → j < n → lo ≤ uI x a v j ∧ uI x a v j ≤ hi := by
  intro j h0 h1
  unfold uI
  split
  · exact hv
  · exact h j h0 h1
set_option maxHeartbeats 4000000 in
theorem L_thick {D : va_G} {h : Nat → Nat} {f : Nat → Int} {g : Nat → Int → Int} {N : Nat → Nat} {M : Nat → Nat → Nat} {P : List PR} {F : Nat → Int} {G : Nat → Int → Int} {a v : Int}  (hR : RL D f g N M P F G) {k_ z zb : Int} {w1 : va_W} {o' : Nat → Int64} {F' : Nat → Int} {G' : Nat → Int → Int} (hd : (k_ = 0 ∧ (fun (z : Int) (w : va_W) => ∃ f' g', ss_thick f g a v z f' g' ∧ w = sW D h f' g' N M (ptW (M 6) (g 24) (g 25) (g 26) (g 27) (f 6) ++ plW D P)) z w1 ∧ o' 0 = (iI z).toInt64) ∨ (k_ = 1 ∧ (fun (E : String) (_ : Nat) (w : va_W) => E = EN ∧ (¬ (0 ≤ a ∧ a < f 0)) ∧ w = sW D h f g N M (ptW (M 6) (g 24) (g 25) (g 26) (g 27) (f 6) ++ plW D P)) EN 0 w1)) (hm : sm_thick F G a v zb F' G') : (F' 1 = k_ ∧ (0 ≤ k_ ∧ k_ ≤ 2) ∧ (k_ = 0 → (zb = 0 ∨ zb = 1) ∧ o' 0 = (iI zb).toInt64)) ∧ NX D (h 0) (w1) F' G' := by
  obtain ⟨⟨hF, hS, ht2, hkd, hth, hht, hri, htp, h7, hN7, hnp, hN6, hpt, hPL, hkc, hkb, hv, hPS⟩, ⟨e0, e1, e2, e9, e10, e7, e6, e11⟩, ⟨g3, g4, g5, g8, g24, g25, g26, g27⟩, hk8, hpl⟩ := id hR
  rcases hd with ⟨rfl, ⟨f', g', hs, rfl⟩, ho⟩ | ⟨rfl, -, hc, rfl⟩
  · rcases hs with ⟨c, rfl, rfl, rfl⟩ | ⟨c, rfl, rfl, rfl⟩
    · rcases hm with ⟨d, rfl, rfl, rfl⟩ | ⟨d, rfl, rfl, rfl⟩ | ⟨d, rfl, rfl, rfl⟩
      · exfalso; omega
      · exact ⟨⟨rfl, by decide, fun _ => ⟨Or.inl rfl, ho⟩⟩, ⟨h, _, _, N, M, P, rfl, rfl, (hR.mf ⟨rfl, rfl, rfl, rfl, rfl, rfl, rfl, rfl⟩ ⟨rfl, rfl, rfl, rfl, rfl, rfl, rfl, rfl, rfl, rfl, rfl, rfl⟩)⟩⟩
      · exfalso; omega
    · rcases hm with ⟨d, rfl, rfl, rfl⟩ | ⟨d, rfl, rfl, rfl⟩ | ⟨d, rfl, rfl, rfl⟩
      · exfalso; omega
      · exfalso; omega
      · have hP0 := PS_z hPS c.2.1
        subst hP0
        exact ⟨⟨rfl, by decide, fun _ => ⟨Or.inr rfl, ho⟩⟩, h, _, ug g 3 (uI (g 3) a v), N, M, [], rfl, rfl, ⟨⟨hF, hS, ht2, hkd, uI_cl hth (by omega), hht, hri, htp, h7, hN7, hnp, hN6, hpt, hPL, hkc, hkb, hv, PS_n c.2.1⟩, ⟨e0, e1, e2, e9, e10, e7, e6, e11⟩, ⟨(congrArg (uI · a v) g3), g4, g5, g8, g24, g25, g26, g27⟩, hk8, hpl⟩⟩
  · rcases hm with ⟨d, rfl, rfl, rfl⟩ | ⟨d, rfl, rfl, rfl⟩ | ⟨d, rfl, rfl, rfl⟩
    · exact ⟨⟨rfl, by decide, fun hk => absurd hk (by decide)⟩, ⟨h, _, _, N, M, P, rfl, rfl, (hR.mf ⟨rfl, rfl, rfl, rfl, rfl, rfl, rfl, rfl⟩ ⟨rfl, rfl, rfl, rfl, rfl, rfl, rfl, rfl, rfl, rfl, rfl, rfl⟩)⟩⟩
    · exfalso; omega
    · exfalso; omega
set_option maxHeartbeats 4000000 in
theorem L_kind {D : va_G} {h : Nat → Nat} {f : Nat → Int} {g : Nat → Int → Int} {N : Nat → Nat} {M : Nat → Nat → Nat} {P : List PR} {F : Nat → Int} {G : Nat → Int → Int} {a v : Int}  (hR : RL D f g N M P F G) {k_ z zb : Int} {w1 : va_W} {o' : Nat → Int64} {F' : Nat → Int} {G' : Nat → Int → Int} (hd : (k_ = 0 ∧ (fun (z : Int) (w : va_W) => (((0 ≤ a ∧ a < f 1) ∧ (0 < f 7 ∨ v < 0 ∨ 3 < v)) ∧ z = 0 ∧ w = sW D h f g N M (ptW (M 6) (g 24) (g 25) (g 26) (g 27) (f 6) ++ plW D P)) ∨ (((0 ≤ a ∧ a < f 1) ∧ f 7 = 0 ∧ 0 ≤ v ∧ v ≤ 3) ∧ z = 1 ∧ ∃ np : Int, ∃ k21 : Int, ∃ x24 : Int → Int, ∃ x25 : Int → Int, ∃ x26 : Int → Int, ∃ x27 : Int → Int, ∃ px : Nat → Nat, ∃ hb : Nat, PA (paL (f 1).toNat (uI (g 5) a v) (f 0).toNat) np x24 x25 x26 x27 ∧ w = sW D (uN h 21 hb) (up (up f 6 np) 21 k21) (ug (ug (ug (ug (ug g 5 (uI (g 5) a v)) 24 x24) 25 x25) 26 x26) 27 x27) N (uM M 6 px) (ptW px x24 x25 x26 x27 np))) z w1 ∧ o' 0 = (iI z).toInt64) ∨ (k_ = 1 ∧ (fun (E : String) (_ : Nat) (w : va_W) => E = EN ∧ ¬ (0 ≤ a ∧ a < f 1) ∧ w = sW D h f g N M (ptW (M 6) (g 24) (g 25) (g 26) (g 27) (f 6) ++ plW D P)) EN 0 w1)) (hm : sm_kind F G a v zb F' G') : (F' 1 = k_ ∧ (0 ≤ k_ ∧ k_ ≤ 2) ∧ (k_ = 0 → (zb = 0 ∨ zb = 1) ∧ o' 0 = (iI zb).toInt64)) ∧ NX D (h 0) (w1) F' G' := by
  obtain ⟨⟨hF, hS, ht2, hkd, hth, hht, hri, htp, h7, hN7, hnp, hN6, hpt, hPL, hkc, hkb, hv, hPS⟩, ⟨e0, e1, e2, e9, e10, e7, e6, e11⟩, ⟨g3, g4, g5, g8, g24, g25, g26, g27⟩, hk8, hpl⟩ := id hR
  rcases hd with ⟨rfl, ⟨c, rfl, rfl⟩ | ⟨c, rfl, np, k21, x24, x25, x26, x27, px, hb, hPA, rfl⟩, ho⟩ | ⟨rfl, -, hc, rfl⟩
  · rcases hm with ⟨d, rfl, rfl, rfl⟩ | ⟨d, rfl, rfl, rfl⟩ | ⟨d, rfl, -⟩
    · exfalso; omega
    · exact ⟨⟨rfl, by decide, fun _ => ⟨Or.inl rfl, ho⟩⟩, ⟨h, _, _, N, M, P, rfl, rfl, (hR.mf ⟨rfl, rfl, rfl, rfl, rfl, rfl, rfl, rfl⟩ ⟨rfl, rfl, rfl, rfl, rfl, rfl, rfl, rfl, rfl, rfl, rfl, rfl⟩)⟩⟩
    · exfalso; omega
  · rcases hm with ⟨d, rfl, rfl, rfl⟩ | ⟨d, rfl, rfl, rfl⟩ | ⟨d, rfl, nq, x14, x15, x16, x17, hPB, rfl, rfl⟩
    · exfalso; omega
    · exfalso; omega
    · rw [← e0, ← e1, ← g5] at hPB
      obtain ⟨rfl, hcg⟩ := PA_eq hPA hPB
      have hP0 := PS_z hPS c.2.1
      subst hP0
      refine ⟨⟨rfl, by decide, fun _ => ⟨Or.inr rfl, ho⟩⟩, uN h 21 hb, up (up f 6 np) 21 k21, ug (ug (ug (ug (ug g 5 (uI (g 5) a v)) 24 x14) 25 x15) 26 x16) 27 x17, N, uM M 6 px, [], rfl, ?_, ⟨⟨hF, hS, ht2, uI_cl hkd (by omega), hth, hht, hri, htp, h7, hN7, PA_np hF hS hPB, hN6, PA_pt hF hS hPB, PLs_pa (show 0 ≤ f 0 by omega) (show 0 ≤ f 1 by omega) hPB, hkc, hkb, hv, PS_n c.2.1⟩, ⟨e0, e1, e2, e9, e10, e7, rfl, e11⟩, ⟨g3, g4, (congrArg (uI · a v) g5), g8, rfl, rfl, rfl, rfl⟩, hk8, hpl⟩⟩
      show sW D (uN h 21 hb) (up (up f 6 np) 21 k21) (ug (ug (ug (ug (ug g 5 (uI (g 5) a v)) 24 x14) 25 x15) 26 x16) 27 x17) N (uM M 6 px) (ptW px x24 x25 x26 x27 np) = sW D (uN h 21 hb) (up (up f 6 np) 21 k21) (ug (ug (ug (ug (ug g 5 (uI (g 5) a v)) 24 x14) 25 x15) 26 x16) 27 x17) N (uM M 6 px) (ptW px x14 x15 x16 x17 np ++ [])
      rw [List.append_nil, ptW_cg hcg]
  · rcases hm with ⟨d, rfl, rfl, rfl⟩ | ⟨d, rfl, rfl, rfl⟩ | ⟨d, rfl, -⟩
    · exact ⟨⟨rfl, by decide, fun hk => absurd hk (by decide)⟩, ⟨h, _, _, N, M, P, rfl, rfl, (hR.mf ⟨rfl, rfl, rfl, rfl, rfl, rfl, rfl, rfl⟩ ⟨rfl, rfl, rfl, rfl, rfl, rfl, rfl, rfl, rfl, rfl, rfl, rfl⟩)⟩⟩
    · exfalso; omega
    · exfalso; omega
set_option maxHeartbeats 4000000 in
theorem L_part {D : va_G} {h : Nat → Nat} {f : Nat → Int} {g : Nat → Int → Int} {N : Nat → Nat} {M : Nat → Nat → Nat} {P : List PR} {F : Nat → Int} {G : Nat → Int → Int} {k v : Int}  (hR : RL D f g N M P F G) {k_ z zb : Int} {o' : Nat → Int64} {F' : Nat → Int} {G' : Nat → Int → Int} (hd : (k_ = 0 ∧ (fun (z : Int) (_ : va_W) => ((0 ≤ k ∧ k < f 6) ∧ 0 ≤ v ∧ v ≤ 3) ∧ z = if v = 0 then g 24 k else if v = 1 then g 25 k else if v = 2 then g 26 k else g 27 k) z [] ∧ o' 0 = (iI z).toInt64) ∨ (k_ = 1 ∧ (fun (E : String) (_ : Nat) (w : va_W) => E = EN ∧ ¬ ((0 ≤ k ∧ k < f 6) ∧ 0 ≤ v ∧ v ≤ 3) ∧ w = []) EN 0 [])) (hm : sm_part F G k v zb F' G') : (F' 1 = k_ ∧ (0 ≤ k_ ∧ k_ ≤ 2) ∧ (k_ = 0 → o' 0 = (iI zb).toInt64)) ∧ NX D (h 0) (bW D h f g N M P) F' G' := by
  obtain ⟨⟨hF, hS, ht2, hkd, hth, hht, hri, htp, h7, hN7, hnp, hN6, hpt, hPL, hkc, hkb, hv, hPS⟩, ⟨e0, e1, e2, e9, e10, e7, e6, e11⟩, ⟨g3, g4, g5, g8, g24, g25, g26, g27⟩, hk8, hpl⟩ := id hR
  rcases hd with ⟨rfl, ⟨c, hz⟩, ho⟩ | ⟨rfl, -, hc, -⟩
  · rcases hm with ⟨d, rfl, rfl, rfl⟩ | ⟨d, rfl, rfl, rfl⟩ | ⟨d, rfl, rfl, rfl⟩ | ⟨d, rfl, rfl, rfl⟩ | ⟨d, rfl, rfl, rfl⟩
    · exfalso; omega
    · refine ⟨⟨rfl, by decide, fun _ => ho.trans ?_⟩, ⟨h, _, _, N, M, P, rfl, rfl, (hR.mf ⟨rfl, rfl, rfl, rfl, rfl, rfl, rfl, rfl⟩ ⟨rfl, rfl, rfl, rfl, rfl, rfl, rfl, rfl, rfl, rfl, rfl, rfl⟩)⟩⟩
      rw [hz, if_pos d.2, g24]
    · refine ⟨⟨rfl, by decide, fun _ => ho.trans ?_⟩, ⟨h, _, _, N, M, P, rfl, rfl, (hR.mf ⟨rfl, rfl, rfl, rfl, rfl, rfl, rfl, rfl⟩ ⟨rfl, rfl, rfl, rfl, rfl, rfl, rfl, rfl, rfl, rfl, rfl, rfl⟩)⟩⟩
      rw [hz, if_neg (by omega), if_pos d.2, g25]
    · refine ⟨⟨rfl, by decide, fun _ => ho.trans ?_⟩, ⟨h, _, _, N, M, P, rfl, rfl, (hR.mf ⟨rfl, rfl, rfl, rfl, rfl, rfl, rfl, rfl⟩ ⟨rfl, rfl, rfl, rfl, rfl, rfl, rfl, rfl, rfl, rfl, rfl, rfl⟩)⟩⟩
      rw [hz, if_neg (by omega), if_neg (by omega), if_pos d.2, g26]
    · refine ⟨⟨rfl, by decide, fun _ => ho.trans ?_⟩, ⟨h, _, _, N, M, P, rfl, rfl, (hR.mf ⟨rfl, rfl, rfl, rfl, rfl, rfl, rfl, rfl⟩ ⟨rfl, rfl, rfl, rfl, rfl, rfl, rfl, rfl, rfl, rfl, rfl, rfl⟩)⟩⟩
      rw [hz, if_neg (by omega), if_neg (by omega), if_neg (by omega), g27]
  · rcases hm with ⟨d, rfl, rfl, rfl⟩ | ⟨d, rfl, rfl, rfl⟩ | ⟨d, rfl, rfl, rfl⟩ | ⟨d, rfl, rfl, rfl⟩ | ⟨d, rfl, rfl, rfl⟩
    · exact ⟨⟨rfl, by decide, fun hk => absurd hk (by decide)⟩, ⟨h, _, _, N, M, P, rfl, rfl, (hR.mf ⟨rfl, rfl, rfl, rfl, rfl, rfl, rfl, rfl⟩ ⟨rfl, rfl, rfl, rfl, rfl, rfl, rfl, rfl, rfl, rfl, rfl, rfl⟩)⟩⟩
    all_goals (exfalso; omega)
set_option maxHeartbeats 4000000 in
theorem L_need {D : va_G} {h : Nat → Nat} {f : Nat → Int} {g : Nat → Int → Int} {N : Nat → Nat} {M : Nat → Nat → Nat} {P : List PR} {F : Nat → Int} {G : Nat → Int → Int} {a v : Int} (hv1 : 0 ≤ v ∧ v ≤ 1) (hR : RL D f g N M P F G) {k_ z zb : Int} {w1 : va_W} {o' : Nat → Int64} {F' : Nat → Int} {G' : Nat → Int → Int} (hd : (k_ = 0 ∧ (fun (z : Int) (w : va_W) => ∃ f' g', ss_need f g a v z f' g' ∧ w = sW D h f' g' N M (ptW (M 6) (g' 24) (g' 25) (g' 26) (g' 27) (f' 6) ++ (plW D P))) z w1 ∧ o' 0 = (iI z).toInt64) ∨ (k_ = 1 ∧ (fun (E : String) (_ : Nat) (w : va_W) => E = EN ∧ (¬ (0 ≤ a ∧ a < f 6)) ∧ w = sW D h f g N M (ptW (M 6) (g 24) (g 25) (g 26) (g 27) (f 6) ++ (plW D P))) EN 0 w1)) (hm : sm_need F G a v zb F' G') : (F' 1 = k_ ∧ (0 ≤ k_ ∧ k_ ≤ 2) ∧ (k_ = 0 → (zb = 0 ∨ zb = 1) ∧ o' 0 = (iI zb).toInt64)) ∧ NX D (h 0) (w1) F' G' := by
  obtain ⟨⟨hF, hS, ht2, hkd, hth, hht, hri, htp, h7, hN7, hnp, hN6, hpt, hPL, hkc, hkb, hv, hPS⟩, ⟨e0, e1, e2, e9, e10, e7, e6, e11⟩, ⟨g3, g4, g5, g8, g24, g25, g26, g27⟩, hk8, hpl⟩ := id hR
  rcases hd with ⟨rfl, ⟨f', g', ⟨c, rfl, rfl, rfl⟩, rfl⟩, ho⟩ | ⟨rfl, -, hc, rfl⟩
  · rcases hm with ⟨d, rfl, rfl, rfl⟩ | ⟨d, rfl, rfl, rfl⟩
    · exfalso; omega
    · have hb := (hpt a c.1 c.2).2.2.2
      rw [g27] at ho hb
      exact ⟨⟨rfl, by decide, fun _ => ⟨by omega, ho⟩⟩, h, _, ug g 27 (uI (g 27) a v), N, M, P, rfl, rfl, ⟨⟨hF, hS, ht2, hkd, hth, hht, hri, htp, h7, hN7, hnp, hN6, (fun j j0 j1 => ⟨(hpt j j0 j1).1, (hpt j j0 j1).2.1, (hpt j j0 j1).2.2.1, uI_cl (fun j j0 j1 => (hpt j j0 j1).2.2.2) hv1 j j0 j1⟩), hPL, hkc, hkb, hv, hPS⟩, ⟨e0, e1, e2, e9, e10, e7, e6, e11⟩, ⟨g3, g4, g5, g8, g24, g25, g26, (congrArg (uI · a v) g27)⟩, hk8, hpl⟩⟩
  · rcases hm with ⟨d, rfl, rfl, rfl⟩ | ⟨d, rfl, rfl, rfl⟩
    · exact ⟨⟨rfl, by decide, fun hk => absurd hk (by decide)⟩, ⟨h, _, _, N, M, P, rfl, rfl, (hR.mf ⟨rfl, rfl, rfl, rfl, rfl, rfl, rfl, rfl⟩ ⟨rfl, rfl, rfl, rfl, rfl, rfl, rfl, rfl, rfl, rfl, rfl, rfl⟩)⟩⟩
    · exfalso; omega
set_option maxHeartbeats 4000000 in
theorem L_count {D : va_G} {h : Nat → Nat} {f : Nat → Int} {g : Nat → Int → Int} {N : Nat → Nat} {M : Nat → Nat → Nat} {P : List PR} {F : Nat → Int} {G : Nat → Int → Int} {v : Int}  (hR : RL D f g N M P F G) {k_ z zb : Int} {o' : Nat → Int64} {F' : Nat → Int} {G' : Nat → Int → Int} (hd : (k_ = 0 ∧ (fun (z : Int) (_ : va_W) => (0 ≤ v ∧ v ≤ 4) ∧ z = if v = 0 then f 0 else if v = 1 then f 1 else if v = 2 then f 7 else if v = 3 then ndc (g 27) (f 6) else f 9) z [] ∧ o' 0 = (iI z).toInt64) ∨ (k_ = 1 ∧ (fun (E : String) (_ : Nat) (w : va_W) => E = EN ∧ ¬ (0 ≤ v ∧ v ≤ 4) ∧ w = []) EN 0 [])) (hm : sm_count F G v zb F' G') : (F' 1 = k_ ∧ (0 ≤ k_ ∧ k_ ≤ 2) ∧ (k_ = 0 → o' 0 = (iI zb).toInt64)) ∧ NX D (h 0) (bW D h f g N M P) F' G' := by
  obtain ⟨⟨hF, hS, ht2, hkd, hth, hht, hri, htp, h7, hN7, hnp, hN6, hpt, hPL, hkc, hkb, hv, hPS⟩, ⟨e0, e1, e2, e9, e10, e7, e6, e11⟩, ⟨g3, g4, g5, g8, g24, g25, g26, g27⟩, hk8, hpl⟩ := id hR
  rcases hd with ⟨rfl, ⟨c, hz⟩, ho⟩ | ⟨rfl, -, hc, -⟩
  · rcases hm with ⟨d, rfl, rfl, rfl⟩ | ⟨d, rfl, rfl, rfl⟩ | ⟨d, rfl, rfl, rfl⟩ | ⟨d, rfl, rfl, rfl⟩ | ⟨d, rfl, rfl, rfl⟩ | ⟨d, rfl, rfl, rfl⟩
    · refine ⟨⟨rfl, by decide, fun _ => ho.trans ?_⟩, ⟨h, _, _, N, M, P, rfl, rfl, (hR.mf ⟨rfl, rfl, rfl, rfl, rfl, rfl, rfl, rfl⟩ ⟨rfl, rfl, rfl, rfl, rfl, rfl, rfl, rfl, rfl, rfl, rfl, rfl⟩)⟩⟩
      rw [hz, if_pos d, e0]
    · refine ⟨⟨rfl, by decide, fun _ => ho.trans ?_⟩, ⟨h, _, _, N, M, P, rfl, rfl, (hR.mf ⟨rfl, rfl, rfl, rfl, rfl, rfl, rfl, rfl⟩ ⟨rfl, rfl, rfl, rfl, rfl, rfl, rfl, rfl, rfl, rfl, rfl, rfl⟩)⟩⟩
      rw [hz, if_neg (by omega), if_pos d, e1]
    · refine ⟨⟨rfl, by decide, fun _ => ho.trans ?_⟩, ⟨h, _, _, N, M, P, rfl, rfl, (hR.mf ⟨rfl, rfl, rfl, rfl, rfl, rfl, rfl, rfl⟩ ⟨rfl, rfl, rfl, rfl, rfl, rfl, rfl, rfl, rfl, rfl, rfl, rfl⟩)⟩⟩
      rw [hz, if_neg (by omega), if_neg (by omega), if_pos d, e7]
    · refine ⟨⟨rfl, by decide, fun _ => ho.trans ?_⟩, ⟨h, _, _, N, M, P, rfl, rfl, (hR.mf ⟨rfl, rfl, rfl, rfl, rfl, rfl, rfl, rfl⟩ ⟨rfl, rfl, rfl, rfl, rfl, rfl, rfl, rfl, rfl, rfl, rfl, rfl⟩)⟩⟩
      rw [hz, if_neg (by omega), if_neg (by omega), if_neg (by omega), if_pos d, g27, e6]
    · refine ⟨⟨rfl, by decide, fun _ => ho.trans ?_⟩, ⟨h, _, _, N, M, P, rfl, rfl, (hR.mf ⟨rfl, rfl, rfl, rfl, rfl, rfl, rfl, rfl⟩ ⟨rfl, rfl, rfl, rfl, rfl, rfl, rfl, rfl, rfl, rfl, rfl, rfl⟩)⟩⟩
      rw [hz, if_neg (by omega), if_neg (by omega), if_neg (by omega), if_neg (by omega), e9]
    · exfalso; omega
  · rcases hm with ⟨d, rfl, rfl, rfl⟩ | ⟨d, rfl, rfl, rfl⟩ | ⟨d, rfl, rfl, rfl⟩ | ⟨d, rfl, rfl, rfl⟩ | ⟨d, rfl, rfl, rfl⟩ | ⟨d, rfl, rfl, rfl⟩
    iterate 5 (exfalso; omega)
    exact ⟨⟨rfl, by decide, fun hk => absurd hk (by decide)⟩, ⟨h, _, _, N, M, P, rfl, rfl, (hR.mf ⟨rfl, rfl, rfl, rfl, rfl, rfl, rfl, rfl⟩ ⟨rfl, rfl, rfl, rfl, rfl, rfl, rfl, rfl, rfl, rfl, rfl, rfl⟩)⟩⟩
set_option maxHeartbeats 4000000 in
theorem L_move {D : va_G} {h : Nat → Nat} {f : Nat → Int} {g : Nat → Int → Int} {N : Nat → Nat} {M : Nat → Nat → Nat} {P : List PR} {F : Nat → Int} {G : Nat → Int → Int} {a : Int}  (hR : RL D f g N M P F G) {k_ z zb : Int} {o' : Nat → Int64} {F' : Nat → Int} {G' : Nat → Int → Int} (hd : (k_ = 0 ∧ (fun (z : Int) (_ : va_W) => (-1 ≤ a ∧ a < f 11) ∧ z = if a = -1 then f 11 else g 28 a) z [] ∧ o' 0 = (iI z).toInt64) ∨ (k_ = 1 ∧ (fun (E : String) (_ : Nat) (w : va_W) => E = EN ∧ ¬ (-1 ≤ a ∧ a < f 11) ∧ w = []) EN 0 [])) (hm : sm_move F G a zb F' G') : (F' 1 = k_ ∧ (0 ≤ k_ ∧ k_ ≤ 2) ∧ (k_ = 0 → o' 0 = (iI zb).toInt64)) ∧ NX D (h 0) (bW D h f g N M P) F' G' := by
  obtain ⟨⟨hF, hS, ht2, hkd, hth, hht, hri, htp, h7, hN7, hnp, hN6, hpt, hPL, hkc, hkb, hv, hPS⟩, ⟨e0, e1, e2, e9, e10, e7, e6, e11⟩, ⟨g3, g4, g5, g8, g24, g25, g26, g27⟩, hk8, hpl⟩ := id hR
  rcases hd with ⟨rfl, ⟨c, hz⟩, ho⟩ | ⟨rfl, -, hc, -⟩
  · rcases hm with ⟨d, rfl, rfl, rfl⟩ | ⟨d, rfl, rfl, rfl⟩ | ⟨d, rfl, rfl, rfl⟩
    · refine ⟨⟨rfl, by decide, fun _ => ho.trans ?_⟩, ⟨h, _, _, N, M, P, rfl, rfl, (hR.mf ⟨rfl, rfl, rfl, rfl, rfl, rfl, rfl, rfl⟩ ⟨rfl, rfl, rfl, rfl, rfl, rfl, rfl, rfl, rfl, rfl, rfl, rfl⟩)⟩⟩
      rw [hz, if_pos d, e11]
    · refine ⟨⟨rfl, by decide, fun _ => ho.trans ?_⟩, ⟨h, _, _, N, M, P, rfl, rfl, (hR.mf ⟨rfl, rfl, rfl, rfl, rfl, rfl, rfl, rfl⟩ ⟨rfl, rfl, rfl, rfl, rfl, rfl, rfl, rfl, rfl, rfl, rfl, rfl⟩)⟩⟩
      rw [hz, if_neg (by omega), hk8 a (by omega) (by omega)]
    · exfalso; omega
  · rcases hm with ⟨d, rfl, rfl, rfl⟩ | ⟨d, rfl, rfl, rfl⟩ | ⟨d, rfl, rfl, rfl⟩
    · exfalso; omega
    · exfalso; omega
    · exact ⟨⟨rfl, by decide, fun hk => absurd hk (by decide)⟩, ⟨h, _, _, N, M, P, rfl, rfl, (hR.mf ⟨rfl, rfl, rfl, rfl, rfl, rfl, rfl, rfl⟩ ⟨rfl, rfl, rfl, rfl, rfl, rfl, rfl, rfl, rfl, rfl, rfl, rfl⟩)⟩⟩
set_option maxHeartbeats 4000000 in
theorem L_along {D : va_G} {h : Nat → Nat} {f : Nat → Int} {g : Nat → Int → Int} {N : Nat → Nat} {M : Nat → Nat → Nat} {P : List PR} {F : Nat → Int} {G : Nat → Int → Int} {a b : Int}  (hR : RL D f g N M P F G) {k_ z zb : Int} {o' : Nat → Int64} {F' : Nat → Int} {G' : Nat → Int → Int} (hd : (k_ = 0 ∧ (fun (z : Int) (_ : va_W) => ((0 ≤ a ∧ a < f 7) ∧ 0 ≤ b ∧ b < f 6) ∧ ∃ r : PR, P[a.toNat]? = some r ∧ (z = fgo (f 6) (g 24) (g 25) (g 26) (f 0) (f 1) (g 5) (r.2.1 0) (r.2.2 0) (r.2.1 5) b)) z [] ∧ o' 0 = (iI z).toInt64) ∨ (k_ = 1 ∧ (fun (E : String) (_ : Nat) (w : va_W) => E = EN ∧ ¬ ((0 ≤ a ∧ a < f 7) ∧ 0 ≤ b ∧ b < f 6) ∧ w = []) EN 0 [])) (hm : sm_along F G a b zb F' G') : (F' 1 = k_ ∧ (0 ≤ k_ ∧ k_ ≤ 2) ∧ (k_ = 0 → o' 0 = (iI zb).toInt64)) ∧ NX D (h 0) (bW D h f g N M P) F' G' := by
  obtain ⟨⟨hF, hS, ht2, hkd, hth, hht, hri, htp, h7, hN7, hnp, hN6, hpt, hPL, hkc, hkb, hv, hPS⟩, ⟨e0, e1, e2, e9, e10, e7, e6, e11⟩, ⟨g3, g4, g5, g8, g24, g25, g26, g27⟩, hk8, hpl⟩ := id hR
  rcases hd with ⟨rfl, ⟨c, hz⟩, ho⟩ | ⟨rfl, -, hc, -⟩
  · rcases hm with ⟨d, rfl, rfl, rfl⟩ | ⟨d, rfl, rfl, rfl⟩
    · exfalso; omega
    · obtain ⟨r, hr, hz⟩ := hz
      obtain ⟨p1, p2, p3⟩ := hpl _ _ hr
      rw [Int.toNat_of_nonneg (by omega)] at p1 p2 p3
      rw [p2] at p3
      have hcg : ∀ j : Int, 0 ≤ j → j < G 18 a → r.2.2 0 j = (fun k => G 20 (400 * a + k)) j := p3
      simp only [p1, p2, e0, e1, e2, e6, g3, g4, g5, g24, g25, g26, g27] at hz
      simp only [fgo_cg hcg, fho_cg hcg, fti_cg hcg, fle_cg hcg, plc_cg hcg] at hz
      rw [hz] at ho
      exact ⟨⟨rfl, by decide, fun _ => ho⟩, ⟨h, _, _, N, M, P, rfl, rfl, (hR.mf ⟨rfl, rfl, rfl, rfl, rfl, rfl, rfl, rfl⟩ ⟨rfl, rfl, rfl, rfl, rfl, rfl, rfl, rfl, rfl, rfl, rfl, rfl⟩)⟩⟩
  · rcases hm with ⟨d, rfl, rfl, rfl⟩ | ⟨d, rfl, rfl, rfl⟩
    · exact ⟨⟨rfl, by decide, fun hk => absurd hk (by decide)⟩, ⟨h, _, _, N, M, P, rfl, rfl, (hR.mf ⟨rfl, rfl, rfl, rfl, rfl, rfl, rfl, rfl⟩ ⟨rfl, rfl, rfl, rfl, rfl, rfl, rfl, rfl, rfl, rfl, rfl, rfl⟩)⟩⟩
    · exfalso; omega
set_option maxHeartbeats 4000000 in
theorem L_tied {D : va_G} {h : Nat → Nat} {f : Nat → Int} {g : Nat → Int → Int} {N : Nat → Nat} {M : Nat → Nat → Nat} {P : List PR} {F : Nat → Int} {G : Nat → Int → Int} {a b : Int}  (hR : RL D f g N M P F G) {k_ z zb : Int} {o' : Nat → Int64} {F' : Nat → Int} {G' : Nat → Int → Int} (hd : (k_ = 0 ∧ (fun (z : Int) (_ : va_W) => ((0 ≤ a ∧ a < f 7) ∧ 0 ≤ b ∧ b < f 0 - 1) ∧ ∃ r : PR, P[a.toNat]? = some r ∧ (z = fti (f 0) (f 1) (g 5) (r.2.1 0) (r.2.2 0) (r.2.1 5) b)) z [] ∧ o' 0 = (iI z).toInt64) ∨ (k_ = 1 ∧ (fun (E : String) (_ : Nat) (w : va_W) => E = EN ∧ ¬ ((0 ≤ a ∧ a < f 7) ∧ 0 ≤ b ∧ b < f 0 - 1) ∧ w = []) EN 0 [])) (hm : sm_tied F G a b zb F' G') : (F' 1 = k_ ∧ (0 ≤ k_ ∧ k_ ≤ 2) ∧ (k_ = 0 → o' 0 = (iI zb).toInt64)) ∧ NX D (h 0) (bW D h f g N M P) F' G' := by
  obtain ⟨⟨hF, hS, ht2, hkd, hth, hht, hri, htp, h7, hN7, hnp, hN6, hpt, hPL, hkc, hkb, hv, hPS⟩, ⟨e0, e1, e2, e9, e10, e7, e6, e11⟩, ⟨g3, g4, g5, g8, g24, g25, g26, g27⟩, hk8, hpl⟩ := id hR
  rcases hd with ⟨rfl, ⟨c, hz⟩, ho⟩ | ⟨rfl, -, hc, -⟩
  · rcases hm with ⟨d, rfl, rfl, rfl⟩ | ⟨d, rfl, rfl, rfl⟩
    · exfalso; omega
    · obtain ⟨r, hr, hz⟩ := hz
      obtain ⟨p1, p2, p3⟩ := hpl _ _ hr
      rw [Int.toNat_of_nonneg (by omega)] at p1 p2 p3
      rw [p2] at p3
      have hcg : ∀ j : Int, 0 ≤ j → j < G 18 a → r.2.2 0 j = (fun k => G 20 (400 * a + k)) j := p3
      simp only [p1, p2, e0, e1, e2, e6, g3, g4, g5, g24, g25, g26, g27] at hz
      simp only [fgo_cg hcg, fho_cg hcg, fti_cg hcg, fle_cg hcg, plc_cg hcg] at hz
      rw [hz] at ho
      exact ⟨⟨rfl, by decide, fun _ => ho⟩, ⟨h, _, _, N, M, P, rfl, rfl, (hR.mf ⟨rfl, rfl, rfl, rfl, rfl, rfl, rfl, rfl⟩ ⟨rfl, rfl, rfl, rfl, rfl, rfl, rfl, rfl, rfl, rfl, rfl, rfl⟩)⟩⟩
  · rcases hm with ⟨d, rfl, rfl, rfl⟩ | ⟨d, rfl, rfl, rfl⟩
    · exact ⟨⟨rfl, by decide, fun hk => absurd hk (by decide)⟩, ⟨h, _, _, N, M, P, rfl, rfl, (hR.mf ⟨rfl, rfl, rfl, rfl, rfl, rfl, rfl, rfl⟩ ⟨rfl, rfl, rfl, rfl, rfl, rfl, rfl, rfl, rfl, rfl, rfl, rfl⟩)⟩⟩
    · exfalso; omega
set_option maxHeartbeats 4000000 in
theorem L_holes {D : va_G} {h : Nat → Nat} {f : Nat → Int} {g : Nat → Int → Int} {N : Nat → Nat} {M : Nat → Nat → Nat} {P : List PR} {F : Nat → Int} {G : Nat → Int → Int} {a b c_ : Int}  (hR : RL D f g N M P F G) {k_ z zb : Int} {o' : Nat → Int64} {F' : Nat → Int} {G' : Nat → Int → Int} (hd : (k_ = 0 ∧ (fun (z : Int) (_ : va_W) => ((0 ≤ a ∧ a < f 7) ∧ (0 ≤ b ∧ b < f 0) ∧ 0 ≤ c_ ∧ c_ < f 1) ∧ ∃ r : PR, P[a.toNat]? = some r ∧ (z = fho (f 0) (f 1) (g 5) (r.2.1 0) (r.2.2 0) (r.2.1 5) (6 * b + c_))) z [] ∧ o' 0 = (iI z).toInt64) ∨ (k_ = 1 ∧ (fun (E : String) (_ : Nat) (w : va_W) => E = EN ∧ ¬ ((0 ≤ a ∧ a < f 7) ∧ (0 ≤ b ∧ b < f 0) ∧ 0 ≤ c_ ∧ c_ < f 1) ∧ w = []) EN 0 [])) (hm : sm_holes F G a b c_ zb F' G') : (F' 1 = k_ ∧ (0 ≤ k_ ∧ k_ ≤ 2) ∧ (k_ = 0 → o' 0 = (iI zb).toInt64)) ∧ NX D (h 0) (bW D h f g N M P) F' G' := by
  obtain ⟨⟨hF, hS, ht2, hkd, hth, hht, hri, htp, h7, hN7, hnp, hN6, hpt, hPL, hkc, hkb, hv, hPS⟩, ⟨e0, e1, e2, e9, e10, e7, e6, e11⟩, ⟨g3, g4, g5, g8, g24, g25, g26, g27⟩, hk8, hpl⟩ := id hR
  rcases hd with ⟨rfl, ⟨c, hz⟩, ho⟩ | ⟨rfl, -, hc, -⟩
  · rcases hm with ⟨d, rfl, rfl, rfl⟩ | ⟨d, rfl, rfl, rfl⟩
    · exfalso; omega
    · obtain ⟨r, hr, hz⟩ := hz
      obtain ⟨p1, p2, p3⟩ := hpl _ _ hr
      rw [Int.toNat_of_nonneg (by omega)] at p1 p2 p3
      rw [p2] at p3
      have hcg : ∀ j : Int, 0 ≤ j → j < G 18 a → r.2.2 0 j = (fun k => G 20 (400 * a + k)) j := p3
      simp only [p1, p2, e0, e1, e2, e6, g3, g4, g5, g24, g25, g26, g27] at hz
      simp only [fgo_cg hcg, fho_cg hcg, fti_cg hcg, fle_cg hcg, plc_cg hcg] at hz
      rw [hz] at ho
      exact ⟨⟨rfl, by decide, fun _ => ho⟩, ⟨h, _, _, N, M, P, rfl, rfl, (hR.mf ⟨rfl, rfl, rfl, rfl, rfl, rfl, rfl, rfl⟩ ⟨rfl, rfl, rfl, rfl, rfl, rfl, rfl, rfl, rfl, rfl, rfl, rfl⟩)⟩⟩
  · rcases hm with ⟨d, rfl, rfl, rfl⟩ | ⟨d, rfl, rfl, rfl⟩
    · exact ⟨⟨rfl, by decide, fun hk => absurd hk (by decide)⟩, ⟨h, _, _, N, M, P, rfl, rfl, (hR.mf ⟨rfl, rfl, rfl, rfl, rfl, rfl, rfl, rfl⟩ ⟨rfl, rfl, rfl, rfl, rfl, rfl, rfl, rfl, rfl, rfl, rfl, rfl⟩)⟩⟩
    · exfalso; omega
set_option maxHeartbeats 4000000 in
theorem L_swells {D : va_G} {h : Nat → Nat} {f : Nat → Int} {g : Nat → Int → Int} {N : Nat → Nat} {M : Nat → Nat → Nat} {P : List PR} {F : Nat → Int} {G : Nat → Int → Int} {a b : Int}  (hR : RL D f g N M P F G) {k_ z zb : Int} {o' : Nat → Int64} {F' : Nat → Int} {G' : Nat → Int → Int} (hd : (k_ = 0 ∧ (fun (z : Int) (_ : va_W) => ((0 ≤ a ∧ a < f 7) ∧ 0 ≤ b ∧ b < f 1) ∧ ∃ r : PR, P[a.toNat]? = some r ∧ (z = fswS (g 3) (f 0) + fswP (f 2) b (g 25) (g 26) (fgo (f 6) (g 24) (g 25) (g 26) (f 0) (f 1) (g 5) (r.2.1 0) (r.2.2 0) (r.2.1 5)) (f 6))) z [] ∧ o' 0 = (iI z).toInt64) ∨ (k_ = 1 ∧ (fun (E : String) (_ : Nat) (w : va_W) => E = EN ∧ ¬ ((0 ≤ a ∧ a < f 7) ∧ 0 ≤ b ∧ b < f 1) ∧ w = []) EN 0 [])) (hm : sm_swells F G a b zb F' G') : (F' 1 = k_ ∧ (0 ≤ k_ ∧ k_ ≤ 2) ∧ (k_ = 0 → o' 0 = (iI zb).toInt64)) ∧ NX D (h 0) (bW D h f g N M P) F' G' := by
  obtain ⟨⟨hF, hS, ht2, hkd, hth, hht, hri, htp, h7, hN7, hnp, hN6, hpt, hPL, hkc, hkb, hv, hPS⟩, ⟨e0, e1, e2, e9, e10, e7, e6, e11⟩, ⟨g3, g4, g5, g8, g24, g25, g26, g27⟩, hk8, hpl⟩ := id hR
  rcases hd with ⟨rfl, ⟨c, hz⟩, ho⟩ | ⟨rfl, -, hc, -⟩
  · rcases hm with ⟨d, rfl, rfl, rfl⟩ | ⟨d, rfl, rfl, rfl⟩
    · exfalso; omega
    · obtain ⟨r, hr, hz⟩ := hz
      obtain ⟨p1, p2, p3⟩ := hpl _ _ hr
      rw [Int.toNat_of_nonneg (by omega)] at p1 p2 p3
      rw [p2] at p3
      have hcg : ∀ j : Int, 0 ≤ j → j < G 18 a → r.2.2 0 j = (fun k => G 20 (400 * a + k)) j := p3
      simp only [p1, p2, e0, e1, e2, e6, g3, g4, g5, g24, g25, g26, g27] at hz
      simp only [fgo_cg hcg, fho_cg hcg, fti_cg hcg, fle_cg hcg, plc_cg hcg] at hz
      rw [hz] at ho
      exact ⟨⟨rfl, by decide, fun _ => ho⟩, ⟨h, _, _, N, M, P, rfl, rfl, (hR.mf ⟨rfl, rfl, rfl, rfl, rfl, rfl, rfl, rfl⟩ ⟨rfl, rfl, rfl, rfl, rfl, rfl, rfl, rfl, rfl, rfl, rfl, rfl⟩)⟩⟩
  · rcases hm with ⟨d, rfl, rfl, rfl⟩ | ⟨d, rfl, rfl, rfl⟩
    · exact ⟨⟨rfl, by decide, fun hk => absurd hk (by decide)⟩, ⟨h, _, _, N, M, P, rfl, rfl, (hR.mf ⟨rfl, rfl, rfl, rfl, rfl, rfl, rfl, rfl⟩ ⟨rfl, rfl, rfl, rfl, rfl, rfl, rfl, rfl, rfl, rfl, rfl, rfl⟩)⟩⟩
    · exfalso; omega
set_option maxHeartbeats 4000000 in
theorem L_about {D : va_G} {h : Nat → Nat} {f : Nat → Int} {g : Nat → Int → Int} {N : Nat → Nat} {M : Nat → Nat → Nat} {P : List PR} {F : Nat → Int} {G : Nat → Int → Int} {a v : Int}  (hR : RL D f g N M P F G) {k_ z zb : Int} {o' : Nat → Int64} {F' : Nat → Int} {G' : Nat → Int → Int} (hd : (k_ = 0 ∧ (fun (z : Int) (_ : va_W) => ((0 ≤ a ∧ a < f 7) ∧ 0 ≤ v ∧ v ≤ 8) ∧ ∃ r : PR, P[a.toNat]? = some r ∧ ((v = 0 ∧ z = fle (g 4) (g 3) (f 0) (f 1) (g 5) (r.2.1 0) (r.2.2 0) (r.2.1 5)) ∨ (v = 1 ∧ z = r.2.1 5) ∨ (v = 2 ∧ z = plc (f 0) (f 1) (g 5) (r.2.1 0) (r.2.2 0) (r.2.1 5) / 2 / 6) ∨ (v = 3 ∧ z = plc (f 0) (f 1) (g 5) (r.2.1 0) (r.2.2 0) (r.2.1 5) / 2 % 6) ∨ (v = 4 ∧ z = plc (f 0) (f 1) (g 5) (r.2.1 0) (r.2.2 0) (r.2.1 5) % 2) ∨ (v = 5 ∧ z = bP (plc (f 0) (f 1) (g 5) (r.2.1 0) (r.2.2 0) (r.2.1 5) = r.2.1 0)) ∨ (v = 6 ∧ z = bP (plc (f 0) (f 1) (g 5) (r.2.1 0) (r.2.2 0) (r.2.1 5) = r.2.1 0 ∧ ∀ j, 0 ≤ j → j < f 6 → g 27 j = 0 ∨ 0 < fgo (f 6) (g 24) (g 25) (g 26) (f 0) (f 1) (g 5) (r.2.1 0) (r.2.2 0) (r.2.1 5) j)) ∨ (v = 7 ∧ z = bP (plc (f 0) (f 1) (g 5) (r.2.1 0) (r.2.2 0) (r.2.1 5) = r.2.1 0 ∧ ∀ j, 0 ≤ j → j < f 6 → fgo (f 6) (g 24) (g 25) (g 26) (f 0) (f 1) (g 5) (r.2.1 0) (r.2.2 0) (r.2.1 5) j = g 27 j)) ∨ (v = 8 ∧ z = bP (∀ j, 0 ≤ j → j < f 0 - 1 → 2 ≤ fti (f 0) (f 1) (g 5) (r.2.1 0) (r.2.2 0) (r.2.1 5) j)))) z [] ∧ o' 0 = (iI z).toInt64) ∨ (k_ = 1 ∧ (fun (E : String) (_ : Nat) (w : va_W) => E = EN ∧ ¬ ((0 ≤ a ∧ a < f 7) ∧ 0 ≤ v ∧ v ≤ 8) ∧ w = []) EN 0 [])) (hm : sm_about F G a v zb F' G') : (F' 1 = k_ ∧ (0 ≤ k_ ∧ k_ ≤ 2) ∧ (k_ = 0 → o' 0 = (iI zb).toInt64)) ∧ NX D (h 0) (bW D h f g N M P) F' G' := by
  obtain ⟨⟨hF, hS, ht2, hkd, hth, hht, hri, htp, h7, hN7, hnp, hN6, hpt, hPL, hkc, hkb, hv, hPS⟩, ⟨e0, e1, e2, e9, e10, e7, e6, e11⟩, ⟨g3, g4, g5, g8, g24, g25, g26, g27⟩, hk8, hpl⟩ := id hR
  rcases hd with ⟨rfl, ⟨c, hz⟩, ho⟩ | ⟨rfl, -, hc, -⟩
  · rcases hm with ⟨d, rfl, rfl, rfl⟩ | ⟨d, rfl, rfl, rfl⟩ | ⟨d, rfl, rfl, rfl⟩ | ⟨d, rfl, rfl, rfl⟩ | ⟨d, rfl, rfl, rfl⟩ | ⟨d, rfl, rfl, rfl⟩ | ⟨d, rfl, rfl, rfl⟩ | ⟨d, rfl, rfl, rfl⟩ | ⟨d, rfl, rfl, rfl⟩ | ⟨d, rfl, rfl, rfl⟩ | ⟨d, rfl, rfl, rfl⟩
    · exfalso; omega
    · obtain ⟨r, hr, hz⟩ := hz
      obtain ⟨p1, p2, p3⟩ := hpl _ _ hr
      rw [Int.toNat_of_nonneg (by omega)] at p1 p2 p3
      rw [p2] at p3
      have hcg : ∀ j : Int, 0 ≤ j → j < G 18 a → r.2.2 0 j = (fun k => G 20 (400 * a + k)) j := p3
      simp only [p1, p2, e0, e1, e2, e6, g3, g4, g5, g24, g25, g26, g27] at hz
      simp only [fgo_cg hcg, fho_cg hcg, fti_cg hcg, fle_cg hcg, plc_cg hcg] at hz
      rcases hz with ⟨q, hz⟩ | ⟨q, hz⟩ | ⟨q, hz⟩ | ⟨q, hz⟩ | ⟨q, hz⟩ | ⟨q, hz⟩ | ⟨q, hz⟩ | ⟨q, hz⟩ | ⟨q, hz⟩
      all_goals first | (exfalso; omega) | (rw [hz] at ho; exact ⟨⟨rfl, by decide, fun _ => ho⟩, ⟨h, _, _, N, M, P, rfl, rfl, (hR.mf ⟨rfl, rfl, rfl, rfl, rfl, rfl, rfl, rfl⟩ ⟨rfl, rfl, rfl, rfl, rfl, rfl, rfl, rfl, rfl, rfl, rfl, rfl⟩)⟩⟩)
    · obtain ⟨r, hr, hz⟩ := hz
      obtain ⟨p1, p2, p3⟩ := hpl _ _ hr
      rw [Int.toNat_of_nonneg (by omega)] at p1 p2 p3
      rw [p2] at p3
      have hcg : ∀ j : Int, 0 ≤ j → j < G 18 a → r.2.2 0 j = (fun k => G 20 (400 * a + k)) j := p3
      simp only [p1, p2, e0, e1, e2, e6, g3, g4, g5, g24, g25, g26, g27] at hz
      simp only [fgo_cg hcg, fho_cg hcg, fti_cg hcg, fle_cg hcg, plc_cg hcg] at hz
      rcases hz with ⟨q, hz⟩ | ⟨q, hz⟩ | ⟨q, hz⟩ | ⟨q, hz⟩ | ⟨q, hz⟩ | ⟨q, hz⟩ | ⟨q, hz⟩ | ⟨q, hz⟩ | ⟨q, hz⟩
      all_goals first | (exfalso; omega) | (rw [hz] at ho; exact ⟨⟨rfl, by decide, fun _ => ho⟩, ⟨h, _, _, N, M, P, rfl, rfl, (hR.mf ⟨rfl, rfl, rfl, rfl, rfl, rfl, rfl, rfl⟩ ⟨rfl, rfl, rfl, rfl, rfl, rfl, rfl, rfl, rfl, rfl, rfl, rfl⟩)⟩⟩)
    · obtain ⟨r, hr, hz⟩ := hz
      obtain ⟨p1, p2, p3⟩ := hpl _ _ hr
      rw [Int.toNat_of_nonneg (by omega)] at p1 p2 p3
      rw [p2] at p3
      have hcg : ∀ j : Int, 0 ≤ j → j < G 18 a → r.2.2 0 j = (fun k => G 20 (400 * a + k)) j := p3
      simp only [p1, p2, e0, e1, e2, e6, g3, g4, g5, g24, g25, g26, g27] at hz
      simp only [fgo_cg hcg, fho_cg hcg, fti_cg hcg, fle_cg hcg, plc_cg hcg] at hz
      rcases hz with ⟨q, hz⟩ | ⟨q, hz⟩ | ⟨q, hz⟩ | ⟨q, hz⟩ | ⟨q, hz⟩ | ⟨q, hz⟩ | ⟨q, hz⟩ | ⟨q, hz⟩ | ⟨q, hz⟩
      all_goals first | (exfalso; omega) | (rw [hz] at ho; exact ⟨⟨rfl, by decide, fun _ => ho⟩, ⟨h, _, _, N, M, P, rfl, rfl, (hR.mf ⟨rfl, rfl, rfl, rfl, rfl, rfl, rfl, rfl⟩ ⟨rfl, rfl, rfl, rfl, rfl, rfl, rfl, rfl, rfl, rfl, rfl, rfl⟩)⟩⟩)
    · obtain ⟨r, hr, hz⟩ := hz
      obtain ⟨p1, p2, p3⟩ := hpl _ _ hr
      rw [Int.toNat_of_nonneg (by omega)] at p1 p2 p3
      rw [p2] at p3
      have hcg : ∀ j : Int, 0 ≤ j → j < G 18 a → r.2.2 0 j = (fun k => G 20 (400 * a + k)) j := p3
      simp only [p1, p2, e0, e1, e2, e6, g3, g4, g5, g24, g25, g26, g27] at hz
      simp only [fgo_cg hcg, fho_cg hcg, fti_cg hcg, fle_cg hcg, plc_cg hcg] at hz
      rcases hz with ⟨q, hz⟩ | ⟨q, hz⟩ | ⟨q, hz⟩ | ⟨q, hz⟩ | ⟨q, hz⟩ | ⟨q, hz⟩ | ⟨q, hz⟩ | ⟨q, hz⟩ | ⟨q, hz⟩
      all_goals first | (exfalso; omega) | (rw [hz] at ho; exact ⟨⟨rfl, by decide, fun _ => ho⟩, ⟨h, _, _, N, M, P, rfl, rfl, (hR.mf ⟨rfl, rfl, rfl, rfl, rfl, rfl, rfl, rfl⟩ ⟨rfl, rfl, rfl, rfl, rfl, rfl, rfl, rfl, rfl, rfl, rfl, rfl⟩)⟩⟩)
    · obtain ⟨r, hr, hz⟩ := hz
      obtain ⟨p1, p2, p3⟩ := hpl _ _ hr
      rw [Int.toNat_of_nonneg (by omega)] at p1 p2 p3
      rw [p2] at p3
      have hcg : ∀ j : Int, 0 ≤ j → j < G 18 a → r.2.2 0 j = (fun k => G 20 (400 * a + k)) j := p3
      simp only [p1, p2, e0, e1, e2, e6, g3, g4, g5, g24, g25, g26, g27] at hz
      simp only [fgo_cg hcg, fho_cg hcg, fti_cg hcg, fle_cg hcg, plc_cg hcg] at hz
      rcases hz with ⟨q, hz⟩ | ⟨q, hz⟩ | ⟨q, hz⟩ | ⟨q, hz⟩ | ⟨q, hz⟩ | ⟨q, hz⟩ | ⟨q, hz⟩ | ⟨q, hz⟩ | ⟨q, hz⟩
      all_goals first | (exfalso; omega) | (rw [hz] at ho; exact ⟨⟨rfl, by decide, fun _ => ho⟩, ⟨h, _, _, N, M, P, rfl, rfl, (hR.mf ⟨rfl, rfl, rfl, rfl, rfl, rfl, rfl, rfl⟩ ⟨rfl, rfl, rfl, rfl, rfl, rfl, rfl, rfl, rfl, rfl, rfl, rfl⟩)⟩⟩)
    · obtain ⟨r, hr, hz⟩ := hz
      obtain ⟨p1, p2, p3⟩ := hpl _ _ hr
      rw [Int.toNat_of_nonneg (by omega)] at p1 p2 p3
      rw [p2] at p3
      have hcg : ∀ j : Int, 0 ≤ j → j < G 18 a → r.2.2 0 j = (fun k => G 20 (400 * a + k)) j := p3
      simp only [p1, p2, e0, e1, e2, e6, g3, g4, g5, g24, g25, g26, g27] at hz
      simp only [fgo_cg hcg, fho_cg hcg, fti_cg hcg, fle_cg hcg, plc_cg hcg] at hz
      rcases hz with ⟨q, hz⟩ | ⟨q, hz⟩ | ⟨q, hz⟩ | ⟨q, hz⟩ | ⟨q, hz⟩ | ⟨q, hz⟩ | ⟨q, hz⟩ | ⟨q, hz⟩ | ⟨q, hz⟩
      all_goals first | (exfalso; omega) | (rw [hz] at ho; exact ⟨⟨rfl, by decide, fun _ => ho⟩, ⟨h, _, _, N, M, P, rfl, rfl, (hR.mf ⟨rfl, rfl, rfl, rfl, rfl, rfl, rfl, rfl⟩ ⟨rfl, rfl, rfl, rfl, rfl, rfl, rfl, rfl, rfl, rfl, rfl, rfl⟩)⟩⟩)
    · obtain ⟨r, hr, hz⟩ := hz
      obtain ⟨p1, p2, p3⟩ := hpl _ _ hr
      rw [Int.toNat_of_nonneg (by omega)] at p1 p2 p3
      rw [p2] at p3
      have hcg : ∀ j : Int, 0 ≤ j → j < G 18 a → r.2.2 0 j = (fun k => G 20 (400 * a + k)) j := p3
      simp only [p1, p2, e0, e1, e2, e6, g3, g4, g5, g24, g25, g26, g27] at hz
      simp only [fgo_cg hcg, fho_cg hcg, fti_cg hcg, fle_cg hcg, plc_cg hcg] at hz
      rcases hz with ⟨q, hz⟩ | ⟨q, hz⟩ | ⟨q, hz⟩ | ⟨q, hz⟩ | ⟨q, hz⟩ | ⟨q, hz⟩ | ⟨q, hz⟩ | ⟨q, hz⟩ | ⟨q, hz⟩
      all_goals first | (exfalso; omega) | (rw [hz] at ho; exact ⟨⟨rfl, by decide, fun _ => ho⟩, ⟨h, _, _, N, M, P, rfl, rfl, (hR.mf ⟨rfl, rfl, rfl, rfl, rfl, rfl, rfl, rfl⟩ ⟨rfl, rfl, rfl, rfl, rfl, rfl, rfl, rfl, rfl, rfl, rfl, rfl⟩)⟩⟩)
    · obtain ⟨r, hr, hz⟩ := hz
      obtain ⟨p1, p2, p3⟩ := hpl _ _ hr
      rw [Int.toNat_of_nonneg (by omega)] at p1 p2 p3
      rw [p2] at p3
      have hcg : ∀ j : Int, 0 ≤ j → j < G 18 a → r.2.2 0 j = (fun k => G 20 (400 * a + k)) j := p3
      simp only [p1, p2, e0, e1, e2, e6, g3, g4, g5, g24, g25, g26, g27] at hz
      simp only [fgo_cg hcg, fho_cg hcg, fti_cg hcg, fle_cg hcg, plc_cg hcg] at hz
      rcases hz with ⟨q, hz⟩ | ⟨q, hz⟩ | ⟨q, hz⟩ | ⟨q, hz⟩ | ⟨q, hz⟩ | ⟨q, hz⟩ | ⟨q, hz⟩ | ⟨q, hz⟩ | ⟨q, hz⟩
      all_goals first | (exfalso; omega) | (rw [hz] at ho; exact ⟨⟨rfl, by decide, fun _ => ho⟩, ⟨h, _, _, N, M, P, rfl, rfl, (hR.mf ⟨rfl, rfl, rfl, rfl, rfl, rfl, rfl, rfl⟩ ⟨rfl, rfl, rfl, rfl, rfl, rfl, rfl, rfl, rfl, rfl, rfl, rfl⟩)⟩⟩)
    · obtain ⟨r, hr, hz⟩ := hz
      obtain ⟨p1, p2, p3⟩ := hpl _ _ hr
      rw [Int.toNat_of_nonneg (by omega)] at p1 p2 p3
      rw [p2] at p3
      have hcg : ∀ j : Int, 0 ≤ j → j < G 18 a → r.2.2 0 j = (fun k => G 20 (400 * a + k)) j := p3
      simp only [p1, p2, e0, e1, e2, e6, g3, g4, g5, g24, g25, g26, g27] at hz
      simp only [fgo_cg hcg, fho_cg hcg, fti_cg hcg, fle_cg hcg, plc_cg hcg] at hz
      rcases hz with ⟨q, hz⟩ | ⟨q, hz⟩ | ⟨q, hz⟩ | ⟨q, hz⟩ | ⟨q, hz⟩ | ⟨q, hz⟩ | ⟨q, hz⟩ | ⟨q, hz⟩ | ⟨q, hz⟩
      all_goals first | (exfalso; omega) | (rw [hz] at ho; exact ⟨⟨rfl, by decide, fun _ => ho⟩, ⟨h, _, _, N, M, P, rfl, rfl, (hR.mf ⟨rfl, rfl, rfl, rfl, rfl, rfl, rfl, rfl⟩ ⟨rfl, rfl, rfl, rfl, rfl, rfl, rfl, rfl, rfl, rfl, rfl, rfl⟩)⟩⟩)
    · exfalso; omega
  · rcases hm with ⟨d, rfl, rfl, rfl⟩ | ⟨d, rfl, rfl, rfl⟩ | ⟨d, rfl, rfl, rfl⟩ | ⟨d, rfl, rfl, rfl⟩ | ⟨d, rfl, rfl, rfl⟩ | ⟨d, rfl, rfl, rfl⟩ | ⟨d, rfl, rfl, rfl⟩ | ⟨d, rfl, rfl, rfl⟩ | ⟨d, rfl, rfl, rfl⟩ | ⟨d, rfl, rfl, rfl⟩ | ⟨d, rfl, rfl, rfl⟩
    · exact ⟨⟨rfl, by decide, fun hk => absurd hk (by decide)⟩, ⟨h, _, _, N, M, P, rfl, rfl, (hR.mf ⟨rfl, rfl, rfl, rfl, rfl, rfl, rfl, rfl⟩ ⟨rfl, rfl, rfl, rfl, rfl, rfl, rfl, rfl, rfl, rfl, rfl, rfl⟩)⟩⟩
    iterate 9 (exfalso; omega)
    exact ⟨⟨rfl, by decide, fun hk => absurd hk (by decide)⟩, ⟨h, _, _, N, M, P, rfl, rfl, (hR.mf ⟨rfl, rfl, rfl, rfl, rfl, rfl, rfl, rfl⟩ ⟨rfl, rfl, rfl, rfl, rfl, rfl, rfl, rfl, rfl, rfl, rfl, rfl⟩)⟩⟩
set_option maxHeartbeats 4000000 in
theorem L_loose {D : va_G} {h : Nat → Nat} {f : Nat → Int} {g : Nat → Int → Int} {N : Nat → Nat} {M : Nat → Nat → Nat} {P : List PR} {F : Nat → Int} {G : Nat → Int → Int} {a b : Int}  (hR : RL D f g N M P F G) {k_ z zb : Int} {w1 : va_W} {o' : Nat → Int64} {F' : Nat → Int} {G' : Nat → Int → Int} (hd : (k_ = 0 ∧ (fun (z : Int) (w : va_W) => ((0 ≤ a ∧ a < f 7) ∧ ∃ r : PR, P[a.toNat]? = some r ∧ (0 ≤ b ∧ b < r.2.1 5)) ∧ (∃ r : PR, P[a.toNat]? = some r ∧ LSok z (GL (f 0) (fun j => offs (bP (plc (f 0) (f 1) (g 5) (r.2.1 0) (r.2.2 0) (r.2.1 5) = r.2.1 0)) (r.2.1 5) (r.2.2 0) b j = 0 ∧ alg (f 6) (g 24) (g 25) (g 26) (plc (f 0) (f 1) (g 5) (r.2.1 0) (r.2.2 0) j) (r.2.2 0 j) ≠ -1) (fun j => plc (f 0) (f 1) (g 5) (r.2.1 0) (r.2.2 0) j / 2 / 6) (r.2.1 5))) ∧ w = sW D h f g N M (ptW (M 6) (g 24) (g 25) (g 26) (g 27) (f 6) ++ plW D P)) z w1 ∧ o' 0 = (iI z).toInt64) ∨ (k_ = 1 ∧ (fun (E : String) (_ : Nat) (w : va_W) => E = EN ∧ (¬ (0 ≤ a ∧ a < f 7) ∨ ∃ r : PR, P[a.toNat]? = some r ∧ ¬ (0 ≤ b ∧ b < r.2.1 5)) ∧ w = sW D h f g N M (ptW (M 6) (g 24) (g 25) (g 26) (g 27) (f 6) ++ plW D P)) EN 0 w1)) (hm : sm_loose F G a b zb F' G') : (F' 1 = k_ ∧ (0 ≤ k_ ∧ k_ ≤ 2) ∧ (k_ = 0 → o' 0 = (iI zb).toInt64)) ∧ NX D (h 0) (w1) F' G' := by
  obtain ⟨⟨hF, hS, ht2, hkd, hth, hht, hri, htp, h7, hN7, hnp, hN6, hpt, hPL, hkc, hkb, hv, hPS⟩, ⟨e0, e1, e2, e9, e10, e7, e6, e11⟩, ⟨g3, g4, g5, g8, g24, g25, g26, g27⟩, hk8, hpl⟩ := id hR
  rcases hd with ⟨rfl, ⟨⟨c, r0, hr0, hb0⟩, hz, rfl⟩, ho⟩ | ⟨rfl, -, hc, rfl⟩
  · rcases hm with ⟨d, rfl, rfl, rfl⟩ | ⟨d, y27, hzb, rfl, rfl⟩
    · exfalso
      obtain ⟨p1, p2, p3⟩ := hpl _ _ hr0
      rw [Int.toNat_of_nonneg (by omega)] at p1 p2 p3
      omega
    · obtain ⟨r, hr, hz⟩ := hz
      obtain ⟨p1, p2, p3⟩ := hpl _ _ hr
      rw [Int.toNat_of_nonneg (by omega)] at p1 p2 p3
      rw [p2] at p3
      have hcg : ∀ j : Int, 0 ≤ j → j < G 18 a → r.2.2 0 j = (fun k => G 20 (400 * a + k)) j := p3
      have hn : 0 < G 18 a := by omega
      simp only [p1, p2, e0, e1, e2, e6, g3, g4, g5, g24, g25, g26, g27] at hz
      simp only [plc_cg hcg, offs_cg hn hcg] at hz
      have hzz : z = zb := LSok_un hz hzb (fun i i0 i1 => by
        have hk : ∀ j, 0 ≤ j → j < G 18 a → plc (F 2) (F 3) (G 12) (G 19 a) (r.2.2 0) j = plc (F 2) (F 3) (G 12) (G 19 a) (fun k => G 20 (400 * a + k)) j := fun j j0 j1 => plc_cg (fun i i0 i1 => hcg i i0 (by omega))
        unfold GL
        refine and_congr Iff.rfl (not_congr ?_)
        constructor
        · rintro ⟨j, j0, j1, ⟨q1, q2⟩, q3⟩
          have q3 : plc (F 2) (F 3) (G 12) (G 19 a) (r.2.2 0) j / 2 / 6 = i := q3
          rw [hk j j0 j1] at q2 q3
          rw [hcg j j0 j1] at q2
          exact ⟨j, j0, j1, ⟨q1, q2⟩, q3⟩
        · rintro ⟨j, j0, j1, ⟨q1, q2⟩, q3⟩
          refine ⟨j, j0, j1, ⟨q1, ?_⟩, ?_⟩
          · rw [hk j j0 j1, hcg j j0 j1]; exact q2
          · show plc (F 2) (F 3) (G 12) (G 19 a) (r.2.2 0) j / 2 / 6 = i
            rw [hk j j0 j1]; exact q3)
      rw [hzz] at ho
      exact ⟨⟨rfl, by decide, fun _ => ho⟩, ⟨h, _, _, N, M, P, rfl, rfl, (hR.mf ⟨rfl, rfl, rfl, rfl, rfl, rfl, rfl, rfl⟩ ⟨rfl, rfl, rfl, rfl, rfl, rfl, rfl, rfl, rfl, rfl, rfl, rfl⟩)⟩⟩
  · rcases hm with ⟨d, rfl, rfl, rfl⟩ | ⟨d, y27, hzb, rfl, rfl⟩
    · exact ⟨⟨rfl, by decide, fun hk => absurd hk (by decide)⟩, ⟨h, _, _, N, M, P, rfl, rfl, (hR.mf ⟨rfl, rfl, rfl, rfl, rfl, rfl, rfl, rfl⟩ ⟨rfl, rfl, rfl, rfl, rfl, rfl, rfl, rfl, rfl, rfl, rfl, rfl⟩)⟩⟩
    · exfalso
      rcases hc with hc | ⟨r, hr, hc⟩
      · omega
      · obtain ⟨p1, p2, p3⟩ := hpl _ _ hr
        rw [Int.toNat_of_nonneg (by omega)] at p1 p2 p3
        omega
set_option maxHeartbeats 4000000 in
theorem L_plan {D : va_G} {h : Nat → Nat} {f : Nat → Int} {g : Nat → Int → Int} {N : Nat → Nat} {M : Nat → Nat → Nat} {P : List PR} {F : Nat → Int} {G : Nat → Int → Int} {n1 a c1 : Int}  (hR : RL D f g N M P F G) {k_ z zb : Int} {w1 : va_W} {o' : Nat → Int64} {F' : Nat → Int} {G' : Nat → Int → Int} (hd : (k_ = 0 ∧ (fun (z : Int) (w : va_W) => (((0 ≤ a ∧ a < f 0) ∧ (0 ≤ c1 ∧ c1 < f 1)) ∧ (0 ≤ n1 ∧ n1 ≤ f 9)) ∧ ((f 7 = 8 ∧ z = -9 ∧ w = sW D h (up (up f 9 0) 10 (-1)) g N M (ptW (M 6) (g 24) (g 25) (g 26) (g 27) (f 6) ++ plW D P)) ∨ (f 7 < 8 ∧ ∃ x : Int, RDf (f 0) (f 1) (g 5) (tpS (g 8)) (2 * (6 * a + c1) + 0) n1 x z ∧ w = sW D h (up (up f 9 0) 10 x) g N M (ptW (M 6) (g 24) (g 25) (g 26) (g 27) (f 6) ++ plW D P)) ∨ (f 7 < 8 ∧ RDo (f 0) (f 1) (g 5) (tpS (g 8)) (2 * (6 * a + c1) + 0) n1 ∧ z = f 7 ∧ ∃ (pq : Nat → Nat) (pz : Nat → Int) (pv : Nat → Int → Int) (b1 : Nat), PV f g pq pz pv ∧ pz 0 = 2 * (6 * a + c1) + 0 ∧ pz 5 = rdc (tpS (g 8)) n1 ∧ (∀ j, 0 ≤ j → j < pz 5 → pv 0 j = rdv (tpS (g 8)) n1 j) ∧ w = sW D (uN h 22 b1) (up (up (up (up f 7 (f 7 + 1)) 9 0) 10 (-1)) 22 (f 22 + 1)) g (uN N 7 (grC (N 7) (f 7))) (uM M 7 (paU (M 7) (f 7) (pq 0))) (ptW (M 6) (g 24) (g 25) (g 26) (g 27) (f 6) ++ plW D (P ++ [(pq, pz, pv)]))))) z w1 ∧ o' 0 = (iI z).toInt64) ∨ (k_ = 1 ∧ (fun (E : String) (_ : Nat) (w : va_W) => w = sW D h f g N M (ptW (M 6) (g 24) (g 25) (g 26) (g 27) (f 6) ++ plW D P) ∧ ((E = EN ∧ ¬ ((0 ≤ a ∧ a < f 0) ∧ (0 ≤ c1 ∧ c1 < f 1))) ∨ (E = EI ∧ ((0 ≤ a ∧ a < f 0) ∧ (0 ≤ c1 ∧ c1 < f 1)) ∧ ¬ (0 ≤ n1 ∧ n1 ≤ f 9)))) EN 0 w1) ∨ (k_ = 2 ∧ (fun (E : String) (_ : Nat) (w : va_W) => w = sW D h f g N M (ptW (M 6) (g 24) (g 25) (g 26) (g 27) (f 6) ++ plW D P) ∧ ((E = EN ∧ ¬ ((0 ≤ a ∧ a < f 0) ∧ (0 ≤ c1 ∧ c1 < f 1))) ∨ (E = EI ∧ ((0 ≤ a ∧ a < f 0) ∧ (0 ≤ c1 ∧ c1 < f 1)) ∧ ¬ (0 ≤ n1 ∧ n1 ≤ f 9)))) EI 0 w1)) (hm : sm_plan F G n1 a c1 zb F' G') : (F' 1 = k_ ∧ (0 ≤ k_ ∧ k_ ≤ 2) ∧ (k_ = 0 → o' 0 = (iI zb).toInt64)) ∧ NX D (h 0) (w1) F' G' := by
  obtain ⟨⟨hF, hS, ht2, hkd, hth, hht, hri, htp, h7, hN7, hnp, hN6, hpt, hPL, hkc, hkb, hv, hPS⟩, ⟨e0, e1, e2, e9, e10, e7, e6, e11⟩, ⟨g3, g4, g5, g8, g24, g25, g26, g27⟩, hk8, hpl⟩ := id hR
  rcases hd with ⟨rfl, ⟨c, hz⟩, ho⟩ | ⟨rfl, rfl, ⟨-, hc⟩ | ⟨hE, -⟩⟩ | ⟨rfl, rfl, ⟨hE, -⟩ | ⟨-, hc1, hc2⟩⟩
  · rcases hm with ⟨d, rfl, rfl, rfl⟩ | ⟨d, rfl, rfl, rfl⟩ | ⟨d, rfl, rfl, rfl⟩ | ⟨d, k, y20, hrd, hy, rfl, rfl⟩ | ⟨d, rfl, y20, hrd, hy, hy2, rfl, rfl⟩
    · exfalso; omega
    · exfalso; omega
    · rcases hz with ⟨c8, rfl, rfl⟩ | ⟨c8, -⟩ | ⟨c8, -⟩
      · exact ⟨⟨rfl, by decide, fun _ => ho⟩, h, up (up f 9 0) 10 (-1), g, N, M, P, rfl, rfl, ⟨⟨hF, hS, ht2, hkd, hth, hht, hri, (show (0 : Int) ≤ 0 ∧ (0 : Int) ≤ 400 by decide), h7, hN7, hnp, hN6, hpt, hPL, hkc, hkb, hv, hPS⟩, ⟨e0, e1, e2, rfl, rfl, e7, e6, e11⟩, ⟨g3, g4, g5, g8, g24, g25, g26, g27⟩, hk8, hpl⟩⟩
      · exfalso; omega
      · exfalso; omega
    · rw [← e0, ← e1, ← g5, ← g8] at hrd
      rcases hz with ⟨c8, -⟩ | ⟨c8, x, hx, rfl⟩ | ⟨c8, hx, -⟩
      · exfalso; omega
      · obtain ⟨rfl, rfl⟩ := RDf_eq hx hrd
        exact ⟨⟨rfl, by decide, fun _ => ho⟩, h, up (up f 9 0) 10 x, g, N, M, P, rfl, rfl, ⟨⟨hF, hS, ht2, hkd, hth, hht, hri, (show (0 : Int) ≤ 0 ∧ (0 : Int) ≤ 400 by decide), h7, hN7, hnp, hN6, hpt, hPL, hkc, hkb, hv, hPS⟩, ⟨e0, e1, e2, rfl, rfl, e7, e6, e11⟩, ⟨g3, g4, g5, g8, g24, g25, g26, g27⟩, hk8, (fun i r hr => ⟨(hpl i r hr).1, (hpl i r hr).2.1, fun j j0 j1 => by rw [(hpl i r hr).2.2 j j0 j1]; exact (hy _ (by have h3 := (hPS.2 i r hr).2.1.2.1; have h4 := hPS.1; have h5 := (List.getElem?_eq_some_iff.mp hr).1; omega)).symm⟩)⟩⟩
      · exact absurd hx (RDf_no hrd hrd.1.2)
    · rw [← e0, ← e1, ← g5, ← g8] at hrd
      rw [← g8] at hy2
      rcases hz with ⟨c8, -⟩ | ⟨c8, x, hx, -⟩ | ⟨c8, hx, rfl, pq, pz, pv, b1, hPV, hz0, hz5, hpv, rfl⟩
      · exfalso; omega
      · exact absurd hrd (RDf_no hx hx.1.2)
      · have hl := hPS.1
        refine ⟨⟨rfl, by decide, fun _ => by rw [ho, e7]⟩, uN h 22 b1, up (up (up (up f 7 (f 7 + 1)) 9 0) 10 (-1)) 22 (f 22 + 1), g, uN N 7 (grC (N 7) (f 7)), uM M 7 (paU (M 7) (f 7) (pq 0)), P ++ [(pq, pz, pv)], rfl, rfl, ⟨⟨hF, hS, ht2, hkd, hth, hht, hri, (show (0 : Int) ≤ 0 ∧ (0 : Int) ≤ 400 by decide), ⟨by show 0 ≤ f 7 + 1; omega, by show f 7 + 1 ≤ 8; omega⟩, ?_, hnp, hN6, hpt, hPL, hkc, hkb, hv, ⟨?_, ?_⟩⟩, ⟨e0, e1, e2, rfl, rfl, by show f 7 + 1 = F 7 + 1; rw [e7], e6, e11⟩, ⟨g3, g4, g5, g8, g24, g25, g26, g27⟩, hk8, ?_⟩⟩
        · show f 7 + 1 ≤ (grC (N 7) (f 7) : Nat) ∧ 1 ≤ grC (N 7) (f 7) ∧ grC (N 7) (f 7) ≤ 12
          unfold grC grN
          split
          · split <;> omega
          · omega
        · show f 7 + 1 = ((P ++ [(pq, pz, pv)]).length : Int)
          rw [List.length_append]; simp only [List.length_singleton]; omega
        · intro i r hr
          show paU (M 7) (f 7) (pq 0) i = r.1 0 ∧ PV f g r.1 r.2.1 r.2.2
          by_cases hi : i < P.length
          · rw [List.getElem?_append_left hi] at hr
            obtain ⟨a1, a2⟩ := hPS.2 i r hr
            refine ⟨?_, a2⟩
            unfold paU
            rw [if_neg (by omega), a1]
          · have hi2 := (List.getElem?_eq_some_iff.mp hr).1
            rw [List.length_append] at hi2
            simp only [List.length_singleton] at hi2
            have hi3 : i = P.length := by omega
            subst hi3
            rw [List.getElem?_append_right (Nat.le_refl _), Nat.sub_self] at hr
            cases hr
            refine ⟨?_, hPV⟩
            unfold paU
            rw [if_pos (by omega)]
        · intro i r hr
          show r.2.1 0 = uI (G 19) (F 7) (2 * (6 * a + c1) + 0) i ∧ r.2.1 5 = uI (G 18) (F 7) (rdc (G 13) n1) i ∧ ∀ j, 0 ≤ j → j < r.2.1 5 → r.2.2 0 j = y20 (400 * (i : Int) + j)
          by_cases hi : i < P.length
          · rw [List.getElem?_append_left hi] at hr
            obtain ⟨a1, a2, a3⟩ := hpl i r hr
            have h3 := (hPS.2 i r hr).2.1.2.1
            refine ⟨by rw [uI_n (by omega), a1], by rw [uI_n (by omega), a2], fun j j0 j1 => ?_⟩
            rw [a3 j j0 j1, hy _ (by omega)]
          · have hi2 := (List.getElem?_eq_some_iff.mp hr).1
            rw [List.length_append] at hi2
            simp only [List.length_singleton] at hi2
            have hi3 : i = P.length := by omega
            subst hi3
            rw [List.getElem?_append_right (Nat.le_refl _), Nat.sub_self] at hr
            cases hr
            have e8 : ((P.length : Nat) : Int) = F 7 := by omega
            rw [e8, uI_s, uI_s, ← g8]
            refine ⟨hz0, hz5, fun j j0 j1 => ?_⟩
            have j1' : j < pz 5 := j1
            rw [hy2 j j0 (by omega)]
            exact hpv j j0 j1
  · rcases hm with ⟨d, rfl, rfl, rfl⟩ | ⟨d, rfl, rfl, rfl⟩ | ⟨d, rfl, rfl, rfl⟩ | ⟨d, k, y20, hrd, hy, rfl, rfl⟩ | ⟨d, rfl, y20, hrd, hy, hy2, rfl, rfl⟩
    · exact ⟨⟨rfl, by decide, fun hk => absurd hk (by decide)⟩, ⟨h, _, _, N, M, P, rfl, rfl, (hR.mf ⟨rfl, rfl, rfl, rfl, rfl, rfl, rfl, rfl⟩ ⟨rfl, rfl, rfl, rfl, rfl, rfl, rfl, rfl, rfl, rfl, rfl, rfl⟩)⟩⟩
    all_goals (exfalso; omega)
  · exact absurd hE (by decide)
  · exact absurd hE (by decide)
  · rcases hm with ⟨d, rfl, rfl, rfl⟩ | ⟨d, rfl, rfl, rfl⟩ | ⟨d, rfl, rfl, rfl⟩ | ⟨d, k, y20, hrd, hy, rfl, rfl⟩ | ⟨d, rfl, y20, hrd, hy, hy2, rfl, rfl⟩
    · exfalso; omega
    · exact ⟨⟨rfl, by decide, fun hk => absurd hk (by decide)⟩, ⟨h, _, _, N, M, P, rfl, rfl, (hR.mf ⟨rfl, rfl, rfl, rfl, rfl, rfl, rfl, rfl⟩ ⟨rfl, rfl, rfl, rfl, rfl, rfl, rfl, rfl, rfl, rfl, rfl, rfl⟩)⟩⟩
    all_goals (exfalso; omega)
set_option maxHeartbeats 4000000 in
theorem L_best {D : va_G} {h : Nat → Nat} {f : Nat → Int} {g : Nat → Int → Int} {N : Nat → Nat} {M : Nat → Nat → Nat} {P : List PR} {F : Nat → Int} {G : Nat → Int → Int} {a cl : Int}  (hR : RL D f g N M P F G) {k_ z zb : Int} {w1 : va_W} {o' : Nat → Int64} {F' : Nat → Int} {G' : Nat → Int → Int} (hd : (k_ = 0 ∧ (fun (z : Int) (w : va_W) => (0 ≤ a ∧ a < f 1) ∧ ((10 < ndc (g 27) (f 6) ∧ z = -1 ∧ w = sW D h f g N M (ptW (M 6) (g 24) (g 25) (g 26) (g 27) (f 6) ++ (plW D P))) ∨ (ndc (g 27) (f 6) ≤ 10 ∧ ∃ y12 : Int → Int, ∃ y13 : Int → Int, ∃ y14 : Int → Int, ∃ y15 : Int → Int, ∃ y16 : Int → Int, ∃ y17 : Int → Int, ∃ y18 : Int → Int, ∃ y19 : Int → Int, z = -1 ∧ Bel 1000000000 1024 (LDc (f 0) (f 1) (g 5)) (LNc (g 4) (g 3)) (CVc (f 6) (g 24) (g 25) (g 26) (g 27)) cl (2 ^ (ndc (g 27) (f 6)).toNat) (2 * (6 * 0 + a) + 0) y12 ∧ 1000000000 ≤ y12 (2 * (6 * 0 + a) + 0) ∧ (∀ j, 0 ≤ j → j < 61440 → 0 ≤ y12 j ∧ y12 j ≤ 1000000000) ∧ w = sW D h f (ug (ug (ug (ug (ug (ug (ug (ug g 12 y12) 13 y13) 14 y14) 15 y15) 16 y16) 17 y17) 18 y18) 19 y19) N M (ptW (M 6) (g 24) (g 25) (g 26) (g 27) (f 6) ++ (plW D P))) ∨ (ndc (g 27) (f 6) ≤ 10 ∧ ∃ y12 : Int → Int, ∃ y13 : Int → Int, ∃ y14 : Int → Int, ∃ y15 : Int → Int, ∃ y16 : Int → Int, ∃ y17 : Int → Int, ∃ y18 : Int → Int, ∃ y19 : Int → Int, ∃ (km k23 : Int) (kb kc : Nat) (ky : Int → Int), z = y12 (2 * (6 * 0 + a) + 0) / 1024 ∧ Bel 1000000000 1024 (LDc (f 0) (f 1) (g 5)) (LNc (g 4) (g 3)) (CVc (f 6) (g 24) (g 25) (g 26) (g 27)) cl (2 ^ (ndc (g 27) (f 6)).toNat) (2 * (6 * 0 + a) + 0) y12 ∧ y12 (2 * (6 * 0 + a) + 0) < 1000000000 ∧ KP 1000000000 1024 y12 (LDc (f 0) (f 1) (g 5)) (LNc (g 4) (g 3)) (CVc (f 6) (g 24) (g 25) (g 26) (g 27)) cl (2 * (6 * 0 + a) + 0) km ky ∧ (∀ j, 0 ≤ j → j < km → 0 ≤ ky j ∧ ky j < 8) ∧ (8 ≤ kc ∧ kc ≤ 990 ∧ km ≤ kc) ∧ (∀ j, 0 ≤ j → j < 61440 → 0 ≤ y12 j ∧ y12 j ≤ 1000000000) ∧ w = sW D (uN h 23 kb) (up (up f 11 km) 23 k23) (ug (ug (ug (ug (ug (ug (ug (ug g 12 y12) 13 y13) 14 y14) 15 y15) 16 y16) 17 y17) 18 y18) 19 y19) (uN N 11 kc) (uM M 11 (bxA D ky)) (ptW (M 6) (g 24) (g 25) (g 26) (g 27) (f 6) ++ (plW D P))))) z w1 ∧ o' 0 = (iI z).toInt64) ∨ (k_ = 1 ∧ (fun (E : String) (_ : Nat) (w : va_W) => E = EN ∧ ¬ (0 ≤ a ∧ a < f 1) ∧ w = sW D h f g N M (ptW (M 6) (g 24) (g 25) (g 26) (g 27) (f 6) ++ (plW D P))) EN 0 w1)) (hm : sm_best F G a cl zb F' G') : (F' 1 = k_ ∧ (0 ≤ k_ ∧ k_ ≤ 2) ∧ (k_ = 0 → o' 0 = (iI zb).toInt64)) ∧ NX D (h 0) (w1) F' G' := by
  obtain ⟨⟨hF, hS, ht2, hkd, hth, hht, hri, htp, h7, hN7, hnp, hN6, hpt, hPL, hkc, hkb, hv, hPS⟩, ⟨e0, e1, e2, e9, e10, e7, e6, e11⟩, ⟨g3, g4, g5, g8, g24, g25, g26, g27⟩, hk8, hpl⟩ := id hR
  have hpn : ∀ j, 0 ≤ j → j < f 6 → 0 ≤ g 27 j ∧ g 27 j ≤ 1 := fun j h0 h1 => (hpt j h0 h1).2.2.2
  have hnd := ndc_rg hpn hnp.1 (Int.le_refl _)
  have hTB := TB_c (pf := g 24) (ps := g 25) (pk := g 26) (kd := g 5) hF hS hnp.1 hpn hth hht hri
  simp only [sm_best, ← e0, ← e1, ← e6, ← g3, ← g4, ← g5, ← g24, ← g25, ← g26, ← g27] at hm
  rcases hd with ⟨rfl, ⟨c, ⟨c1, rfl, rfl⟩ | ⟨c1, y12, y13, y14, y15, y16, y17, y18, y19, rfl, hB, hf, hy, rfl⟩ | ⟨c1, y12, y13, y14, y15, y16, y17, y18, y19, km, k23, kb, kc, ky, rfl, hB, hf, hK, hk7, hkc2, hy, rfl⟩⟩, ho⟩ | ⟨rfl, -, hc, rfl⟩
  · rcases hm with ⟨d, rfl, rfl, rfl⟩ | ⟨d, rfl, y29, rfl, rfl⟩ | ⟨d, -⟩ | ⟨d, -⟩
    · exfalso; omega
    · exact ⟨⟨rfl, by decide, fun _ => ho⟩, ⟨h, _, _, N, M, P, rfl, rfl, (hR.mf ⟨rfl, rfl, rfl, rfl, rfl, rfl, rfl, rfl⟩ ⟨rfl, rfl, rfl, rfl, rfl, rfl, rfl, rfl, rfl, rfl, rfl, rfl⟩)⟩⟩
    · exfalso; omega
    · exfalso; omega
  · rcases hm with ⟨d, rfl, rfl, rfl⟩ | ⟨d, rfl, y29, rfl, rfl⟩ | ⟨d, rfl, y29, y30, y31, y32, V, fi, hB2, hf2, rfl, rfl⟩ | ⟨d, y29, y30, y31, y32, V, fi, km2, y21, rfl, hB2, hf2, hK2, rfl, rfl⟩
    · exfalso; omega
    · exfalso; omega
    · exact ⟨⟨rfl, by decide, fun _ => ho⟩, h, f, ug (ug (ug (ug (ug (ug (ug (ug g 12 y12) 13 y13) 14 y14) 15 y15) 16 y16) 17 y17) 18 y18) 19 y19, N, M, P, rfl, rfl, ⟨⟨hF, hS, ht2, hkd, hth, hht, hri, htp, h7, hN7, hnp, hN6, hpt, hPL, hkc, hkb, hy, hPS⟩, ⟨e0, e1, e2, e9, e10, e7, e6, e11⟩, ⟨g3, g4, g5, g8, g24, g25, g26, g27⟩, hk8, hpl⟩⟩
    · have := (best_eq (by omega) hTB (by omega) hB hB2).1
      exfalso; omega
  · rcases hm with ⟨d, rfl, rfl, rfl⟩ | ⟨d, rfl, y29, rfl, rfl⟩ | ⟨d, rfl, y29, y30, y31, y32, V, fi, hB2, hf2, rfl, rfl⟩ | ⟨d, y29, y30, y31, y32, V, fi, km2, y21, rfl, hB2, hf2, hK2, rfl, rfl⟩
    · exfalso; omega
    · exfalso; omega
    · have := (best_eq (by omega) hTB (by omega) hB hB2).1
      exfalso; omega
    · obtain ⟨rfl, hkk⟩ := kept_eq (by omega) hTB (by omega) hB hB2 hf hK hK2
      have hz := (best_eq (by omega) hTB (by omega) hB hB2).2 hf
      rw [hz] at ho
      refine ⟨⟨rfl, by decide, fun _ => ho⟩, uN h 23 kb, up (up f 11 km) 23 k23, ug (ug (ug (ug (ug (ug (ug (ug (ug g 12 y12) 13 y13) 14 y14) 15 y15) 16 y16) 17 y17) 18 y18) 19 y19) 28 ky, uN N 11 kc, uM M 11 (bxA D ky), P, rfl, rfl, ⟨⟨hF, hS, ht2, hkd, hth, hht, hri, htp, h7, hN7, hnp, hN6, hpt, hPL, ⟨hkc2.1, hkc2.2.1, hK.1.1, hkc2.2.2⟩, (fun j j0 j1 => ⟨bx_at j0, hk7 j j0 j1⟩), hy, hPS⟩, ⟨e0, e1, e2, e9, e10, e7, e6, rfl⟩, ⟨g3, g4, g5, g8, g24, g25, g26, g27⟩, hkk, hpl⟩⟩
  · rcases hm with ⟨d, rfl, rfl, rfl⟩ | ⟨d, rfl, y29, rfl, rfl⟩ | ⟨d, -⟩ | ⟨d, -⟩
    · exact ⟨⟨rfl, by decide, fun hk => absurd hk (by decide)⟩, ⟨h, _, _, N, M, P, rfl, rfl, (hR.mf ⟨rfl, rfl, rfl, rfl, rfl, rfl, rfl, rfl⟩ ⟨rfl, rfl, rfl, rfl, rfl, rfl, rfl, rfl, rfl, rfl, rfl, rfl⟩)⟩⟩
    all_goals (exfalso; omega)
set_option maxHeartbeats 4000000 in
theorem L_thread {D : va_G} {h : Nat → Nat} {f : Nat → Int} {g : Nat → Int → Int} {N : Nat → Nat} {M : Nat → Nat → Nat} {P : List PR} {F : Nat → Int} {G : Nat → Int → Int} {v : Int}  (hR : RL D f g N M P F G) {z zb : Int} {w1 : va_W} {F' : Nat → Int} {G' : Nat → Int → Int} (hd : (fun (z : Int) (w : va_W) => ∃ f' g', ss_thread f g v z f' g' ∧ w = sW D h f' g' N M (ptW (M 6) (g 24) (g 25) (g 26) (g 27) (f 6) ++ plW D P)) z w1) (hm : sm_thread F G v zb F' G') : z = zb ∧ NX D (h 0) (w1) F' G' := by
  obtain ⟨⟨hF, hS, ht2, hkd, hth, hht, hri, htp, h7, hN7, hnp, hN6, hpt, hPL, hkc, hkb, hv, hPS⟩, ⟨e0, e1, e2, e9, e10, e7, e6, e11⟩, ⟨g3, g4, g5, g8, g24, g25, g26, g27⟩, hk8, hpl⟩ := id hR
  obtain ⟨f', g', hs, rfl⟩ := hd
  rcases hs with ⟨c, rfl, rfl, rfl⟩ | ⟨c, rfl, rfl, rfl⟩
  · rcases hm with ⟨d, rfl, rfl, rfl⟩ | ⟨d, rfl, rfl, rfl⟩
    · exact ⟨rfl, ⟨h, _, _, N, M, P, rfl, rfl, (hR.mf ⟨rfl, rfl, rfl, rfl, rfl, rfl, rfl, rfl⟩ ⟨rfl, rfl, rfl, rfl, rfl, rfl, rfl, rfl, rfl, rfl, rfl, rfl⟩)⟩⟩
    · exfalso; omega
  · rcases hm with ⟨d, rfl, rfl, rfl⟩ | ⟨d, rfl, rfl, rfl⟩
    · exfalso; omega
    · exact ⟨rfl, h, up f 2 v, _, N, M, P, rfl, rfl, ⟨⟨hF, hS, c.2, hkd, hth, hht, hri, htp, h7, hN7, hnp, hN6, hpt, hPL, hkc, hkb, hv, hPS⟩, ⟨e0, e1, rfl, e9, e10, e7, e6, e11⟩, ⟨g3, g4, g5, g8, g24, g25, g26, g27⟩, hk8, hpl⟩⟩
set_option maxHeartbeats 4000000 in
theorem L_heights {D : va_G} {h : Nat → Nat} {f : Nat → Int} {g : Nat → Int → Int} {N : Nat → Nat} {M : Nat → Nat → Nat} {P : List PR} {F : Nat → Int} {G : Nat → Int → Int} {lo hi : Int}  (hR : RL D f g N M P F G) {z zb : Int} {w1 : va_W} {F' : Nat → Int} {G' : Nat → Int → Int} (hd : (fun (z : Int) (w : va_W) => ∃ f' g', ss_heights f g lo hi z f' g' ∧ w = sW D h f' g' N M (ptW (M 6) (g 24) (g 25) (g 26) (g 27) (f 6) ++ plW D P)) z w1) (hm : sm_heights F G lo hi zb F' G') : z = zb ∧ NX D (h 0) (w1) F' G' := by
  obtain ⟨⟨hF, hS, ht2, hkd, hth, hht, hri, htp, h7, hN7, hnp, hN6, hpt, hPL, hkc, hkb, hv, hPS⟩, ⟨e0, e1, e2, e9, e10, e7, e6, e11⟩, ⟨g3, g4, g5, g8, g24, g25, g26, g27⟩, hk8, hpl⟩ := id hR
  obtain ⟨f', g', hs, rfl⟩ := hd
  have hok2 : hok (F 3) lo hi ↔ hok (f 1) lo hi := by rw [e1]
  rcases hs with ⟨c, rfl, hff, rfl⟩ | ⟨c, rfl, hff, rfl⟩
  · have hff := hff.symm
    subst hff
    rcases hm with ⟨d, rfl, rfl, rfl⟩ | ⟨d, rfl, rfl, rfl⟩
    · exact ⟨rfl, h, _, ug g 4 (g 4), N, M, P, rfl, rfl, ⟨⟨hF, hS, ht2, hkd, hth, hht, hri, htp, h7, hN7, hnp, hN6, hpt, hPL, hkc, hkb, hv, hPS⟩, ⟨e0, e1, e2, e9, e10, e7, e6, e11⟩, ⟨g3, g4, g5, g8, g24, g25, g26, g27⟩, hk8, hpl⟩⟩
    · exact absurd ⟨by omega, hok2.mp d.2⟩ c
  · have hff := hff.symm
    subst hff
    rcases hm with ⟨d, rfl, rfl, rfl⟩ | ⟨d, rfl, rfl, rfl⟩
    · exact absurd ⟨by omega, hok2.mpr c.2⟩ d
    · have hP0 := PS_z hPS c.1
      subst hP0
      refine ⟨rfl, h, _, ug g 4 (hup _ lo hi (g 4)), N, M, [], rfl, rfl, ⟨⟨hF, hS, ht2, hkd, hth, ?_, ?_, htp, h7, hN7, hnp, hN6, hpt, hPL, hkc, hkb, hv, PS_n c.1⟩, ⟨e0, e1, e2, e9, e10, e7, e6, e11⟩, ⟨g3, by show hup (f 1) lo hi (g 4) = hup (F 3) lo hi (G 11); rw [e1, g4], g5, g8, g24, g25, g26, g27⟩, hk8, hpl⟩⟩
      · intro j j0 j1
        show 0 ≤ hup (f 1) lo hi (g 4) j ∧ hup (f 1) lo hi (g 4) j ≤ 400
        unfold hup
        split
        · have := hgt_rg lo hi j
          have := (c.2 j (by omega) (by omega)).1
          omega
        · exact hht j j0 j1
      · intro j j0 j1
        show hup (f 1) lo hi (g 4) j < hup (f 1) lo hi (g 4) (j + 1)
        have j1' : j + 1 < f 1 := j1
        unfold hup
        rw [if_pos (by omega), if_pos (by omega)]
        have := (c.2 (j + 1) (by omega) j1').2
        rw [show j + 1 - 1 = j by omega] at this
        omega
set_option maxHeartbeats 4000000 in
theorem L_feed {D : va_G} {h : Nat → Nat} {f : Nat → Int} {g : Nat → Int → Int} {N : Nat → Nat} {M : Nat → Nat → Nat} {P : List PR} {F : Nat → Int} {G : Nat → Int → Int} {a b c_ d_ e_ : Int}  (hR : RL D f g N M P F G) {z zb : Int} {w1 : va_W} {F' : Nat → Int} {G' : Nat → Int → Int} (hd : (fun (z : Int) (w : va_W) => ∃ f' g', ss_feed f g a b c_ d_ e_ z f' g' ∧ w = sW D h f' g' N M (ptW (M 6) (g 24) (g 25) (g 26) (g 27) (f 6) ++ plW D P)) z w1) (hm : sm_feed F G a b c_ d_ e_ zb F' G') : z = zb ∧ NX D (h 0) (w1) F' G' := by
  obtain ⟨⟨hF, hS, ht2, hkd, hth, hht, hri, htp, h7, hN7, hnp, hN6, hpt, hPL, hkc, hkb, hv, hPS⟩, ⟨e0, e1, e2, e9, e10, e7, e6, e11⟩, ⟨g3, g4, g5, g8, g24, g25, g26, g27⟩, hk8, hpl⟩ := id hR
  obtain ⟨f', g', hs, rfl⟩ := hd
  rcases hs with ⟨c, rfl, rfl, rfl⟩ | ⟨c, rfl, rfl, rfl⟩
  · rcases hm with ⟨d, rfl, rfl, rfl⟩ | ⟨d, rfl, rfl, rfl⟩
    · exact ⟨rfl, ⟨h, _, _, N, M, P, rfl, rfl, (hR.mf ⟨rfl, rfl, rfl, rfl, rfl, rfl, rfl, rfl⟩ ⟨rfl, rfl, rfl, rfl, rfl, rfl, rfl, rfl, rfl, rfl, rfl, rfl⟩)⟩⟩
    · exfalso; omega
  · rcases hm with ⟨d, rfl, rfl, rfl⟩ | ⟨d, rfl, rfl, rfl⟩
    · exfalso; omega
    · refine ⟨by rw [e9], h, up f 9 (f 9 + 4 + 4 + 4 + 4 + 4), ug g 8 (lyT (f 9 + 4 + 4 + 4 + 4) e_ 4 (lyT (f 9 + 4 + 4 + 4) d_ 4 (lyT (f 9 + 4 + 4) c_ 4 (lyT (f 9 + 4) b 4 (lyT (f 9) a 4 (g 8)))))), N, M, P, rfl, rfl, ⟨⟨hF, hS, ht2, hkd, hth, hht, hri, ⟨by show 0 ≤ f 9 + 4 + 4 + 4 + 4 + 4; omega, by show f 9 + 4 + 4 + 4 + 4 + 4 ≤ 400; omega⟩, h7, hN7, hnp, hN6, hpt, hPL, hkc, hkb, hv, hPS⟩, ⟨e0, e1, e2, by show f 9 + 4 + 4 + 4 + 4 + 4 = F 5 + 20; omega, e10, e7, e6, e11⟩, ⟨g3, g4, g5, ?_, g24, g25, g26, g27⟩, hk8, hpl⟩⟩
      show tpS (lyT (f 9 + 4 + 4 + 4 + 4) e_ 4 (lyT (f 9 + 4 + 4 + 4) d_ 4 (lyT (f 9 + 4 + 4) c_ 4 (lyT (f 9 + 4) b 4 (lyT (f 9) a 4 (g 8)))))) = fdt (F 5) a b c_ d_ e_ 20 (G 13)
      rw [tp_feed, e9, g8]
set_option maxHeartbeats 4000000 in
theorem L_book {D : va_G} {h : Nat → Nat} {f : Nat → Int} {g : Nat → Int → Int} {N : Nat → Nat} {M : Nat → Nat → Nat} {P : List PR} {F : Nat → Int} {G : Nat → Int → Int} {a b : Int}  (hR : RL D f g N M P F G) {z zb : Int} {w1 : va_W} {F' : Nat → Int} {G' : Nat → Int → Int} (hd : (fun (z : Int) (w : va_W) => (¬ (1 ≤ a ∧ a ≤ 5 ∧ 2 ≤ b ∧ b ≤ 6) ∧ z = 0 ∧ w = sW D h f g N M (ptW (M 6) (g 24) (g 25) (g 26) (g 27) (f 6) ++ plW D P)) ∨ ((1 ≤ a ∧ a ≤ 5 ∧ 2 ≤ b ∧ b ≤ 6) ∧ z = 1 ∧ ∃ np : Int, ∃ k21 : Int, ∃ x24 : Int → Int, ∃ x25 : Int → Int, ∃ x26 : Int → Int, ∃ x27 : Int → Int, ∃ px : Nat → Nat, ∃ hb : Nat, PA (paL b.toNat (fun _ => 0) a.toNat) np x24 x25 x26 x27 ∧ w = sW D (uN h 21 hb) (up (up (up (up (up (up (up (up (up f 0 a) 1 b) 2 1) 6 np) 7 0) 11 0) 21 k21) 22 (f 22 + 1)) 23 (f 23 + 1)) (ug (ug (ug (ug (ug (ug (ug g 3 (fun _ => 10)) 4 (fun j => 20 * j)) 5 (fun _ => 0)) 24 x24) 25 x25) 26 x26) 27 x27) N (uM M 6 px) (ptW px x24 x25 x26 x27 np))) z w1) (hm : sm_book F G a b zb F' G') : z = zb ∧ NX D (h 0) (w1) F' G' := by
  obtain ⟨⟨hF, hS, ht2, hkd, hth, hht, hri, htp, h7, hN7, hnp, hN6, hpt, hPL, hkc, hkb, hv, hPS⟩, ⟨e0, e1, e2, e9, e10, e7, e6, e11⟩, ⟨g3, g4, g5, g8, g24, g25, g26, g27⟩, hk8, hpl⟩ := id hR
  rcases hd with ⟨c, rfl, rfl⟩ | ⟨c, rfl, np, k21, x24, x25, x26, x27, px, hb, hPA, rfl⟩
  · rcases hm with ⟨d, rfl, rfl, rfl⟩ | ⟨d, rfl, -⟩
    · exact ⟨rfl, ⟨h, _, _, N, M, P, rfl, rfl, (hR.mf ⟨rfl, rfl, rfl, rfl, rfl, rfl, rfl, rfl⟩ ⟨rfl, rfl, rfl, rfl, rfl, rfl, rfl, rfl, rfl, rfl, rfl, rfl⟩)⟩⟩
    · exfalso; omega
  · rcases hm with ⟨d, rfl, rfl, rfl⟩ | ⟨d, rfl, nq, x14, x15, x16, x17, hPB, rfl, rfl⟩
    · exfalso; omega
    · obtain ⟨rfl, hcg⟩ := PA_eq hPA hPB
      have hF1 : 1 ≤ a ∧ a ≤ 5 := by omega
      have hS1 : 2 ≤ b ∧ b ≤ 6 := by omega
      refine ⟨rfl, uN h 21 hb, up (up (up (up (up (up (up (up (up f 0 a) 1 b) 2 1) 6 np) 7 0) 11 0) 21 k21) 22 (f 22 + 1)) 23 (f 23 + 1), ug (ug (ug (ug (ug (ug (ug g 3 (fun _ => 10)) 4 (fun j => 20 * j)) 5 (fun _ => 0)) 24 x14) 25 x15) 26 x16) 27 x17, N, uM M 6 px, [], rfl, ?_, ⟨⟨hF1, hS1, (show (0 : Int) ≤ 1 ∧ (1 : Int) ≤ 9 by decide), (fun j j0 j1 => by show (0 : Int) ≤ 0 ∧ (0 : Int) ≤ 3; omega), (fun j j0 j1 => by show (1 : Int) ≤ 10 ∧ (10 : Int) ≤ 50; omega), (fun j j0 j1 => by show 0 ≤ 20 * j ∧ 20 * j ≤ 400; omega), (fun j j0 j1 => by show 20 * j < 20 * (j + 1); omega), htp, (show (0 : Int) ≤ 0 ∧ (0 : Int) ≤ 8 by decide), ⟨by show (0 : Int) ≤ (N 7 : Nat); omega, hN7.2⟩, PA_np hF1 hS1 hPB, hN6, PA_pt hF1 hS1 hPB, PLs_pa (show 0 ≤ a by omega) (show 0 ≤ b by omega) hPB, ⟨hkc.1, hkc.2.1, (show (0 : Int) ≤ 0 by decide), by show (0 : Int) ≤ (N 11 : Nat); omega⟩, (fun j j0 j1 => absurd (show j < 0 from j1) (by omega)), hv, PS_n rfl⟩, ⟨rfl, rfl, rfl, e9, e10, rfl, rfl, rfl⟩, ⟨rfl, rfl, rfl, g8, rfl, rfl, rfl, rfl⟩, (fun j j0 j1 => absurd (show j < 0 from j1) (by omega)), (fun i r hr => by simp at hr)⟩⟩
      show sW D (uN h 21 hb) (up (up (up (up (up (up (up (up (up f 0 a) 1 b) 2 1) 6 np) 7 0) 11 0) 21 k21) 22 (f 22 + 1)) 23 (f 23 + 1)) (ug (ug (ug (ug (ug (ug (ug g 3 (fun _ => 10)) 4 (fun j => 20 * j)) 5 (fun _ => 0)) 24 x14) 25 x15) 26 x16) 27 x17) N (uM M 6 px) (ptW px x24 x25 x26 x27 np) = sW D (uN h 21 hb) (up (up (up (up (up (up (up (up (up f 0 a) 1 b) 2 1) 6 np) 7 0) 11 0) 21 k21) 22 (f 22 + 1)) 23 (f 23 + 1)) (ug (ug (ug (ug (ug (ug (ug g 3 (fun _ => 10)) 4 (fun j => 20 * j)) 5 (fun _ => 0)) 24 x14) 25 x15) 26 x16) 27 x17) N (uM M 6 px) (ptW px x14 x15 x16 x17 np ++ [])
      rw [List.append_nil, ptW_cg hcg]
set_option maxHeartbeats 4000000 in
theorem L_parts {D : va_G} {h : Nat → Nat} {f : Nat → Int} {g : Nat → Int → Int} {N : Nat → Nat} {M : Nat → Nat → Nat} {P : List PR} {F : Nat → Int} {G : Nat → Int → Int}   (hR : RL D f g N M P F G) {z zb : Int} {F' : Nat → Int} {G' : Nat → Int → Int} (hd : (fun (z : Int) (_ : va_W) => z = f 6) z []) (hm : zb = F 8 ∧ F' = up F 1 0 ∧ G' = G) : z = zb ∧ NX D (h 0) (bW D h f g N M P) F' G' := by
  obtain ⟨⟨hF, hS, ht2, hkd, hth, hht, hri, htp, h7, hN7, hnp, hN6, hpt, hPL, hkc, hkb, hv, hPS⟩, ⟨e0, e1, e2, e9, e10, e7, e6, e11⟩, ⟨g3, g4, g5, g8, g24, g25, g26, g27⟩, hk8, hpl⟩ := id hR
  obtain ⟨rfl, rfl, rfl⟩ := hm
  exact ⟨hd.trans e6, ⟨h, _, _, N, M, P, rfl, rfl, (hR.mf ⟨rfl, rfl, rfl, rfl, rfl, rfl, rfl, rfl⟩ ⟨rfl, rfl, rfl, rfl, rfl, rfl, rfl, rfl, rfl, rfl, rfl, rfl⟩)⟩⟩
set_option maxHeartbeats 4000000 in
theorem L_fault {D : va_G} {h : Nat → Nat} {f : Nat → Int} {g : Nat → Int → Int} {N : Nat → Nat} {M : Nat → Nat → Nat} {P : List PR} {F : Nat → Int} {G : Nat → Int → Int}   (hR : RL D f g N M P F G) {z zb : Int} {F' : Nat → Int} {G' : Nat → Int → Int} (hd : (fun (z : Int) (_ : va_W) => z = f 10) z []) (hm : zb = F 6 ∧ F' = up F 1 0 ∧ G' = G) : z = zb ∧ NX D (h 0) (bW D h f g N M P) F' G' := by
  obtain ⟨⟨hF, hS, ht2, hkd, hth, hht, hri, htp, h7, hN7, hnp, hN6, hpt, hPL, hkc, hkb, hv, hPS⟩, ⟨e0, e1, e2, e9, e10, e7, e6, e11⟩, ⟨g3, g4, g5, g8, g24, g25, g26, g27⟩, hk8, hpl⟩ := id hR
  obtain ⟨rfl, rfl, rfl⟩ := hm
  exact ⟨hd.trans e10, ⟨h, _, _, N, M, P, rfl, rfl, (hR.mf ⟨rfl, rfl, rfl, rfl, rfl, rfl, rfl, rfl⟩ ⟨rfl, rfl, rfl, rfl, rfl, rfl, rfl, rfl, rfl, rfl, rfl, rfl⟩)⟩⟩
set_option maxHeartbeats 4000000 in
theorem L_marks {D : va_G} {h : Nat → Nat} {f : Nat → Int} {g : Nat → Int → Int} {N : Nat → Nat} {M : Nat → Nat → Nat} {P : List PR} {F : Nat → Int} {G : Nat → Int → Int} {bits : Int}  (hR : RL D f g N M P F G) {z zb : Int} {w1 : va_W} {F' : Nat → Int} {G' : Nat → Int → Int} (hd : (fun (z : Int) (w : va_W) => (10 < mcn bits (m31 (f 6)) ∧ z = 0 ∧ ∃ y13 : Int → Int, w = sW D h f (ug g 13 y13) N M (ptW (M 6) (g 24) (g 25) (g 26) (g 27) (f 6) ++ (plW D P))) ∨ (mcn bits (m31 (f 6)) ≤ 10 ∧ ∃ y13 y14 y15 y16 y17 y18 y20 : Int → Int, (TSk (f 0) (f 1) (g 5) (g 4) (g 3) (f 6) (g 24) (g 25) (g 26) 480 y14 y15 y16) ∧ (∀ j, 0 ≤ j → j < f 6 → y13 j = if j < 31 ∧ mkb bits j = 1 then mcn bits j else -1) ∧ z = bP (∃ fo ko : Int, (0 ≤ fo ∧ fo < f 0) ∧ (0 ≤ ko ∧ ko < f 1) ∧ Rc y14 y16 y13 (2 ^ (mcn bits (m31 (f 6))).toNat - 1) (2 * (6 * fo + ko) + 0) (2 ^ (mcn bits (m31 (f 6))).toNat - 1) (2 * (6 * fo + ko) + 0)) ∧ w = sW D h f (ug (ug (ug (ug (ug (ug (ug g 13 y13) 14 y14) 15 y15) 16 y16) 17 y17) 18 y18) 20 y20) N M (ptW (M 6) (g 24) (g 25) (g 26) (g 27) (f 6) ++ (plW D P)))) z w1) (hm : sm_marks F G bits zb F' G') : z = zb ∧ NX D (h 0) (w1) F' G' := by
  obtain ⟨⟨hF, hS, ht2, hkd, hth, hht, hri, htp, h7, hN7, hnp, hN6, hpt, hPL, hkc, hkb, hv, hPS⟩, ⟨e0, e1, e2, e9, e10, e7, e6, e11⟩, ⟨g3, g4, g5, g8, g24, g25, g26, g27⟩, hk8, hpl⟩ := id hR
  obtain ⟨y34, y35, hzb, rfl, rfl⟩ := hm
  rw [← e0, ← e1, ← g5, ← e6, ← g24, ← g25, ← g26] at hzb
  rcases hd with ⟨c, rfl, y13, rfl⟩ | ⟨c, y13, y14, y15, y16, y17, y18, y20, hT, hbt, hz, rfl⟩
  · refine ⟨?_, h, f, ug g 13 y13, N, M, P, rfl, rfl, ⟨⟨hF, hS, ht2, hkd, hth, hht, hri, htp, h7, hN7, hnp, hN6, hpt, hPL, hkc, hkb, hv, hPS⟩, ⟨e0, e1, e2, e9, e10, e7, e6, e11⟩, ⟨g3, g4, g5, g8, g24, g25, g26, g27⟩, hk8, hpl⟩⟩
    rw [hzb, bP_f (fun q => by have := q.1; omega)]
  · refine ⟨?_, h, f, ug (ug (ug (ug (ug (ug (ug g 13 y13) 14 y14) 15 y15) 16 y16) 17 y17) 18 y18) 20 y20, N, M, P, rfl, rfl, ⟨⟨hF, hS, ht2, hkd, hth, hht, hri, htp, h7, hN7, hnp, hN6, hpt, hPL, hkc, hkb, hv, hPS⟩, ⟨e0, e1, e2, e9, e10, e7, e6, e11⟩, ⟨g3, g4, g5, g8, g24, g25, g26, g27⟩, hk8, hpl⟩⟩
    have hm31 := mcn_31 (bits := bits) hnp.1
    have hB : BTs (f 6) bits (mcn bits (m31 (f 6))).toNat y13 := ⟨hbt, by omega, by omega⟩
    rw [hz, hzb]
    exact bP_cg (marks_eq hF hS hnp.1 hPL hT hB)
