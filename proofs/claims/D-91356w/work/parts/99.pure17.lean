/-! ===== marks: the class's answer is the model's ===== -/
theorem sumN_ext {f : Nat → Int} {K : Nat} : ∀ d : Nat, (∀ i, K ≤ i → i < K + d → f i = 0) → sumN f (K + d) = sumN f K
  | 0, _ => rfl
  | d + 1, h => by
    have ih := sumN_ext (f := f) (K := K) d (fun i h0 h1 => h i h0 (by omega))
    show sumN f (K + d) + f (K + d) = sumN f K
    rw [ih, h (K + d) (by omega) (by omega)]; omega
section MR
variable {F S np bits : Int} {kd pf ps pk bt a b c ht th : Int → Int} {n : Nat}
theorem ix_rp {E : Int → Int → Prop} {x y : Int} : ix (rp E x) (rp E y) = bP (Cn E x y) := by
  by_cases h : Cn E x y
  · rw [rp_eq.mpr h, ix_s, bP_t h]
  · rw [ix_n (fun q => h (rp_eq.mp q)), bP_f h]
theorem enH_S (hnp : 0 ≤ np) (x : Int) : enH pf ps pk bits (LkE F S kd) (m31 np) x = sumS (dgE (rU F S kd pf ps) (rV F S kd pf ps pk) (rp (LkE F S kd) x)) (Sm np bits) 31 := by
  have hm : 0 ≤ m31 np ∧ m31 np ≤ 31 ∧ m31 np ≤ np ∧ (m31 np = np ∨ m31 np = 31) := by unfold m31; split <;> omega
  unfold enH sumS
  have e := sumN_ext (f := fun i => if Sm np bits i = true then dgE (rU F S kd pf ps) (rV F S kd pf ps pk) (rp (LkE F S kd) x) i else 0) (K := (m31 np).toNat) (31 - (m31 np).toNat) (fun i h0 h1 => by
    refine if_neg (fun q => ?_)
    have := (Sm_iff.mp q).1
    omega)
  rw [show (m31 np).toNat + (31 - (m31 np).toNat) = 31 by omega] at e
  rw [e]
  refine sumN_c _ (fun i hi => ?_)
  by_cases q : mkb bits i = 1
  · have hs : Sm np bits i = true := Sm_iff.mpr ⟨⟨by omega, by omega, by omega⟩, q⟩
    rw [if_pos q]
    show _ = if Sm np bits i = true then _ else _
    rw [if_pos hs]
    unfold dgE rU rV
    rw [ix_rp, ix_rp]
  · rw [if_neg q]
    show _ = if Sm np bits i = true then _ else _
    rw [if_neg (fun z => q (Sm_iff.mp z).2)]
theorem trail_cn : ∀ (T : List Nat) (x y : Int), Wk (rU F S kd pf ps) (rV F S kd pf ps pk) x T y → (∀ e ∈ T, mks np bits e) → ∀ x0, rp (LkE F S kd) x0 = x → ∀ e ∈ T, Cn (fun x y => LkE F S kd x y ∨ MkE np pf ps pk bits 31 x y) x0 (nA pf ps e)
  | [], _, _, _, _, _, _, e, he => absurd he List.not_mem_nil
  | f :: T, x, y, hw, hk, x0, hx, e, he => by
    have hl : ∀ {u v : Int}, rp (LkE F S kd) u = rp (LkE F S kd) v → Cn (fun x y => LkE F S kd x y ∨ MkE np pf ps pk bits 31 x y) u v := fun h => Cn.mono (fun a b q => Cn.ed (Or.inl q)) (rp_eq.mp h)
    have hm := hk f List.mem_cons_self
    have hab : Cn (fun x y => LkE F S kd x y ∨ MkE np pf ps pk bits 31 x y) (nA pf ps f) (nB pf ps pk f) := Cn.ed (Or.inr ⟨f, hm, hm.1.2.2, rfl, rfl⟩)
    have hk' : ∀ e ∈ T, mks np bits e := fun e he => hk e (List.mem_cons_of_mem _ he)
    rcases hw with ⟨w1, w2⟩ | ⟨w1, w2⟩
    · have h0 : Cn (fun x y => LkE F S kd x y ∨ MkE np pf ps pk bits 31 x y) x0 (nA pf ps f) := hl (hx.trans w1)
      rcases List.mem_cons.mp he with q | q
      · rw [q]; exact h0
      · exact (h0.tr hab).tr (trail_cn T _ y w2 hk' (nB pf ps pk f) rfl e q)
    · have h0 : Cn (fun x y => LkE F S kd x y ∨ MkE np pf ps pk bits 31 x y) x0 (nB pf ps pk f) := hl (hx.trans w1)
      rcases List.mem_cons.mp he with q | q
      · rw [q]; exact h0.tr hab.sy
      · exact (h0.tr hab.sy).tr (trail_cn T _ y w2 hk' (nA pf ps f) rfl e q)
theorem n_in (hF : 1 ≤ F ∧ F ≤ 5) (hS : 2 ≤ S ∧ S ≤ 6) (hP : PLs F S kd np pf ps pk) {e : Int} (h0 : 0 ≤ e) (h1 : e < np) : ((0 ≤ nA pf ps e / 6 ∧ nA pf ps e / 6 < F) ∧ 0 ≤ nA pf ps e % 6 ∧ nA pf ps e % 6 < S ∧ In30 (nA pf ps e)) ∧ (0 ≤ nB pf ps pk e / 6 ∧ nB pf ps pk e / 6 < F) ∧ 0 ≤ nB pf ps pk e % 6 ∧ nB pf ps pk e % 6 < S ∧ In30 (nB pf ps pk e) := by
  obtain ⟨p1, p2⟩ := hP.1 e h0 h1
  unfold nA nB In30
  rcases p2 with ⟨q1, q2, q3⟩ | ⟨q1, q2, q3⟩ | ⟨q1, q2, q3⟩
  · rw [if_neg (by omega)]; omega
  · rw [if_pos q1]; omega
  · rw [if_neg (by omega)]; omega
theorem marks_eq (hF : 1 ≤ F ∧ F ≤ 5) (hS : 2 ≤ S ∧ S ≤ 6) (hnp : 0 ≤ np) (hP : PLs F S kd np pf ps pk) (hT : TSk F S kd ht th np pf ps pk 480 a b c) (hB : BTs np bits n bt) :
    (∃ fo ko : Int, (0 ≤ fo ∧ fo < F) ∧ (0 ≤ ko ∧ ko < S) ∧ Rc a c bt (2 ^ n - 1) (2 * (6 * fo + ko) + 0) (2 ^ n - 1) (2 * (6 * fo + ko) + 0)) ↔ MKS F S kd np pf ps pk bits := by
  have hn10 := hB.2.2
  have hp1 := p2_pos n
  constructor
  · rintro ⟨fo, ko, hfo, hko, hr⟩
    obtain ⟨T, t1, t2, t3, t4⟩ := Rc_trail hF hS hP hT hB hr
    have hall := (MB_full hnp hB t3 t2).mp rfl
    refine ⟨by have := hB.2.1; omega, fun x hx => ?_, fun p q hp hq => ?_⟩
    · rw [enH_S hnp, sumS_cg (S' := fun i => T.contains i) (fun i hi => by
        cases hs : Sm np bits i with
        | true => exact (show T.contains i = true by simpa using hall i (Sm_iff.mp hs)).symm
        | false =>
          symm
          by_cases q : i ∈ T
          · rw [Sm_iff.mpr (t2 i q)] at hs; exact absurd hs (by decide)
          · simpa using q)]
      exact even_cl (S := Sm np bits) t1 (fun e he => ⟨by have := (t2 e he).1.2.2; omega, Sm_iff.mpr (t2 e he)⟩) t4
    · have hc := trail_cn T _ _ t4 t2 _ rfl
      obtain ⟨i, hi⟩ := Int.eq_ofNat_of_zero_le hp.1.1
      obtain ⟨j, hj⟩ := Int.eq_ofNat_of_zero_le hq.1.1
      rw [hi] at hp; rw [hj] at hq
      rw [hi, hj]
      exact (hc i (hall i hp)).sy.tr (hc j (hall j hq))
  · rintro ⟨m1, m2, m3⟩
    by_cases hz : ∃ e : Nat, mks np bits e
    · obtain ⟨e0, he0⟩ := hz
      have hR : ∀ z, sumS (dgE (rU F S kd pf ps) (rV F S kd pf ps pk) z) (Sm np bits) 31 % 2 = 0 := by
        intro z
        by_cases hx : ∃ x, In30 x ∧ rp (LkE F S kd) x = z
        · obtain ⟨x, h1, h2⟩ := hx
          rw [← h2, ← enH_S hnp]; exact m2 x h1
        · have h0 := sumS_nn (dgE_nn (U := rU F S kd pf ps) (V := rV F S kd pf ps pk) z) (Sm np bits) 31
          by_cases q : sumS (dgE (rU F S kd pf ps) (rV F S kd pf ps pk) z) (Sm np bits) 31 = 0
          · rw [q]; rfl
          · obtain ⟨i, i1, i2, i3⟩ := sumS_pos 31 (show 0 < sumS (dgE (rU F S kd pf ps) (rV F S kd pf ps pk) z) (Sm np bits) 31 by omega)
            have hm := Sm_iff.mp i2
            have hin := n_in hF hS hP hm.1.1 hm.1.2.1
            rcases dgE_pos.mp i3 with r | r
            · exact absurd ⟨_, hin.1.2.2.2, r⟩ hx
            · exact absurd ⟨_, hin.2.2.2.2, r⟩ hx
      have hC : ∀ e f, e < 31 → f < 31 → Sm np bits e = true → Sm np bits f = true → Cn (fun x y => ∃ e, e < 31 ∧ Sm np bits e = true ∧ x = rU F S kd pf ps e ∧ y = rV F S kd pf ps pk e) (rU F S kd pf ps e) (rU F S kd pf ps f) := by
        intro e f _ _ he hf
        refine m3 e f (Sm_iff.mp he) (Sm_iff.mp hf) (fun x y => Cn (fun x y => ∃ e, e < 31 ∧ Sm np bits e = true ∧ x = rU F S kd pf ps e ∧ y = rV F S kd pf ps pk e) (rp (LkE F S kd) x) (rp (LkE F S kd) y)) (fun _ => Cn.rf _) (fun _ _ z => z.sy) (fun _ _ _ z z' => z.tr z') ?_
        rintro x y (h | ⟨p, p1, p2, rfl, rfl⟩)
        · rw [rp_eq.mpr (Cn.ed h)]; exact Cn.rf _
        · obtain ⟨i, hi⟩ := Int.eq_ofNat_of_zero_le p1.1.1
          rw [hi] at p1 p2 ⊢
          exact Cn.ed ⟨i, by have := p1.1.2.2; omega, Sm_iff.mpr p1, rfl, rfl⟩
      obtain ⟨T, s, t0, t1, t2, t3, t4⟩ := euler0 (U := rU F S kd pf ps) (V := rV F S kd pf ps pk) hR hC (e0 := e0) (by have := he0.1.2.2; omega) (Sm_iff.mpr he0)
      have hmk : ∀ e ∈ T, mks np bits e := fun e he => Sm_iff.mp (t2 e he).2
      have hst : ∃ x0, (0 ≤ x0 / 6 ∧ x0 / 6 < F) ∧ (0 ≤ x0 % 6 ∧ x0 % 6 < S) ∧ rp (LkE F S kd) x0 = s := by
        cases T with
        | nil => exact absurd rfl t0
        | cons e T =>
          have hm := hmk e List.mem_cons_self
          have hin := n_in hF hS hP hm.1.1 hm.1.2.1
          rcases t3 with ⟨w, -⟩ | ⟨w, -⟩
          · exact ⟨nA pf ps e, hin.1.1, ⟨hin.1.2.1, hin.1.2.2.1⟩, w.symm⟩
          · exact ⟨nB pf ps pk e, hin.2.1, ⟨hin.2.2.1, hin.2.2.2.1⟩, w.symm⟩
      obtain ⟨x0, x1, x2, x3⟩ := hst
      have e6 : (2 * (6 * (x0 / 6) + x0 % 6) + 0) / 2 = x0 := by omega
      have hpin : PIn F S (2 * (6 * (x0 / 6) + x0 % 6) + 0) := by unfold PIn; omega
      obtain ⟨m', h1, h2⟩ := trail_Rc (start := 2 * (6 * (x0 / 6) + x0 % 6) + 0) hF hS hnp hP hT hB T [] 0 s (by simpa using t1) (by simpa using hmk) MB_0 (fun p hp hpe => Rc_free hF hS hT ⟨by omega, by omega⟩ hpin hp (by rw [e6, x3, hpe]) Rc.st) s t3
      rw [List.nil_append] at h1
      have hf := (MB_full hnp hB h1 hmk).mpr (fun e he => t4 e (by have := he.1.2.2; omega) (Sm_iff.mpr he))
      rw [hf] at h2
      exact ⟨x0 / 6, x0 % 6, x1, x2, h2 _ hpin (by rw [e6]; exact x3)⟩
    · have hn0 : n = 0 := by
        by_cases q : n = 0
        · exact q
        · obtain ⟨e, he, -⟩ := bt_sur hnp hB (b := 0) (by omega)
          exact absurd ⟨e, he⟩ hz
      subst hn0
      exact ⟨0, 0, ⟨by omega, by omega⟩, ⟨by omega, by omega⟩, Rc.st⟩
end MR
