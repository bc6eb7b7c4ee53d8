/-! ===== the law's relation: congruences, lists of parts, the two states ===== -/
section CG
variable {F S b n : Int} {kd mv mv' : Int → Int}
theorem cnt_cg {P Q : Nat → Bool} : ∀ n : Nat, (∀ i, i < n → P i = Q i) → cnt P n = cnt Q n
  | 0, _ => rfl
  | n + 1, h => by
    show cnt P n + bI (P n) = cnt Q n + bI (Q n)
    rw [cnt_cg n (fun i hi => h i (by omega)), h n (by omega)]
theorem pl_k (h : ∀ j : Int, 0 ≤ j → j < n → mv j = mv' j) {k : Nat} (hk : k < n.toNat) : plN F S kd b mv k = plN F S kd b mv' k ∧ mv (k : Int) = mv' (k : Int) := ⟨plN_cg k (fun j h0 h1 => h j h0 (by omega)), h k (by omega) (by omega)⟩
theorem fgo_cg {np : Int} {pf ps pk : Int → Int} (h : ∀ j : Int, 0 ≤ j → j < n → mv j = mv' j) : fgo np pf ps pk F S kd b mv n = fgo np pf ps pk F S kd b mv' n := by
  funext j
  exact cnt_cg _ (fun k hk => by rw [(pl_k (F := F) (S := S) (kd := kd) (b := b) h hk).1, (pl_k (F := F) (S := S) (kd := kd) (b := b) h hk).2])
theorem fho_cg (h : ∀ j : Int, 0 ≤ j → j < n → mv j = mv' j) : fho F S kd b mv n = fho F S kd b mv' n := by
  funext j
  exact cnt_cg _ (fun k hk => by rw [(pl_k (F := F) (S := S) (kd := kd) (b := b) h hk).1, (pl_k (F := F) (S := S) (kd := kd) (b := b) h hk).2])
theorem fti_cg (h : ∀ j : Int, 0 ≤ j → j < n → mv j = mv' j) : fti F S kd b mv n = fti F S kd b mv' n := by
  funext j
  exact cnt_cg _ (fun k hk => by rw [(pl_k (F := F) (S := S) (kd := kd) (b := b) h hk).1, (pl_k (F := F) (S := S) (kd := kd) (b := b) h hk).2])
theorem fle_cg {ht th : Int → Int} (h : ∀ j : Int, 0 ≤ j → j < n → mv j = mv' j) : fle ht th F S kd b mv n = fle ht th F S kd b mv' n :=
  sumN_c _ (fun k hk => by rw [(pl_k (F := F) (S := S) (kd := kd) (b := b) h hk).1, (pl_k (F := F) (S := S) (kd := kd) (b := b) h hk).2])
theorem coA_cg {cl by_ : Int} (hn : 0 < n) (h : ∀ j : Int, 0 ≤ j → j < n → mv j = mv' j) : ∀ (c : Nat) (a : Int) (o : Int → Int), coA cl n mv by_ c a o = coA cl n mv' by_ c a o
  | 0, _, _ => rfl
  | c + 1, a, o => by
    rw [coA_e, coA_e, coA_cg hn h c, h (a % n) (emod_in hn).1 (emod_in hn).2]
theorem offs_cg {cl i : Int} (hn : 0 < n) (h : ∀ j : Int, 0 ≤ j → j < n → mv j = mv' j) : offs cl n mv i = offs cl n mv' i := by
  unfold offs
  rw [coA_cg hn h, coA_cg hn h]
end CG
theorem LSok_un {v v' : Int} {G G' : Int → Prop} (h : LSok v G) (h' : LSok v' G') (e : ∀ i, 0 ≤ i → i < 5 → (G i ↔ G' i)) : v = v' := by
  obtain ⟨r, a⟩ := h
  obtain ⟨r', a'⟩ := h'
  have q : ∀ i : Fin 5, ((v / 2 ^ i.val) % 2 = 1 ↔ (v' / 2 ^ i.val) % 2 = 1) := fun i => (a i).trans ((e i.val (by omega) (by omega)).trans (a' i).symm)
  have q0 := q 0
  have q1 := q 1
  have q2 := q 2
  have q3 := q 3
  have q4 := q 4
  simp only [Fin.val_zero, Int.pow_zero, show ((1 : Fin 5) : Nat) = 1 from rfl, show ((2 : Fin 5) : Nat) = 2 from rfl, show ((3 : Fin 5) : Nat) = 3 from rfl, show ((4 : Fin 5) : Nat) = 4 from rfl, show (2 : Int) ^ 1 = 2 from rfl, show (2 : Int) ^ 2 = 4 from rfl, show (2 : Int) ^ 3 = 8 from rfl, show (2 : Int) ^ 4 = 16 from rfl, Int.ediv_one] at q0 q1 q2 q3 q4
  omega
/-! the bytes -/
theorem b255_hi : ∀ i : Fin 32, 8 ≤ i.val → (iI 255).toBitVec.getLsbD i.val = false := by decide
theorem i8_255 (x : Int) : andI (i8 x) 255 = andI x 255 := by
  unfold andI
  rw [← i8_eq]
  congr 1
  apply Int32.toBitVec_inj.mp
  rw [Int32.toBitVec_and, Int32.toBitVec_and]
  apply BitVec.eq_of_getElem_eq
  intro i hi
  rw [BitVec.getElem_and, BitVec.getElem_and]
  by_cases h : i < 8
  · congr 1
    rw [Int8.toBitVec_toInt32, BitVec.getElem_signExtend, dif_pos h]
    show (BitVec.signExtend 8 (iI x).toBitVec)[i] = _
    rw [BitVec.getElem_signExtend, dif_pos (by omega)]
  · rw [← BitVec.getLsbD_eq_getElem (x := (iI 255).toBitVec), b255_hi ⟨i, hi⟩ (show 8 ≤ i by omega), Bool.and_false, Bool.and_false]
theorem tp_feed (T a b c d e : Int) (g : Int → Int) : tpS (lyT (T + 4 + 4 + 4 + 4) e 4 (lyT (T + 4 + 4 + 4) d 4 (lyT (T + 4 + 4) c 4 (lyT (T + 4) b 4 (lyT T a 4 g))))) = fdt T a b c d e 20 (tpS g) := by
  funext j
  unfold tpS lyT fdt fdb fdw
  by_cases h5 : T + 4 + 4 + 4 + 4 ≤ j ∧ j < T + 4 + 4 + 4 + 4 + 4
  · rw [if_pos h5, if_pos (by omega), if_neg (by omega), if_neg (by omega), if_neg (by omega), if_neg (by omega), i8_255, show 24 - 8 * (j - (T + 4 + 4 + 4 + 4)) = 24 - 8 * ((j - T) % 4) by omega]
  · rw [if_neg h5]
    by_cases h4 : T + 4 + 4 + 4 ≤ j ∧ j < T + 4 + 4 + 4 + 4
    · rw [if_pos h4, if_pos (by omega), if_neg (by omega), if_neg (by omega), if_neg (by omega), if_pos (by omega), i8_255, show 24 - 8 * (j - (T + 4 + 4 + 4)) = 24 - 8 * ((j - T) % 4) by omega]
    · rw [if_neg h4]
      by_cases h3 : T + 4 + 4 ≤ j ∧ j < T + 4 + 4 + 4
      · rw [if_pos h3, if_pos (by omega), if_neg (by omega), if_neg (by omega), if_pos (by omega), i8_255, show 24 - 8 * (j - (T + 4 + 4)) = 24 - 8 * ((j - T) % 4) by omega]
      · rw [if_neg h3]
        by_cases h2 : T + 4 ≤ j ∧ j < T + 4 + 4
        · rw [if_pos h2, if_pos (by omega), if_neg (by omega), if_pos (by omega), i8_255, show 24 - 8 * (j - (T + 4)) = 24 - 8 * ((j - T) % 4) by omega]
        · rw [if_neg h2]
          by_cases h1 : T ≤ j ∧ j < T + 4
          · rw [if_pos h1, if_pos (by omega), if_pos (by omega), i8_255, show 24 - 8 * (j - T) = 24 - 8 * ((j - T) % 4) by omega]
          · rw [if_neg h1, if_neg (by omega)]
/-! the list of parts -/
theorem pa_mem {S F : Nat} {kd : Int → Int} {x : Int × Int × Int} : x ∈ paL S kd F ↔ PPr F S kd x.1 x.2.1 x.2.2 := by
  obtain ⟨a, b, c⟩ := x
  unfold paL foL rnL ppL PPr
  simp only [List.mem_flatMap, List.mem_range, List.mem_append, List.mem_map, List.mem_filterMap, Option.ite_none_right_eq_some, Option.some.injEq, Prod.mk.injEq]
  constructor
  · rintro ⟨i, hi, (⟨k, hk, rfl, rfl, rfl⟩ | ⟨k, hk, hw, rfl, rfl, rfl⟩) | ⟨k, hk, hw, rfl, rfl, rfl⟩⟩
    · exact ⟨by omega, Or.inl ⟨rfl, by omega⟩⟩
    · exact ⟨by omega, Or.inr (Or.inl ⟨rfl, by omega, hw⟩)⟩
    · exact ⟨by omega, Or.inr (Or.inr ⟨rfl, by omega, hw⟩)⟩
  · rintro ⟨ha, ⟨rfl, hb⟩ | ⟨rfl, hb, hw⟩ | ⟨rfl, hb, hw⟩⟩
    · exact ⟨a.toNat, by omega, Or.inl (Or.inl ⟨b.toNat, by omega, by omega, by omega, rfl⟩)⟩
    · exact ⟨a.toNat, by omega, Or.inl (Or.inr ⟨b.toNat, by omega, by rw [Int.toNat_of_nonneg hb.1]; exact hw, by omega, by omega, rfl⟩)⟩
    · exact ⟨a.toNat, by omega, Or.inr ⟨b.toNat, by omega, by rw [Int.toNat_of_nonneg hb.1]; exact hw, by omega, by omega, rfl⟩⟩
theorem rng_nd (n : Nat) : List.Pairwise (fun a b : Nat => a ≠ b) (List.range n) := List.nodup_range
theorem pp_nd {S : Nat} {kd : Int → Int} (f : Int) (n : Nat) (w v : Int) : (ppL f S kd n w v).Pairwise (· ≠ ·) := by
  unfold ppL
  rw [List.pairwise_filterMap]
  refine (rng_nd n).imp ?_
  intro i j hij x hx y hy e
  by_cases q : kd (i : Int) = w
  · by_cases q2 : kd (j : Int) = w
    · rw [if_pos q] at hx
      rw [if_pos q2] at hy
      cases hx; cases hy
      have := congrArg (fun t : Int × Int × Int => t.2.1) e
      exact hij (by simp only at this; omega)
    · rw [if_neg q2] at hy; cases hy
  · rw [if_neg q] at hx; cases hx
theorem rn_nd (f : Int) (n : Nat) : (rnL f n).Pairwise (· ≠ ·) := by
  unfold rnL
  rw [List.pairwise_map]
  refine (rng_nd n).imp ?_
  intro i j hij e
  have := congrArg (fun t : Int × Int × Int => t.2.1) e
  exact hij (by simp only at this; omega)
theorem pp_v {S : Nat} {kd : Int → Int} {f : Int} {n : Nat} {w v : Int} {x : Int × Int × Int} (h : x ∈ ppL f S kd n w v) : x.1 = f ∧ x.2.2 = v := by
  unfold ppL at h
  rw [List.mem_filterMap] at h
  obtain ⟨k, -, h⟩ := h
  by_cases q : kd (k : Int) = w
  · rw [if_pos q] at h; cases h; exact ⟨rfl, rfl⟩
  · rw [if_neg q] at h; cases h
theorem rn_v {f : Int} {n : Nat} {x : Int × Int × Int} (h : x ∈ rnL f n) : x.1 = f ∧ x.2.2 = 0 := by
  unfold rnL at h
  rw [List.mem_map] at h
  obtain ⟨k, -, rfl⟩ := h
  exact ⟨rfl, rfl⟩
theorem fo_v {S : Nat} {kd : Int → Int} {f : Nat} {x : Int × Int × Int} (h : x ∈ foL S kd f) : x.1 = f := by
  unfold foL at h
  rw [List.mem_append, List.mem_append] at h
  rcases h with (h | h) | h
  · exact (rn_v h).1
  · exact (pp_v h).1
  · exact (pp_v h).1
theorem fo_nd {S : Nat} {kd : Int → Int} (f : Nat) : (foL S kd f).Pairwise (· ≠ ·) := by
  unfold foL
  rw [List.pairwise_append, List.pairwise_append]
  refine ⟨⟨rn_nd _ _, pp_nd _ _ _ _, fun a ha b hb e => ?_⟩, pp_nd _ _ _ _, fun a ha b hb e => ?_⟩
  · have h1 := (rn_v ha).2
    have h2 := (pp_v hb).2
    rw [e] at h1; omega
  · have h2 := (pp_v hb).2
    rw [List.mem_append] at ha
    rcases ha with ha | ha
    · have h1 := (rn_v ha).2
      rw [e] at h1; omega
    · have h1 := (pp_v ha).2
      rw [e] at h1; omega
theorem pa_nd (S : Nat) (kd : Int → Int) (F : Nat) : (paL S kd F).Pairwise (· ≠ ·) := by
  unfold paL
  rw [List.pairwise_flatMap]
  refine ⟨fun a _ => fo_nd a, (rng_nd F).imp ?_⟩
  intro i j hij x hx y hy e
  have h1 := fo_v hx
  have h2 := fo_v hy
  rw [e] at h1
  omega
section PAF
variable {S F : Int} {kd : Int → Int} {np : Int} {pf ps pk pn : Int → Int}
theorem pa_at (h : PA (paL S.toNat kd F.toNat) np pf ps pk pn) {j : Int} (h0 : 0 ≤ j) (h1 : j < np) : (paL S.toNat kd F.toNat)[j.toNat]? = some (pf j, ps j, pk j) ∧ pn j = 1 := by
  obtain ⟨e, q⟩ := h
  have hj : j.toNat < (paL S.toNat kd F.toNat).length := by omega
  have h2 := q j.toNat _ (List.getElem?_eq_getElem hj)
  rw [Int.toNat_of_nonneg h0] at h2
  rw [List.getElem?_eq_getElem hj, h2.1, h2.2.1, h2.2.2.1]
  exact ⟨rfl, h2.2.2.2⟩
theorem PLs_pa (hF : 0 ≤ F) (hS : 0 ≤ S) (h : PA (paL S.toNat kd F.toNat) np pf ps pk pn) : PLs F S kd np pf ps pk := by
  have cF : ((F.toNat : Nat) : Int) = F := Int.toNat_of_nonneg hF
  have cS : ((S.toNat : Nat) : Int) = S := Int.toNat_of_nonneg hS
  refine ⟨fun i h0 h1 => ?_, fun f s w hp => ?_, fun i j i0 i1 j0 j1 e1 e2 e3 => ?_⟩
  · have := pa_mem.mp (List.mem_of_getElem? (pa_at h h0 h1).1)
    rw [cF, cS] at this
    exact this
  · have hm : (f, s, w) ∈ paL S.toNat kd F.toNat := pa_mem.mpr (by rw [cF, cS]; exact hp)
    obtain ⟨i, hi⟩ := List.mem_iff_getElem?.mp hm
    have hl : i < (paL S.toNat kd F.toNat).length := (List.getElem?_eq_some_iff.mp hi).1
    have hq := h.2 i _ hi
    have hn := h.1
    exact ⟨(i : Int), by omega, by omega, hq.1, hq.2.1, hq.2.2.1⟩
  · have a1 := (pa_at h i0 i1).1
    have a2 := (pa_at h j0 j1).1
    rw [← e1, ← e2, ← e3, ← a1] at a2
    have hnd : List.Nodup (paL S.toNat kd F.toNat) := pa_nd _ _ _
    have hn := h.1
    have hpw := List.pairwise_iff_getElem.mp hnd
    have gi : i.toNat < (paL S.toNat kd F.toNat).length := by omega
    have gj : j.toNat < (paL S.toNat kd F.toNat).length := by omega
    rw [List.getElem?_eq_getElem gi, List.getElem?_eq_getElem gj] at a2
    have a3 := Option.some.inj a2
    rcases Int.lt_trichotomy i j with c | c | c
    · exact absurd a3.symm (hpw i.toNat j.toNat gi gj (by omega))
    · exact c
    · exact absurd a3 (hpw j.toNat i.toNat gj gi (by omega))
theorem PA_np (hF : 1 ≤ F ∧ F ≤ 5) (hS : 2 ≤ S ∧ S ≤ 6) (h : PA (paL S.toNat kd F.toNat) np pf ps pk pn) : 0 ≤ np ∧ np ≤ 55 := by
  have h1 := paL_55 (S := S.toNat) (F := F.toNat) (kd := kd) (by omega) (by omega)
  have := h.1
  omega
theorem PA_pt (hF : 1 ≤ F ∧ F ≤ 5) (hS : 2 ≤ S ∧ S ≤ 6) (h : PA (paL S.toNat kd F.toNat) np pf ps pk pn) : ∀ j, 0 ≤ j → j < np → (0 ≤ pf j ∧ pf j ≤ 4) ∧ (0 ≤ ps j ∧ ps j ≤ 5) ∧ (0 ≤ pk j ∧ pk j ≤ 2) ∧ (0 ≤ pn j ∧ pn j ≤ 1) := by
  intro j h0 h1
  have h2 := (PLs_pa (by omega) (by omega) h).1 j h0 h1
  have h3 := (pa_at h h0 h1).2
  unfold PPr at h2
  omega
theorem PA_eq {L : List (Int × Int × Int)} {np' : Int} {pf' ps' pk' pn' : Int → Int} (h : PA L np pf ps pk pn) (h' : PA L np' pf' ps' pk' pn') : np = np' ∧ ∀ j, 0 ≤ j → j < np → pf j = pf' j ∧ ps j = ps' j ∧ pk j = pk' j ∧ pn j = pn' j := by
  refine ⟨by rw [h.1, h'.1], fun j h0 h1 => ?_⟩
  have hn := h.1
  have hj : j.toNat < L.length := by omega
  have a := h.2 j.toNat _ (List.getElem?_eq_getElem hj)
  have b := h'.2 j.toNat _ (List.getElem?_eq_getElem hj)
  rw [Int.toNat_of_nonneg h0] at a b
  exact ⟨a.1.trans b.1.symm, a.2.1.trans b.2.1.symm, a.2.2.1.trans b.2.2.1.symm, a.2.2.2.trans b.2.2.2.symm⟩
end PAF
theorem ptW_cg {pa : Nat → Nat} {pf ps pk pn pf' ps' pk' pn' : Int → Int} {np : Int} (h : ∀ j, 0 ≤ j → j < np → pf j = pf' j ∧ ps j = ps' j ∧ pk j = pk' j ∧ pn j = pn' j) : ptW pa pf ps pk pn np = ptW pa pf' ps' pk' pn' np := by
  unfold ptW
  refine List.map_congr_left (fun k hk => ?_)
  have hk2 := List.mem_range.mp hk
  obtain ⟨h1, h2, h3, h4⟩ := h k (by omega) (by omega)
  unfold ptC
  rw [h1, h2, h3, h4]
/-! the relation -/
abbrev bW (D : va_G) (h : Nat → Nat) (f : Nat → Int) (g : Nat → Int → Int) (N : Nat → Nat) (M : Nat → Nat → Nat) (P : List PR) : va_W := sW D h f g N M (ptW (M 6) (g 24) (g 25) (g 26) (g 27) (f 6) ++ plW D P)
/-- what the class's state keeps -/
def RI (D : va_G) (f : Nat → Int) (g : Nat → Int → Int) (N : Nat → Nat) (M : Nat → Nat → Nat) (P : List PR) : Prop :=
  (1 ≤ f 0 ∧ f 0 ≤ 5) ∧ (2 ≤ f 1 ∧ f 1 ≤ 6) ∧ (0 ≤ f 2 ∧ f 2 ≤ 9) ∧ (∀ j, 0 ≤ j → j < 6 → 0 ≤ g 5 j ∧ g 5 j ≤ 3) ∧ (∀ j, 0 ≤ j → j < 5 → 1 ≤ g 3 j ∧ g 3 j ≤ 50) ∧ (∀ j, 0 ≤ j → j < 6 → 0 ≤ g 4 j ∧ g 4 j ≤ 400) ∧ (∀ j, 0 ≤ j → j + 1 < f 1 → g 4 j < g 4 (j + 1)) ∧
  (0 ≤ f 9 ∧ f 9 ≤ 400) ∧ (0 ≤ f 7 ∧ f 7 ≤ 8) ∧ (f 7 ≤ N 7 ∧ 1 ≤ N 7 ∧ N 7 ≤ 12) ∧ (0 ≤ f 6 ∧ f 6 ≤ 55) ∧ N 6 = 55 ∧
  (∀ j, 0 ≤ j → j < f 6 → (0 ≤ g 24 j ∧ g 24 j ≤ 4) ∧ (0 ≤ g 25 j ∧ g 25 j ≤ 5) ∧ (0 ≤ g 26 j ∧ g 26 j ≤ 2) ∧ (0 ≤ g 27 j ∧ g 27 j ≤ 1)) ∧
  PLs (f 0) (f 1) (g 5) (f 6) (g 24) (g 25) (g 26) ∧ (8 ≤ N 11 ∧ N 11 ≤ 990 ∧ 0 ≤ f 11 ∧ f 11 ≤ N 11) ∧
  (∀ j, 0 ≤ j → j < f 11 → M 11 j.toNat = D.2 1000 (g 28 j + 128).toNat ∧ 0 ≤ g 28 j ∧ g 28 j < 8) ∧ (∀ j, 0 ≤ j → j < 61440 → 0 ≤ g 12 j ∧ g 12 j ≤ 1000000000) ∧ PS f g M P
/-- the class's state and the model's -/
def RL (D : va_G) (f : Nat → Int) (g : Nat → Int → Int) (N : Nat → Nat) (M : Nat → Nat → Nat) (P : List PR) (F : Nat → Int) (G : Nat → Int → Int) : Prop :=
  RI D f g N M P ∧ (f 0 = F 2 ∧ f 1 = F 3 ∧ f 2 = F 4 ∧ f 9 = F 5 ∧ f 10 = F 6 ∧ f 7 = F 7 ∧ f 6 = F 8 ∧ f 11 = F 9) ∧
  (g 3 = G 10 ∧ g 4 = G 11 ∧ g 5 = G 12 ∧ tpS (g 8) = G 13 ∧ g 24 = G 14 ∧ g 25 = G 15 ∧ g 26 = G 16 ∧ g 27 = G 17) ∧ (∀ j, 0 ≤ j → j < f 11 → g 28 j = G 21 j) ∧
  (∀ (i : Nat) (r : PR), P[i]? = some r → r.2.1 0 = G 19 i ∧ r.2.1 5 = G 18 i ∧ ∀ j, 0 ≤ j → j < r.2.1 5 → r.2.2 0 j = G 20 (400 * (i : Int) + j))
theorem RL.mf {D : va_G} {f : Nat → Int} {g : Nat → Int → Int} {N : Nat → Nat} {M : Nat → Nat → Nat} {P : List PR} {F F' : Nat → Int} {G G' : Nat → Int → Int} (h : RL D f g N M P F G) (hF : F' 2 = F 2 ∧ F' 3 = F 3 ∧ F' 4 = F 4 ∧ F' 5 = F 5 ∧ F' 6 = F 6 ∧ F' 7 = F 7 ∧ F' 8 = F 8 ∧ F' 9 = F 9) (hG : G' 10 = G 10 ∧ G' 11 = G 11 ∧ G' 12 = G 12 ∧ G' 13 = G 13 ∧ G' 14 = G 14 ∧ G' 15 = G 15 ∧ G' 16 = G 16 ∧ G' 17 = G 17 ∧ G' 18 = G 18 ∧ G' 19 = G 19 ∧ G' 20 = G 20 ∧ G' 21 = G 21) : RL D f g N M P F' G' := by
  obtain ⟨a1, a2, a3, a4, a5, a6, a7, a8⟩ := hF
  obtain ⟨b1, b2, b3, b4, b5, b6, b7, b8, b9, b10, b11, b12⟩ := hG
  unfold RL
  rw [a1, a2, a3, a4, a5, a6, a7, a8, b1, b2, b3, b4, b5, b6, b7, b8, b9, b10, b11, b12]
  exact h
/-- a world of the class's that the relation knows -/
def NX (D : va_G) (hb : Nat) (w : va_W) (F : Nat → Int) (G : Nat → Int → Int) : Prop := ∃ (h : Nat → Nat) (f : Nat → Int) (g : Nat → Int → Int) (N : Nat → Nat) (M : Nat → Nat → Nat) (P : List PR), h 0 = hb ∧ w = bW D h f g N M P ∧ RL D f g N M P F G
