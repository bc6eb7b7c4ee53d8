/-! ===== the best way itself ===== -/
section WAY
variable {FAR ST : Int} {V LD LN CV LD' LN' CV' : Int → Int} {cl set en : Int} {n : Nat}
theorem mv_inv {at_ m : Int} (h : mvV FAR ST V LD LN CV cl set at_ m < FAR) : LD (8 * at_ + m) ≠ -1 ∧ bhd set (CV (8 * at_ + m)) cl ≠ -1 ∧ V (60 * bhd set (CV (8 * at_ + m)) cl + LD (8 * at_ + m)) < FAR ∧ mvV FAR ST V LD LN CV cl set at_ m = V (60 * bhd set (CV (8 * at_ + m)) cl + LD (8 * at_ + m)) + ST * LN (8 * at_ + m) + 1 := by
  by_cases q : LD (8 * at_ + m) = -1
  · rw [mv_1 q] at h; omega
  · by_cases r : bhd set (CV (8 * at_ + m)) cl = -1
    · rw [mv_2 q r] at h; omega
    · by_cases z : FAR ≤ V (60 * bhd set (CV (8 * at_ + m)) cl + LD (8 * at_ + m))
      · rw [mv_3 q r z] at h; omega
      · exact ⟨q, r, by omega, mv_4 q r (by omega)⟩
theorem fst_f0 {at_ f0 f1 : Int} {k : Nat} (h : bstM FAR ST V LD LN CV cl set at_ k < FAR) : fstM FAR ST V LD LN CV cl set at_ f0 k = fstM FAR ST V LD LN CV cl set at_ f1 k := by
  obtain ⟨m, h1, h2, h3, h4⟩ := fst_ok (f0 := f0) k h
  obtain ⟨m', h1', h2', h3', h4'⟩ := fst_ok (f0 := f1) k h
  rw [h2, h2']
  by_cases e : m < m'
  · have := h4' m e; omega
  · by_cases e' : m' < m
    · have := h4 m' e'; omega
    · omega
/-- one step of the best way -/
theorem pstep {at_ : Int} (hST : 0 ≤ ST) (hn : n ≤ 10) (hT : TBok n LD LN CV) (hs : 0 ≤ set ∧ set < 2 ^ n) (ha : 0 ≤ at_ ∧ at_ < 60) (hB : Bel FAR ST LD LN CV cl (2 ^ n) en V) (h0 : 0 < V (60 * set + at_)) (h1 : V (60 * set + at_) < FAR) :
    bstM FAR ST V LD LN CV cl set at_ 8 = V (60 * set + at_) ∧ (0 ≤ fstM FAR ST V LD LN CV cl set at_ 0 8 ∧ fstM FAR ST V LD LN CV cl set at_ 0 8 < 8) ∧ (0 ≤ LD (8 * at_ + fstM FAR ST V LD LN CV cl set at_ 0 8) ∧ LD (8 * at_ + fstM FAR ST V LD LN CV cl set at_ 0 8) < 60) ∧
    (0 ≤ bhd set (CV (8 * at_ + fstM FAR ST V LD LN CV cl set at_ 0 8)) cl ∧ bhd set (CV (8 * at_ + fstM FAR ST V LD LN CV cl set at_ 0 8)) cl < 2 ^ n) ∧ (-2 ≤ CV (8 * at_ + fstM FAR ST V LD LN CV cl set at_ 0 8) ∧ CV (8 * at_ + fstM FAR ST V LD LN CV cl set at_ 0 8) < n) ∧
    V (60 * bhd set (CV (8 * at_ + fstM FAR ST V LD LN CV cl set at_ 0 8)) cl + LD (8 * at_ + fstM FAR ST V LD LN CV cl set at_ 0 8)) + ST * LN (8 * at_ + fstM FAR ST V LD LN CV cl set at_ 0 8) + 1 = V (60 * set + at_) ∧
    V (60 * bhd set (CV (8 * at_ + fstM FAR ST V LD LN CV cl set at_ 0 8)) cl + LD (8 * at_ + fstM FAR ST V LD LN CV cl set at_ 0 8)) < V (60 * set + at_) ∧
    mbd V (bhd set (CV (8 * at_ + fstM FAR ST V LD LN CV cl set at_ 0 8)) cl) (LD (8 * at_ + fstM FAR ST V LD LN CV cl set at_ 0 8)) + 1 ≤ mbd V set at_ := by
  obtain ⟨b1, b2, b3⟩ := hB
  have hne : ¬ (set = 2 ^ n - 1 ∧ at_ = en) := by
    rintro ⟨rfl, rfl⟩
    omega
  have e := b3 set at_ hs.1 hs.2 ha.1 ha.2 hne
  obtain ⟨m, f1, f2, f3, f4⟩ := fst_ok (f0 := 0) 8 (show bstM FAR ST V LD LN CV cl set at_ 8 < FAR by omega)
  rw [f2]
  obtain ⟨t1, t2⟩ := hT (8 * at_ + m) (by omega) (by omega)
  obtain ⟨m1, m2, m3, m4⟩ := mv_inv (show mvV FAR ST V LD LN CV cl set at_ m < FAR by omega)
  obtain ⟨t3, t4⟩ := t2 m1
  rcases bhd_rg (cl := cl) hn hs t4 with z | z
  · exact absurd z m2
  · have h9 : 0 ≤ ST * LN (8 * at_ + m) := Int.mul_nonneg hST (by omega)
    have hlt : V (60 * bhd set (CV (8 * at_ + m)) cl + LD (8 * at_ + m)) < V (60 * set + at_) := by omega
    exact ⟨e.symm, ⟨by omega, by omega⟩, ⟨by omega, t1.2⟩, ⟨by omega, z.2⟩, t4, by omega, hlt, mbd_lt hn hs t4 ⟨by omega, t1.2⟩ m2 hlt⟩
/-- tables that agree where it matters -/
def TBa (LD LN CV LD' LN' CV' : Int → Int) : Prop := ∀ k, 0 ≤ k → k < 480 → LD k = LD' k ∧ (LD k ≠ -1 → LN k = LN' k ∧ CV k = CV' k)
theorem mv_T {at_ m : Int} (h : TBa LD LN CV LD' LN' CV') (ha : 0 ≤ at_ ∧ at_ < 60) (hm : 0 ≤ m ∧ m < 8) : mvV FAR ST V LD LN CV cl set at_ m = mvV FAR ST V LD' LN' CV' cl set at_ m := by
  obtain ⟨h1, h2⟩ := h (8 * at_ + m) (by omega) (by omega)
  unfold mvV
  rw [← h1]
  by_cases q : LD (8 * at_ + m) = -1
  · rw [if_pos q, if_pos q]
  · rw [if_neg q, if_neg q, ← (h2 q).1, ← (h2 q).2]
theorem bst_T {at_ : Int} (h : TBa LD LN CV LD' LN' CV') (ha : 0 ≤ at_ ∧ at_ < 60) : ∀ k : Nat, k ≤ 8 → bstM FAR ST V LD LN CV cl set at_ k = bstM FAR ST V LD' LN' CV' cl set at_ k
  | 0, _ => rfl
  | k + 1, hk => by
    unfold bstM
    rw [bst_T h ha k (by omega), mv_T h ha ⟨by omega, by omega⟩]
theorem fst_T {at_ f0 : Int} (h : TBa LD LN CV LD' LN' CV') (ha : 0 ≤ at_ ∧ at_ < 60) : ∀ k : Nat, k ≤ 8 → fstM FAR ST V LD LN CV cl set at_ f0 k = fstM FAR ST V LD' LN' CV' cl set at_ f0 k
  | 0, _ => rfl
  | k + 1, hk => by
    unfold fstM
    rw [fst_T h ha k (by omega), bst_T h ha k (by omega), mv_T h ha ⟨by omega, by omega⟩]
theorem Bel_T {sets : Int} (h : TBa LD LN CV LD' LN' CV') (hB : Bel FAR ST LD LN CV cl sets en V) : Bel FAR ST LD' LN' CV' cl sets en V := ⟨hB.1, hB.2.1, fun t p h0 h1 h2 h3 h4 => by rw [← bst_T h ⟨h2, h3⟩ 8 (by decide)]; exact hB.2.2 t p h0 h1 h2 h3 h4⟩
/-- the best way's states, from (0, en) on -/
def psq (FAR ST : Int) (V LD LN CV : Int → Int) (cl en : Int) : Nat → Int × Int
  | 0 => (0, en)
  | i + 1 => (bhd (psq FAR ST V LD LN CV cl en i).1 (CV (8 * (psq FAR ST V LD LN CV cl en i).2 + fstM FAR ST V LD LN CV cl (psq FAR ST V LD LN CV cl en i).1 (psq FAR ST V LD LN CV cl en i).2 0 8)) cl, LD (8 * (psq FAR ST V LD LN CV cl en i).2 + fstM FAR ST V LD LN CV cl (psq FAR ST V LD LN CV cl en i).1 (psq FAR ST V LD LN CV cl en i).2 0 8))
/-- what is kept of the best way: its moves -/
def KP (FAR ST : Int) (V LD LN CV : Int → Int) (cl en K : Int) (kept : Int → Int) : Prop :=
  (0 ≤ K ∧ K ≤ 660) ∧ (∀ i : Nat, (i : Int) < K → 0 < V (60 * (psq FAR ST V LD LN CV cl en i).1 + (psq FAR ST V LD LN CV cl en i).2) ∧ kept i = fstM FAR ST V LD LN CV cl (psq FAR ST V LD LN CV cl en i).1 (psq FAR ST V LD LN CV cl en i).2 0 8) ∧
  V (60 * (psq FAR ST V LD LN CV cl en K.toNat).1 + (psq FAR ST V LD LN CV cl en K.toNat).2) ≤ 0
/-- the way so far -/
def KPk (FAR ST : Int) (V LD LN CV : Int → Int) (cl en K : Int) (kept : Int → Int) (set at_ : Int) : Prop :=
  (∀ i : Nat, (i : Int) < K → 0 < V (60 * (psq FAR ST V LD LN CV cl en i).1 + (psq FAR ST V LD LN CV cl en i).2) ∧ kept i = fstM FAR ST V LD LN CV cl (psq FAR ST V LD LN CV cl en i).1 (psq FAR ST V LD LN CV cl en i).2 0 8) ∧ psq FAR ST V LD LN CV cl en K.toNat = (set, at_)
theorem KPk_0 {kept : Int → Int} : KPk FAR ST V LD LN CV cl en 0 kept 0 en := ⟨fun i h => absurd h (by omega), rfl⟩
theorem KPk_s {K at_ : Int} {kept : Int → Int} (h : KPk FAR ST V LD LN CV cl en K kept set at_) (h0 : 0 ≤ K) (hv : 0 < V (60 * set + at_)) : KPk FAR ST V LD LN CV cl en (K + 1) (uI kept K (fstM FAR ST V LD LN CV cl set at_ 0 8)) (bhd set (CV (8 * at_ + fstM FAR ST V LD LN CV cl set at_ 0 8)) cl) (LD (8 * at_ + fstM FAR ST V LD LN CV cl set at_ 0 8)) := by
  obtain ⟨h1, h2⟩ := h
  refine ⟨fun i hi => ?_, ?_⟩
  · by_cases e : (i : Int) = K
    · have e2 : i = K.toNat := by omega
      rw [e, uI_s, e2, h2]
      exact ⟨hv, rfl⟩
    · rw [uI_n e]
      exact h1 i (by omega)
  · rw [show (K + 1).toNat = K.toNat + 1 by omega]
    show (_, _) = (_, _)
    rw [h2]
theorem KPk.end {K at_ : Int} {kept : Int → Int} (h : KPk FAR ST V LD LN CV cl en K kept set at_) (h0 : 0 ≤ K ∧ K ≤ 660) (hv : V (60 * set + at_) ≤ 0) : KP FAR ST V LD LN CV cl en K kept := ⟨h0, h.1, by rw [h.2]; exact hv⟩
theorem psq_T (h : TBa LD LN CV LD' LN' CV') {K : Nat} (hr : ∀ i : Nat, i < K → 0 ≤ (psq FAR ST V LD LN CV cl en i).2 ∧ (psq FAR ST V LD LN CV cl en i).2 < 60) (hf : ∀ i : Nat, i < K → 0 ≤ fstM FAR ST V LD LN CV cl (psq FAR ST V LD LN CV cl en i).1 (psq FAR ST V LD LN CV cl en i).2 0 8 ∧ fstM FAR ST V LD LN CV cl (psq FAR ST V LD LN CV cl en i).1 (psq FAR ST V LD LN CV cl en i).2 0 8 < 8 ∧ LD (8 * (psq FAR ST V LD LN CV cl en i).2 + fstM FAR ST V LD LN CV cl (psq FAR ST V LD LN CV cl en i).1 (psq FAR ST V LD LN CV cl en i).2 0 8) ≠ -1) : ∀ i : Nat, i ≤ K → psq FAR ST V LD LN CV cl en i = psq FAR ST V LD' LN' CV' cl en i
  | 0, _ => rfl
  | i + 1, hi => by
    have ih := psq_T h hr hf i (by omega)
    have hr' := hr i (by omega)
    obtain ⟨q1, q2, q3⟩ := hf i (by omega)
    show (_, _) = (_, _)
    rw [← ih, ← fst_T h hr' 8 (by decide)]
    obtain ⟨r1, r2⟩ := h (8 * (psq FAR ST V LD LN CV cl en i).2 + fstM FAR ST V LD LN CV cl (psq FAR ST V LD LN CV cl en i).1 (psq FAR ST V LD LN CV cl en i).2 0 8) (by omega) (by omega)
    rw [← r1, ← (r2 q3).2]
/-- along the best way all is in range -/
theorem psq_in (hST : 0 ≤ ST) (hn : n ≤ 10) (hT : TBok n LD LN CV) (he : 0 ≤ en ∧ en < 60) (hB : Bel FAR ST LD LN CV cl (2 ^ n) en V) (hf : V (60 * 0 + en) < FAR) {K : Int} (hk : ∀ i : Nat, (i : Int) < K → 0 < V (60 * (psq FAR ST V LD LN CV cl en i).1 + (psq FAR ST V LD LN CV cl en i).2)) : ∀ i : Nat, (i : Int) ≤ K → (0 ≤ (psq FAR ST V LD LN CV cl en i).1 ∧ (psq FAR ST V LD LN CV cl en i).1 < 2 ^ n) ∧ (0 ≤ (psq FAR ST V LD LN CV cl en i).2 ∧ (psq FAR ST V LD LN CV cl en i).2 < 60) ∧ V (60 * (psq FAR ST V LD LN CV cl en i).1 + (psq FAR ST V LD LN CV cl en i).2) < FAR
  | 0, _ => ⟨⟨Int.le_refl _, p2_pos n⟩, he, hf⟩
  | i + 1, hi => by
    obtain ⟨h1, h2, h3⟩ := psq_in hST hn hT he hB hf hk i (by omega)
    obtain ⟨s1, s2, s3, s4, s5, s6, s7, s8⟩ := pstep hST hn hT h1 h2 hB (hk i (by omega)) h3
    exact ⟨s4, s3, Int.lt_trans s7 h3⟩
theorem KP_T (hST : 0 ≤ ST) (hn : n ≤ 10) (hT : TBok n LD LN CV) (he : 0 ≤ en ∧ en < 60) (hB : Bel FAR ST LD LN CV cl (2 ^ n) en V) (hf : V (60 * 0 + en) < FAR) (h : TBa LD LN CV LD' LN' CV') {K : Int} {kept : Int → Int} (hk : KP FAR ST V LD LN CV cl en K kept) : KP FAR ST V LD' LN' CV' cl en K kept := by
  obtain ⟨k1, k2, k3⟩ := hk
  have hin := psq_in hST hn hT he hB hf (fun i hi => (k2 i hi).1)
  have hp := psq_T (FAR := FAR) (ST := ST) (V := V) (cl := cl) (en := en) h (K := K.toNat) (fun i hi => (hin i (by omega)).2.1) (fun i hi => by
    obtain ⟨h1, h2, h3⟩ := hin i (by omega)
    obtain ⟨s1, s2, s3, s4, s5, s6, s7, s8⟩ := pstep hST hn hT h1 h2 hB (k2 i (by omega)).1 h3
    exact ⟨s2.1, s2.2, by omega⟩)
  refine ⟨k1, fun i hi => ?_, ?_⟩
  · rw [← hp i (by omega), ← fst_T h (hin i (by omega)).2.1 8 (by decide)]
    exact k2 i hi
  · rw [← hp K.toNat (Nat.le_refl _)]
    exact k3
end WAY
/-! the tables by what they mean -/
def LDc (F S : Int) (kd : Int → Int) (k : Int) : Int := ldT F S kd (k / 8) (k % 8)
def LNc (ht th : Int → Int) (k : Int) : Int := leng ht th (k / 8) (k % 8)
def CVc (np : Int) (pf ps pk pn : Int → Int) (k : Int) : Int := cvT np pf ps pk pn (ndc pn) (k / 8) (k % 8)
theorem shl_p2 {n : Int} (h : 0 ≤ n ∧ n ≤ 10) : iI 1 <<< (iI n &&& 31) = iI (2 ^ n.toNat) := by
  obtain ⟨x, hx⟩ := iI_nat (N := 11) (p := n) ⟨h.1, by omega⟩
  subst hx
  revert x
  decide +kernel
theorem ndc_rg {pn : Int → Int} {np k : Int} (h : ∀ j, 0 ≤ j → j < np → 0 ≤ pn j ∧ pn j ≤ 1) (h0 : 0 ≤ k) (h1 : k ≤ np) : 0 ≤ ndc pn k ∧ ndc pn k ≤ k := by
  have := sumN_rg (f := fun i => pn (i : Int)) (n := k.toNat) (M := 1) (fun i hi => h i (by omega) (by omega)) k.toNat (Nat.le_refl _)
  unfold ndc
  omega
theorem ndc_mono {pn : Int → Int} {np : Int} (h : ∀ j, 0 ≤ j → j < np → 0 ≤ pn j ∧ pn j ≤ 1) {a : Int} (h0 : 0 ≤ a) : ∀ d : Nat, a + d ≤ np → ndc pn a ≤ ndc pn (a + d)
  | 0, _ => by simp
  | d + 1, hd => by
    have := ndc_mono h h0 d (by omega)
    rw [show a + ((d + 1 : Nat) : Int) = (a + d) + 1 by omega, ndc_s (by omega)]
    have := h (a + d) (by omega) (by omega)
    omega
/-- a needed part's bit is below the count -/
theorem ndc_lt {pn : Int → Int} {np p : Int} (h : ∀ j, 0 ≤ j → j < np → 0 ≤ pn j ∧ pn j ≤ 1) (h0 : 0 ≤ p) (h1 : p < np) (hp : pn p ≠ 0) : ndc pn p < ndc pn np := by
  have h2 := ndc_s (pn := pn) h0
  have h3 := ndc_mono h (a := p + 1) (by omega) (np - (p + 1)).toNat (by omega)
  rw [show p + 1 + ((np - (p + 1)).toNat : Int) = np by omega] at h3
  have := h p h0 h1
  omega
theorem cv_rg {np : Int} {pf ps pk pn : Int → Int} {p m : Int} (hnp : 0 ≤ np) (h : ∀ j, 0 ≤ j → j < np → 0 ≤ pn j ∧ pn j ≤ 1) : -2 ≤ cvT np pf ps pk pn (ndc pn) p m ∧ cvT np pf ps pk pn (ndc pn) p m < (ndc pn np).toNat := by
  have hn := ndc_rg h hnp (Int.le_refl _)
  have ha := alg_rg (np := np) (pf := pf) (ps := ps) (pk := pk) (p := p) (m := m) hnp
  unfold cvT
  split
  · omega
  · split
    · rename_i q1 q2
      have := ndc_rg h (k := alg np pf ps pk p m) (by omega) (by omega)
      have := ndc_lt h (p := alg np pf ps pk p m) (by omega) (by omega) q2
      omega
    · omega
theorem TB_c {np F S : Int} {kd pf ps pk pn ht th : Int → Int} (hF : 1 ≤ F ∧ F ≤ 5) (hS : 2 ≤ S ∧ S ≤ 6) (hnp : 0 ≤ np) (hpn : ∀ j, 0 ≤ j → j < np → 0 ≤ pn j ∧ pn j ≤ 1) (hth : ∀ j, 0 ≤ j → j < 5 → 1 ≤ th j ∧ th j ≤ 50) (hht : ∀ j, 0 ≤ j → j < 6 → 0 ≤ ht j ∧ ht j ≤ 400) (hri : ∀ j, 0 ≤ j → j + 1 < S → ht j < ht (j + 1)) : TBok (ndc pn np).toNat (LDc F S kd) (LNc ht th) (CVc np pf ps pk pn) := by
  intro k h0 h1
  refine ⟨?_, fun hl => ⟨?_, cv_rg hnp hpn⟩⟩
  · unfold LDc ldT
    split
    · have := lead_rg (kd := kd) (m := k % 8) hF hS (p := k / 8) (by omega) (by omega)
      omega
    · omega
  · obtain ⟨q1, q2, q3⟩ := ldT_ne hl
    unfold LNc
    have hm : 0 ≤ k % 8 ∧ k % 8 < 8 := by omega
    have hp : 0 ≤ k / 8 ∧ k / 8 < 60 := by omega
    generalize k % 8 = m at *
    generalize k / 8 = p at *
    rcases (show m = 0 ∨ m = 1 ∨ m = 2 ∨ m = 3 ∨ m = 4 ∨ m = 5 ∨ m = 6 ∨ m = 7 by omega) with rfl | rfl | rfl | rfl | rfl | rfl | rfl | rfl
    · rw [leng_0]; omega
    · have q := (leadn_1 q3).1; rw [leng_1]; have := hri (p / 2 % 6) (by omega) (by omega); have := hht (p / 2 % 6 + 1) (by omega) (by omega); have := hht (p / 2 % 6) (by omega) (by omega); omega
    · have q := (leadn_2 q3).1; rw [leng_2]; have := hri (p / 2 % 6 - 1) (by omega) (by omega); rw [show p / 2 % 6 - 1 + 1 = p / 2 % 6 by omega] at this; have := hht (p / 2 % 6 - 1) (by omega) (by omega); have := hht (p / 2 % 6) (by omega) (by omega); omega
    · have q := (leadn_3 q3).1; rw [leng_3]; have := hri (p / 2 % 6) (by omega) (by omega); have := hht (p / 2 % 6 + 1) (by omega) (by omega); have := hht (p / 2 % 6) (by omega) (by omega); omega
    · have q := (leadn_4 q3).1; rw [leng_4]; have := hri (p / 2 % 6 - 1) (by omega) (by omega); rw [show p / 2 % 6 - 1 + 1 = p / 2 % 6 by omega] at this; have := hht (p / 2 % 6 - 1) (by omega) (by omega); have := hht (p / 2 % 6) (by omega) (by omega); omega
    · rw [leng_5]; omega
    · have q := (leadn_6 q3).1; rw [leng_6]; have := hth (p / 2 / 6 + 1) (by omega) (by omega); have := hth (p / 2 / 6) (by omega) (by omega); omega
    · have q := (leadn_7 q3).1; rw [leng_7]; have := hth (p / 2 / 6 - 1) (by omega) (by omega); have := hth (p / 2 / 6) (by omega) (by omega); omega
theorem TBa.sy {LD LN CV LD' LN' CV' : Int → Int} (h : TBa LD LN CV LD' LN' CV') : TBa LD' LN' CV' LD LN CV := fun k h0 h1 => ⟨(h k h0 h1).1.symm, fun q => ⟨((h k h0 h1).2 (by rw [(h k h0 h1).1]; exact q)).1.symm, ((h k h0 h1).2 (by rw [(h k h0 h1).1]; exact q)).2.symm⟩⟩
theorem TBok_T {n : Int} {LD LN CV LD' LN' CV' : Int → Int} (h : TBa LD LN CV LD' LN' CV') (hT : TBok n LD' LN' CV') : TBok n LD LN CV := by
  intro k h0 h1
  obtain ⟨t1, t2⟩ := hT k h0 h1
  obtain ⟨a1, a2⟩ := h k h0 h1
  refine ⟨by rw [a1]; exact t1, fun q => ?_⟩
  rw [(a2 q).1, (a2 q).2]
  exact t2 (by rw [← a1]; exact q)
theorem cvT_c {np : Int} {pf ps pk pn bt bt' : Int → Int} {p m : Int} (hnp : 0 ≤ np) (h : ∀ j, 0 ≤ j → j < np → bt j = bt' j) : cvT np pf ps pk pn bt p m = cvT np pf ps pk pn bt' p m := by
  have ha := alg_rg (np := np) (pf := pf) (ps := ps) (pk := pk) (p := p) (m := m) hnp
  unfold cvT
  by_cases q : alg np pf ps pk p m = -1
  · rw [if_pos q, if_pos q]
  · rw [if_neg q, if_neg q, h _ (by omega) (by omega)]
