/-! ===== the class's reckoning: one layer settled by the least not done ===== -/
theorem uI_id {V : Int → Int} {x v : Int} (h : v = V x) : uI V x v = V := by
  funext j
  unfold uI
  split
  · rename_i e; rw [e, h]
  · rfl
def minI (a b : Int) : Int := if a ≤ b then a else b
section DIJ
variable {FAR ST : Int} {LD LN CV V dn cm my : Int → Int} {cl en set : Int} {n : Nat}
/-- what is covered behind a move of the tables -/
def nxS (LD CV : Int → Int) (cl set k : Int) : Int := if LD k = -1 then -1 else bhd set (CV k) cl
theorem nx_rg (hn : n ≤ 10) (hT : TBok n LD LN CV) (hs : 0 ≤ set ∧ set < 2 ^ n) {k : Int} (hk : 0 ≤ k ∧ k < 480) : nxS LD CV cl set k = -1 ∨ (LD k ≠ -1 ∧ 0 ≤ LD k ∧ LD k < 60 ∧ set ≤ nxS LD CV cl set k ∧ nxS LD CV cl set k < 2 ^ n) := by
  obtain ⟨t1, t2⟩ := hT k hk.1 hk.2
  unfold nxS
  by_cases e : LD k = -1
  · rw [if_pos e]; exact Or.inl rfl
  · rw [if_neg e]
    rcases bhd_rg (cl := cl) hn hs (t2 e).2 with z | z
    · exact Or.inl z
    · exact Or.inr ⟨e, by omega, by omega, z.1, z.2⟩
/-- the value of the k-th move of the tables -/
def mvK (FAR ST : Int) (V LD LN CV : Int → Int) (cl set k : Int) : Int := if nxS LD CV cl set k = -1 then FAR else if FAR ≤ V (60 * nxS LD CV cl set k + LD k) then FAR else V (60 * nxS LD CV cl set k + LD k) + ST * LN k + 1
theorem mvK_V {p m : Int} : mvV FAR ST V LD LN CV cl set p m = mvK FAR ST V LD LN CV cl set (8 * p + m) := by
  unfold mvV mvK nxS
  by_cases e : LD (8 * p + m) = -1
  · rw [if_pos e, if_pos e, if_pos rfl]
  · rw [if_neg e, if_neg e]
theorem mvK_1 {k : Int} (h : nxS LD CV cl set k = -1) : mvK FAR ST V LD LN CV cl set k = FAR := by unfold mvK; rw [if_pos h]
theorem mvK_cg {V' : Int → Int} {k : Int} (h : nxS LD CV cl set k ≠ -1 → V (60 * nxS LD CV cl set k + LD k) = V' (60 * nxS LD CV cl set k + LD k)) : mvK FAR ST V LD LN CV cl set k = mvK FAR ST V' LD LN CV cl set k := by
  unfold mvK
  by_cases e : nxS LD CV cl set k = -1
  · rw [if_pos e, if_pos e]
  · rw [if_neg e, if_neg e, h e]
theorem mvK_same {k : Int} (hs : 0 ≤ set) (h : nxS LD CV cl set k = set) : mvK FAR ST V LD LN CV cl set k = if FAR ≤ V (60 * set + LD k) then FAR else V (60 * set + LD k) + ST * LN k + 1 := by
  unfold mvK; rw [if_neg (by omega), h]
/-- moves that cover more are heeded, of the first K -/
def UPk (FAR ST : Int) (V LD LN CV : Int → Int) (cl set K : Int) : Prop := ∀ k, 0 ≤ k → k < K → set < nxS LD CV cl set k → V (60 * set + k / 8) ≤ mvK FAR ST V LD LN CV cl set k
/-- moves to what is done are heeded -/
def DNk (FAR ST : Int) (V LD LN CV dn : Int → Int) (cl set : Int) : Prop := ∀ k, 0 ≤ k → k < 480 → nxS LD CV cl set k = set → dn (LD k) = 1 → V (60 * set + k / 8) ≤ mvK FAR ST V LD LN CV cl set k
def ORD (V dn : Int → Int) (set : Int) : Prop := ∀ a b, 0 ≤ a → a < 60 → 0 ≤ b → b < 60 → dn a = 1 → dn b = 0 → V (60 * set + a) ≤ V (60 * set + b)
/-- the first i moves that come to b are heeded -/
def RLb (FAR ST : Int) (V LD LN CV cm : Int → Int) (cl set b i : Int) : Prop := ∀ j, 0 ≤ j → j < i → nxS LD CV cl set (cm (8 * b + j)) = set → V (60 * set + cm (8 * b + j) / 8) ≤ mvK FAR ST V LD LN CV cl set (cm (8 * b + j))
def d01 (dn : Int → Int) : Prop := ∀ j, 0 ≤ j → j < 60 → dn j = 0 ∨ dn j = 1
/-- the tables of what comes to a place -/
def CMok (LD cm my : Int → Int) : Prop := ∀ q, 0 ≤ q → q < 60 → (0 ≤ my q ∧ my q ≤ 8) ∧ (∀ i, 0 ≤ i → i < my q → (0 ≤ cm (8 * q + i) ∧ cm (8 * q + i) < 480) ∧ LD (cm (8 * q + i)) = q) ∧ ∀ k, 0 ≤ k → k < 480 → LD k = q → ∃ i, 0 ≤ i ∧ i < my q ∧ cm (8 * q + i) = k
theorem RK_rel {at_ v : Int} (hF : 0 ≤ FAR) (hST : 0 ≤ ST) (hn : n ≤ 10) (hT : TBok n LD LN CV) (hs : 0 ≤ set ∧ set < 2 ^ n) (ha : 0 ≤ at_ ∧ at_ < 60) (he : 0 ≤ en ∧ en < 60) (h : RK FAR ST LD LN CV cl (2 ^ n) en set V) (hb : bstM FAR ST V LD LN CV cl set at_ 8 ≤ v) (hv : v < V (60 * set + at_)) : RK FAR ST LD LN CV cl (2 ^ n) en set (uI V (60 * set + at_) v) := by
  obtain ⟨h1, h2, h3, h4⟩ := h
  have hb0 := bst_nn (cl := cl) hF hST hn hT hs ha h1 8 (by decide)
  have hne : ¬ (set = 2 ^ n - 1 ∧ at_ = en) := by
    rintro ⟨rfl, rfl⟩
    omega
  have hle : ∀ q, uI V (60 * set + at_) v q ≤ V q := by
    intro q
    unfold uI
    split
    · rename_i e; rw [e]; omega
    · exact Int.le_refl _
  refine ⟨fun q g0 g1 => ?_, ?_, fun t p g0 g1 g2 g3 g4 => ?_, fun t p g0 g1 g2 g3 g4 => ?_⟩
  · unfold uI
    split
    · rename_i e; have := h1 q g0 g1; rw [e] at this; exact ⟨by omega, by omega⟩
    · exact h1 q g0 g1
  · rw [uI_n (by omega)]; exact h2
  · rw [uI_n (by omega), h3 t p g0 g1 g2 g3 g4]
    exact bst_cg hn hT ⟨by omega, g1⟩ ⟨g2, g3⟩ (fun t' p' k0 k1 k2 k3 => (uI_n (by omega)).symm) 8 (by decide)
  · have hm := bst_mono (FAR := FAR) (ST := ST) (LD := LD) (LN := LN) (CV := CV) (cl := cl) (set := t) (at_ := p) hle 8
    by_cases e : 60 * t + p = 60 * set + at_
    · have e1 : t = set := by omega
      have e2 : p = at_ := by omega
      subst e1 e2
      rw [uI_s]
      omega
    · rw [uI_n e]
      exact Int.le_trans hm (h4 t p g0 g1 g2 g3 g4)
theorem RK_min {k v : Int} (hF : 0 ≤ FAR) (hST : 0 ≤ ST) (hn : n ≤ 10) (hT : TBok n LD LN CV) (hs : 0 ≤ set ∧ set < 2 ^ n) (hk : 0 ≤ k ∧ k < 480) (he : 0 ≤ en ∧ en < 60) (h : RK FAR ST LD LN CV cl (2 ^ n) en set V) (hv : v = minI (V (60 * set + k / 8)) (mvK FAR ST V LD LN CV cl set k)) : RK FAR ST LD LN CV cl (2 ^ n) en set (uI V (60 * set + k / 8) v) := by
  unfold minI at hv
  by_cases e : V (60 * set + k / 8) ≤ mvK FAR ST V LD LN CV cl set k
  · rw [if_pos e] at hv; rw [uI_id hv]; exact h
  · rw [if_neg e] at hv
    refine RK_rel hF hST hn hT hs (by omega) he h ?_ (by omega)
    have := bst_le (FAR := FAR) (ST := ST) (V := V) (LD := LD) (LN := LN) (CV := CV) (cl := cl) (set := set) (at_ := k / 8) 8 (k % 8).toNat (by omega)
    rw [mvK_V, show 8 * (k / 8) + ((k % 8).toNat : Int) = k by omega] at this
    omega
/-! a change at one place that is not done -/
theorem UPk_u {a v K : Int} (hn : n ≤ 10) (hT : TBok n LD LN CV) (hs : 0 ≤ set ∧ set < 2 ^ n) (ha : 0 ≤ a ∧ a < 60) (hK : K ≤ 480) (hv : v ≤ V (60 * set + a)) (h : UPk FAR ST V LD LN CV cl set K) : UPk FAR ST (uI V (60 * set + a) v) LD LN CV cl set K := by
  intro k h0 h1 h2
  have hr := nx_rg (cl := cl) hn hT hs (k := k) ⟨h0, by omega⟩
  rw [mvK_cg (V' := V) (fun q => uI_n (by omega))]
  refine Int.le_trans ?_ (h k h0 h1 h2)
  unfold uI
  split
  · rename_i e; rw [e]; exact hv
  · exact Int.le_refl _
theorem UPk_s {v k : Int} (hn : n ≤ 10) (hT : TBok n LD LN CV) (hs : 0 ≤ set ∧ set < 2 ^ n) (hk : 0 ≤ k ∧ k < 480) (hv : v = minI (V (60 * set + k / 8)) (mvK FAR ST V LD LN CV cl set k)) (h : UPk FAR ST V LD LN CV cl set k) : UPk FAR ST (uI V (60 * set + k / 8) v) LD LN CV cl set (k + 1) := by
  unfold minI at hv
  have hv1 : v ≤ V (60 * set + k / 8) := by split at hv <;> omega
  intro j h0 h1 h2
  by_cases e : j = k
  · subst e
    have hr := nx_rg (cl := cl) hn hT hs (k := j) hk
    rw [mvK_cg (V' := V) (fun q => uI_n (by omega)), uI_s]
    split at hv <;> omega
  · exact UPk_u hn hT hs (by omega) (by omega) hv1 h j h0 (by omega) h2
theorem UPk_x {k : Int} (h : UPk FAR ST V LD LN CV cl set k) (hx : ¬ set < nxS LD CV cl set k) : UPk FAR ST V LD LN CV cl set (k + 1) := by
  intro j h0 h1 h2
  by_cases e : j = k
  · subst e; exact absurd h2 hx
  · exact h j h0 (by omega) h2
theorem DNk_u {a v : Int} (hs : 0 ≤ set) (ha : dn a = 0) (hv : v ≤ V (60 * set + a)) (h : DNk FAR ST V LD LN CV dn cl set) : DNk FAR ST (uI V (60 * set + a) v) LD LN CV dn cl set := by
  intro k h0 h1 h2 h3
  rw [mvK_cg (V' := V) (fun q => by
    rw [h2]
    refine uI_n (fun e => ?_)
    have e2 : LD k = a := by omega
    rw [e2, ha] at h3
    exact absurd h3 (by decide))]
  refine Int.le_trans ?_ (h k h0 h1 h2 h3)
  unfold uI
  split
  · rename_i e; rw [e]; exact hv
  · exact Int.le_refl _
theorem DNk_z (h : ∀ j, 0 ≤ j → j < 60 → dn j = 0) (hn : n ≤ 10) (hT : TBok n LD LN CV) (hs : 0 ≤ set ∧ set < 2 ^ n) : DNk FAR ST V LD LN CV dn cl set := fun k h0 h1 h2 h3 => by
  have hr := nx_rg (cl := cl) hn hT hs (k := k) ⟨h0, h1⟩
  rw [h (LD k) (by omega) (by omega)] at h3
  exact absurd h3 (by decide)
theorem ORD_z (h : ∀ j, 0 ≤ j → j < 60 → dn j = 0) : ORD V dn set := fun a b h0 h1 _ _ h2 _ => by
  rw [h a h0 h1] at h2; exact absurd h2 (by decide)
/-- the least not done is done -/
theorem ORD_b {b : Int} (hd : d01 dn) (h : ORD V dn set) (hb : 0 ≤ b ∧ b < 60) (hb0 : dn b = 0) (hl : ∀ j, 0 ≤ j → j < 60 → dn j = 0 → V (60 * set + b) ≤ V (60 * set + j)) : ORD V (uI dn b 1) set := by
  intro x y h0 h1 h2 h3 h4 h5
  have hy : y ≠ b := fun e => by rw [e, uI_s] at h5; exact absurd h5 (by decide)
  rw [uI_n hy] at h5
  by_cases e : x = b
  · subst e; exact hl y h2 h3 h5
  · rw [uI_n e] at h4; exact h x y h0 h1 h2 h3 h4 h5
theorem ORD_top {b : Int} (hd : d01 dn) (h : ORD V dn set) (hb : 0 ≤ b ∧ b < 60) (hb0 : dn b = 0) : ∀ a, 0 ≤ a → a < 60 → uI dn b 1 a = 1 → V (60 * set + a) ≤ V (60 * set + b) := by
  intro a h0 h1 h2
  by_cases e : a = b
  · subst e; exact Int.le_refl _
  · rw [uI_n e] at h2; exact h a b h0 h1 hb.1 hb.2 h2 hb0
theorem d01_u {b : Int} (hd : d01 dn) : d01 (uI dn b 1) := fun j h0 h1 => by
  unfold uI
  split
  · exact Or.inr rfl
  · exact hd j h0 h1
/-- one step of heeding: the move k to b, its place not done -/
theorem rl_step {b i k v : Int} (hF : 0 ≤ FAR) (hST : 0 ≤ ST) (hn : n ≤ 10) (hT : TBok n LD LN CV) (hs : 0 ≤ set ∧ set < 2 ^ n) (he : 0 ≤ en ∧ en < 60) (hb : 0 ≤ b ∧ b < 60) (hbd : dn b = 1) (hi : 0 ≤ i) (hk : 0 ≤ k ∧ k < 480) (hkb : LD k = b) (hck : cm (8 * b + i) = k) (hnd : dn (k / 8) = 0) (hnx : nxS LD CV cl set k = set) (hv : v = minI (V (60 * set + k / 8)) (mvK FAR ST V LD LN CV cl set k))
    (hR : RK FAR ST LD LN CV cl (2 ^ n) en set V) (hU : UPk FAR ST V LD LN CV cl set 480) (hD : ∀ k, 0 ≤ k → k < 480 → nxS LD CV cl set k = set → LD k ≠ b → dn (LD k) = 1 → V (60 * set + k / 8) ≤ mvK FAR ST V LD LN CV cl set k) (hO : ORD V dn set) (hTp : ∀ a, 0 ≤ a → a < 60 → dn a = 1 → V (60 * set + a) ≤ V (60 * set + b)) (hL : RLb FAR ST V LD LN CV cm cl set b i) (hcm : ∀ j, 0 ≤ j → j < i → LD (cm (8 * b + j)) = b) :
    RK FAR ST LD LN CV cl (2 ^ n) en set (uI V (60 * set + k / 8) v) ∧ UPk FAR ST (uI V (60 * set + k / 8) v) LD LN CV cl set 480 ∧ (∀ j, 0 ≤ j → j < 480 → nxS LD CV cl set j = set → LD j ≠ b → dn (LD j) = 1 → uI V (60 * set + k / 8) v (60 * set + j / 8) ≤ mvK FAR ST (uI V (60 * set + k / 8) v) LD LN CV cl set j) ∧ ORD (uI V (60 * set + k / 8) v) dn set ∧
    (∀ a, 0 ≤ a → a < 60 → dn a = 1 → uI V (60 * set + k / 8) v (60 * set + a) ≤ uI V (60 * set + k / 8) v (60 * set + b)) ∧ RLb FAR ST (uI V (60 * set + k / 8) v) LD LN CV cm cl set b (i + 1) ∧ uI V (60 * set + k / 8) v (60 * set + b) = V (60 * set + b) := by
  have hpb : k / 8 ≠ b := fun e => by rw [e, hbd] at hnd; exact absurd hnd (by decide)
  have hR2 := RK_min hF hST hn hT hs hk he hR hv
  have hv0 := hv
  unfold minI at hv
  have hv1 : v ≤ V (60 * set + k / 8) := by split at hv <;> omega
  have hms := mvK_same (FAR := FAR) (ST := ST) (V := V) (LN := LN) (k := k) hs.1 hnx
  rw [hkb] at hms
  have hLN := ((hT k hk.1 hk.2).2 (by rw [hkb]; omega)).1
  have hcost : 0 ≤ ST * LN k := Int.mul_nonneg hST (by omega)
  have hVb := hR.1 (60 * set + b) (by omega) (by omega)
  have hVk := hR.1 (60 * set + k / 8) (by omega) (by omega)
  have hvb : V (60 * set + b) ≤ v := by
    have h9 := hO b (k / 8) hb.1 hb.2 (by omega) (by omega) hbd hnd
    split at hv
    · omega
    · split at hms <;> omega
  have hsame : ∀ q, q ≠ 60 * set + k / 8 → uI V (60 * set + k / 8) v q = V q := fun q h => uI_n h
  have hle : ∀ q, uI V (60 * set + k / 8) v q ≤ V q := by
    intro q
    unfold uI
    split
    · rename_i e; rw [e]; exact hv1
    · exact Int.le_refl _
  refine ⟨hR2, UPk_u hn hT hs (by omega) (Int.le_refl _) hv1 hU, fun j h0 h1 h2 h3 h4 => ?_, fun x y h0 h1 h2 h3 h4 h5 => ?_, fun x h0 h1 h2 => ?_, fun j h0 h1 h2 => ?_, uI_n (by omega)⟩
  · rw [mvK_cg (V' := V) (fun q => by
      rw [h2]
      refine uI_n (fun e9 => ?_)
      have e2 : LD j = k / 8 := by omega
      rw [e2, hnd] at h4
      exact absurd h4 (by decide))]
    exact Int.le_trans (hle _) (hD j h0 h1 h2 h3 h4)
  · have hx : x ≠ k / 8 := fun e9 => by rw [e9, hnd] at h4; exact absurd h4 (by decide)
    rw [hsame _ (by omega)]
    by_cases e9 : y = k / 8
    · rw [e9, uI_s]
      exact Int.le_trans (hTp x h0 h1 h4) hvb
    · rw [hsame _ (by omega)]
      exact hO x y h0 h1 h2 h3 h4 h5
  · have hx : x ≠ k / 8 := fun e9 => by rw [e9, hnd] at h2; exact absurd h2 (by decide)
    rw [hsame _ (by omega), hsame _ (by omega)]
    exact hTp x h0 h1 h2
  · by_cases e9 : j = i
    · rw [e9, hck] at h2 ⊢
      rw [mvK_cg (V' := V) (fun q => by rw [h2, hkb]; exact uI_n (by omega)), uI_s]
      split at hv <;> omega
    · have hc := hcm j h0 (by omega)
      rw [mvK_cg (V' := V) (fun q => by rw [h2, hc]; exact uI_n (by omega))]
      exact Int.le_trans (hle _) (hL j h0 (by omega) h2)
/-- a step passed over -/
theorem RLb_d {b i k : Int} (hST : 0 ≤ ST) (hn : n ≤ 10) (hT : TBok n LD LN CV) (hs : 0 ≤ set ∧ set < 2 ^ n) (hb : 0 ≤ b ∧ b < 60) (hk : 0 ≤ k ∧ k < 480) (hkb : LD k = b) (hck : cm (8 * b + i) = k) (hV : ∀ q, 0 ≤ q → q < 60 * 2 ^ n → 0 ≤ V q ∧ V q ≤ FAR) (hTp : ∀ a, 0 ≤ a → a < 60 → dn a = 1 → V (60 * set + a) ≤ V (60 * set + b)) (hL : RLb FAR ST V LD LN CV cm cl set b i) (hx : dn (k / 8) = 1 ∨ nxS LD CV cl set k ≠ set) : RLb FAR ST V LD LN CV cm cl set b (i + 1) := by
  intro j h0 h1 h2
  by_cases e9 : j = i
  · rw [e9, hck] at h2 ⊢
    rcases hx with hx | hx
    · have hms := mvK_same (FAR := FAR) (ST := ST) (V := V) (LN := LN) (k := k) hs.1 h2
      rw [hkb] at hms
      have hLN := ((hT k hk.1 hk.2).2 (by rw [hkb]; omega)).1
      have hcost : 0 ≤ ST * LN k := Int.mul_nonneg hST (by omega)
      have h5 := hTp (k / 8) (by omega) (by omega) hx
      have h6 := hV (60 * set + k / 8) (by omega) (by omega)
      split at hms <;> omega
    · exact absurd h2 hx
  · exact hL j h0 (by omega) h2
/-- all that comes to b is heeded -/
theorem DNk_b {b : Int} (hC : CMok LD cm my) (hb : 0 ≤ b ∧ b < 60) (hD : ∀ k, 0 ≤ k → k < 480 → nxS LD CV cl set k = set → LD k ≠ b → dn (LD k) = 1 → V (60 * set + k / 8) ≤ mvK FAR ST V LD LN CV cl set k) (hL : RLb FAR ST V LD LN CV cm cl set b (my b)) : DNk FAR ST V LD LN CV dn cl set := by
  intro k h0 h1 h2 h3
  by_cases e : LD k = b
  · obtain ⟨i, i0, i1, i2⟩ := (hC b hb.1 hb.2).2.2 k h0 h1 e
    have := hL i i0 i1 (by rw [i2]; exact h2)
    rw [i2] at this
    exact this
  · exact hD k h0 h1 h2 e h3
theorem DNk_ex {b : Int} (hD : DNk FAR ST V LD LN CV dn cl set) : ∀ k, 0 ≤ k → k < 480 → nxS LD CV cl set k = set → LD k ≠ b → uI dn b 1 (LD k) = 1 → V (60 * set + k / 8) ≤ mvK FAR ST V LD LN CV cl set k := fun k h0 h1 h2 h3 h4 => by
  rw [uI_n h3] at h4; exact hD k h0 h1 h2 h4
/-- nothing more that is near: the layer is settled -/
theorem lay_end (hn : n ≤ 10) (hT : TBok n LD LN CV) (hs : 0 ≤ set ∧ set < 2 ^ n) (hd : d01 dn) (hR : RK FAR ST LD LN CV cl (2 ^ n) en set V) (hU : UPk FAR ST V LD LN CV cl set 480) (hD : DNk FAR ST V LD LN CV dn cl set) (hz : ∀ j, 0 ≤ j → j < 60 → dn j = 0 → FAR ≤ V (60 * set + j)) : RK FAR ST LD LN CV cl (2 ^ n) en (set - 1) V := by
  refine RK_down hR hs.1 (fun p h0 h1 => ?_)
  have hVp := hR.1 (60 * set + p) (by omega) (by omega)
  rcases bst_ex (FAR := FAR) (ST := ST) (V := V) (LD := LD) (LN := LN) (CV := CV) (cl := cl) (set := set) (at_ := p) 8 with h | ⟨m, m1, m2⟩
  · omega
  · rw [m2, mvK_V]
    have hk : 0 ≤ 8 * p + (m : Int) ∧ 8 * p + (m : Int) < 480 := by omega
    have hp : (8 * p + (m : Int)) / 8 = p := by omega
    rcases nx_rg (cl := cl) hn hT hs hk with r | ⟨r1, r2, r3, r4, r5⟩
    · rw [mvK_1 r]; omega
    · by_cases e : nxS LD CV cl set (8 * p + (m : Int)) = set
      · rcases hd (LD (8 * p + (m : Int))) r2 r3 with q | q
        · rw [mvK_same hs.1 e, if_pos (hz _ r2 r3 q)]; omega
        · have := hD _ hk.1 hk.2 e q
          rw [hp] at this; exact this
      · have := hU _ hk.1 hk.2 (by omega)
        rw [hp] at this; exact this
/-- how many are not done -/
def ndn (dn : Int → Int) : Int := cnt (fun i => decide (dn (i : Int) = 0)) 60
theorem ndn_rg (dn : Int → Int) : 0 ≤ ndn dn ∧ ndn dn ≤ 60 := cnt_rg _ 60
theorem ndn_lt {b : Int} (hb : 0 ≤ b ∧ b < 60) (h : dn b = 0) : ndn (uI dn b 1) < ndn dn := by
  refine cnt_lt 60 (fun i hi q => ?_) ⟨b.toNat, by omega, decide_eq_true (by rw [Int.toNat_of_nonneg hb.1]; exact h), decide_eq_false (by rw [Int.toNat_of_nonneg hb.1, uI_s]; decide)⟩
  have q2 : uI dn b 1 (i : Int) = 0 := of_decide_eq_true q
  refine decide_eq_true ?_
  by_cases e : (i : Int) = b
  · rw [e, uI_s] at q2; exact absurd q2 (by decide)
  · rw [uI_n e] at q2; exact q2
end DIJ
/-! the class's words in these -/
theorem bhS_nx {ld gp bt : Int → Int} {set k cl : Int} : bhS ld gp bt set k cl = nxS ld (cvS gp bt) cl set k := rfl
theorem mvS_K {V ld co gp bt LN : Int → Int} {set p m cl : Int} (hco : ld (8 * p + m) ≠ -1 → co (8 * p + m) = 1024 * LN (8 * p + m) + 1) : mvS V ld co gp bt set p m cl = mvK 1000000000 1024 V ld LN (cvS gp bt) cl set (8 * p + m) := by
  unfold mvS mvK
  rw [bhS_nx]
  by_cases e : nxS ld (cvS gp bt) cl set (8 * p + m) = -1
  · rw [if_pos e, if_pos e]
  · rw [if_neg e, if_neg e]
    have : ld (8 * p + m) ≠ -1 := fun q => e (by unfold nxS; rw [if_pos q])
    rw [hco this, Int.add_assoc]
