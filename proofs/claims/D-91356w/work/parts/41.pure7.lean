/-! ===== how it is reckoned; how many moves at most ===== -/
theorem cnt_le {P' P : Nat → Bool} : ∀ n, (∀ i, i < n → P' i = true → P i = true) → cnt P' n ≤ cnt P n
  | 0, _ => Int.le_refl _
  | n + 1, h => by
    have h1 := cnt_le n (fun i hi => h i (by omega))
    have h2 := h n (by omega)
    show cnt P' n + bI (P' n) ≤ cnt P n + bI (P n)
    cases e : P' n with
    | false => have := bI_rg (P n); rw [bI_f]; omega
    | true => rw [h2 e]; omega
theorem cnt_lt {P' P : Nat → Bool} : ∀ n, (∀ i, i < n → P' i = true → P i = true) → (∃ i, i < n ∧ P i = true ∧ P' i = false) → cnt P' n < cnt P n
  | 0, _, ⟨i, hi, _⟩ => absurd hi (by omega)
  | n + 1, h, ⟨i, hi, h1, h2⟩ => by
    show cnt P' n + bI (P' n) < cnt P n + bI (P n)
    by_cases e : i = n
    · subst e
      have h3 := cnt_le i (fun j hj => h j (by omega))
      rw [h1, h2, bI_t, bI_f]; omega
    · have h3 := cnt_lt n (fun j hj => h j (by omega)) ⟨i, by omega, h1, h2⟩
      have h4 := h n (by omega)
      cases e2 : P' n with
      | false => have := bI_rg (P n); rw [bI_f]; omega
      | true => rw [h4 e2]; omega
def rnk (V : Int → Int) (set at_ : Int) : Int := cnt (fun i => decide (V (60 * set + (i : Int)) < V (60 * set + at_))) 60
theorem rnk_rg (V : Int → Int) (set at_ : Int) : 0 ≤ rnk V set at_ ∧ rnk V set at_ ≤ 60 := cnt_rg _ 60
theorem rnk_59 {V : Int → Int} {set at_ : Int} (ha : 0 ≤ at_ ∧ at_ < 60) : rnk V set at_ ≤ 59 := by
  have h : rnk V set at_ < cnt (fun _ => true) 60 := cnt_lt 60 (fun _ _ _ => rfl) ⟨at_.toNat, by omega, rfl, decide_eq_false (by rw [Int.toNat_of_nonneg ha.1]; omega)⟩
  have e : cnt (fun _ => true) 60 = 60 := by decide
  omega
theorem rnk_lt {V : Int → Int} {set a b : Int} (ha : 0 ≤ a ∧ a < 60) (h : V (60 * set + a) < V (60 * set + b)) : rnk V set a < rnk V set b :=
  cnt_lt 60 (fun i _ q => decide_eq_true (by have := of_decide_eq_true q; omega)) ⟨a.toNat, by omega, decide_eq_true (by rw [Int.toNat_of_nonneg ha.1]; exact h), decide_eq_false (by rw [Int.toNat_of_nonneg ha.1]; omega)⟩
/-- how many moves there are at most to the end -/
def mbd (V : Int → Int) (set at_ : Int) : Int := 60 * zerN set.toNat + rnk V set at_
theorem zer_rg (n : Nat) : 0 ≤ zerN n ∧ zerN n ≤ 10 := cnt_rg _ 10
theorem mbd_rg {V : Int → Int} {set at_ : Int} (ha : 0 ≤ at_ ∧ at_ < 60) : 0 ≤ mbd V set at_ ∧ mbd V set at_ ≤ 659 := by
  have h1 := zer_rg set.toNat
  have h2 := rnk_rg V set at_
  have h3 := rnk_59 (V := V) (set := set) ha
  unfold mbd
  omega
theorem mbd_lt {V : Int → Int} {set a cv cl b : Int} {n : Nat} (hn : n ≤ 10) (hs : 0 ≤ set ∧ set < 2 ^ n) (hc : -2 ≤ cv ∧ cv < n) (hb : 0 ≤ b ∧ b < 60) (hne : bhd set cv cl ≠ -1) (hv : V (60 * bhd set cv cl + b) < V (60 * set + a)) : mbd V (bhd set cv cl) b + 1 ≤ mbd V set a := by
  have h10 := p2_le hn
  by_cases e : bhd set cv cl = set
  · rw [e] at hv ⊢
    have := rnk_lt hb hv
    unfold mbd
    omega
  · have h1 : bhd set cv cl = set + 2 ^ cv.toNat ∧ (set.toNat / 2 ^ cv.toNat) % 2 = 0 ∧ 0 ≤ cv ∧ cv < 10 := by
      unfold bhd at e hne ⊢
      split at e
      · exact absurd rfl e
      · rename_i q1
        rw [if_neg q1] at hne ⊢
        split at e
        · rename_i q2
          rw [if_pos q2] at hne
          split at e
          · rename_i q3; rw [if_pos q3] at hne; exact absurd rfl hne
          · exact absurd rfl e
        · rename_i q2
          rw [if_neg q2] at hne ⊢
          split at e
          · rename_i q3; rw [if_pos q3] at hne; exact absurd rfl hne
          · rename_i q3
            rw [if_neg q3]
            rcases or_bit (set := set) (b := cv) ⟨hs.1, by omega⟩ ⟨by omega, by omega⟩ with ⟨-, h⟩ | ⟨-, h, q⟩
            · exact absurd h e
            · exact ⟨h, q, by omega, by omega⟩
    obtain ⟨e1, e2, e3, e4⟩ := h1
    have hz := zer_ok ⟨cv.toNat, by omega⟩ ⟨set.toNat, by omega⟩ e2
    have e5 : (bhd set cv cl).toNat = set.toNat + 2 ^ cv.toNat := by
      rw [e1]
      have e8 : ((2 ^ cv.toNat : Nat) : Int) = 2 ^ cv.toNat := by simp
      have e9 := p2_pos cv.toNat
      omega
    have h2 := rnk_rg V set a
    have h3 := rnk_59 (V := V) (set := bhd set cv cl) hb
    unfold mbd
    rw [e5]
    simp only at hz
    omega
/-! the reckoning's invariant: above `set` all is settled -/
def RK (FAR ST : Int) (LD LN CV : Int → Int) (cl sets en set : Int) (V : Int → Int) : Prop :=
  (∀ q, 0 ≤ q → q < 60 * sets → 0 ≤ V q ∧ V q ≤ FAR) ∧ V (60 * (sets - 1) + en) = 0 ∧
  (∀ t p, set < t → t < sets → 0 ≤ p → p < 60 → ¬ (t = sets - 1 ∧ p = en) → V (60 * t + p) = bstM FAR ST V LD LN CV cl t p 8) ∧
  ∀ t p, 0 ≤ t → t ≤ set → 0 ≤ p → p < 60 → ¬ (t = sets - 1 ∧ p = en) → bstM FAR ST V LD LN CV cl t p 8 ≤ V (60 * t + p)
section RKS
variable {FAR ST : Int} {LD LN CV V : Int → Int} {cl en set : Int} {n : Nat}
theorem RK_init {sets : Int} (hF : 0 ≤ FAR) (he : 0 ≤ en ∧ en < 60) (hs : 1 ≤ sets) (h : ∀ q, 0 ≤ q → q < 60 * sets → V q = FAR) : RK FAR ST LD LN CV cl sets en (sets - 1) (uI V (60 * (sets - 1) + en) 0) := by
  refine ⟨fun q h0 h1 => ?_, uI_s, fun t p h0 h1 => absurd h1 (by omega), fun t p h0 h1 h2 h3 h4 => ?_⟩
  · by_cases e : q = 60 * (sets - 1) + en
    · rw [e, uI_s]; omega
    · rw [uI_n e, h q h0 h1]; omega
  · rw [uI_n (by omega), h _ (by omega) (by omega)]
    exact bst_far 8
theorem mv_nn {at_ m : Int} (hF : 0 ≤ FAR) (hST : 0 ≤ ST) (hn : n ≤ 10) (hT : TBok n LD LN CV) (hs : 0 ≤ set ∧ set < 2 ^ n) (ha : 0 ≤ at_ ∧ at_ < 60) (hm : 0 ≤ m ∧ m < 8) (hV : ∀ q, 0 ≤ q → q < 60 * 2 ^ n → 0 ≤ V q ∧ V q ≤ FAR) : 0 ≤ mvV FAR ST V LD LN CV cl set at_ m := by
  unfold mvV
  obtain ⟨t1, t2⟩ := hT (8 * at_ + m) (by omega) (by omega)
  by_cases q : LD (8 * at_ + m) = -1
  · rw [if_pos q]; exact hF
  · rw [if_neg q]
    by_cases r : bhd set (CV (8 * at_ + m)) cl = -1
    · rw [if_pos r]; exact hF
    · rw [if_neg r]
      rcases bhd_rg (cl := cl) hn hs (t2 q).2 with z | z
      · exact absurd z r
      · have := hV (60 * bhd set (CV (8 * at_ + m)) cl + LD (8 * at_ + m)) (by omega) (by omega)
        have h9 : 0 ≤ ST * LN (8 * at_ + m) := Int.mul_nonneg hST (by omega)
        split <;> omega
theorem bst_nn {at_ : Int} (hF : 0 ≤ FAR) (hST : 0 ≤ ST) (hn : n ≤ 10) (hT : TBok n LD LN CV) (hs : 0 ≤ set ∧ set < 2 ^ n) (ha : 0 ≤ at_ ∧ at_ < 60) (hV : ∀ q, 0 ≤ q → q < 60 * 2 ^ n → 0 ≤ V q ∧ V q ≤ FAR) (k : Nat) (hk : k ≤ 8) : 0 ≤ bstM FAR ST V LD LN CV cl set at_ k := by
  rcases bst_ex (FAR := FAR) (ST := ST) (V := V) (LD := LD) (LN := LN) (CV := CV) (cl := cl) (set := set) (at_ := at_) k with h | ⟨m, h1, h2⟩
  · rw [h]; exact hF
  · rw [h2]; exact mv_nn hF hST hn hT hs ha ⟨by omega, by omega⟩ hV
theorem RK_upd {at_ : Int} (hF : 0 ≤ FAR) (hST : 0 ≤ ST) (hn : n ≤ 10) (hT : TBok n LD LN CV) (hs : 0 ≤ set ∧ set < 2 ^ n) (ha : 0 ≤ at_ ∧ at_ < 60) (he : 0 ≤ en ∧ en < 60) (h : RK FAR ST LD LN CV cl (2 ^ n) en set V) (hv : bstM FAR ST V LD LN CV cl set at_ 8 < V (60 * set + at_)) : RK FAR ST LD LN CV cl (2 ^ n) en set (uI V (60 * set + at_) (bstM FAR ST V LD LN CV cl set at_ 8)) := by
  obtain ⟨h1, h2, h3, h4⟩ := h
  have hb := bst_nn (cl := cl) hF hST hn hT hs ha h1 8 (by decide)
  have hne : ¬ (set = 2 ^ n - 1 ∧ at_ = en) := by
    rintro ⟨rfl, rfl⟩
    omega
  have hle : ∀ q, uI V (60 * set + at_) (bstM FAR ST V LD LN CV cl set at_ 8) q ≤ V q := by
    intro q
    unfold uI
    split
    · rename_i e; rw [e]; omega
    · exact Int.le_refl _
  refine ⟨fun q g0 g1 => ?_, ?_, fun t p g0 g1 g2 g3 g4 => ?_, fun t p g0 g1 g2 g3 g4 => ?_⟩
  · unfold uI
    split
    · exact ⟨hb, bst_far 8⟩
    · exact h1 q g0 g1
  · rw [uI_n (by omega)]; exact h2
  · rw [uI_n (by omega), h3 t p g0 g1 g2 g3 g4]
    exact bst_cg hn hT ⟨by omega, g1⟩ ⟨g2, g3⟩ (fun t' p' k0 k1 k2 k3 => (uI_n (by omega)).symm) 8 (by decide)
  · have hm := bst_mono (FAR := FAR) (ST := ST) (LD := LD) (LN := LN) (CV := CV) (cl := cl) (set := t) (at_ := p) hle 8
    by_cases e : 60 * t + p = 60 * set + at_
    · have e1 : t = set := by omega
      have e2 : p = at_ := by omega
      subst e1 e2
      rw [uI_s]
      exact hm
    · rw [uI_n e]
      exact Int.le_trans hm (h4 t p g0 g1 g2 g3 g4)
theorem RK_down {sets : Int} (h : RK FAR ST LD LN CV cl sets en set V) (hs : 0 ≤ set) (hf : ∀ p, 0 ≤ p → p < 60 → V (60 * set + p) ≤ bstM FAR ST V LD LN CV cl set p 8) : RK FAR ST LD LN CV cl sets en (set - 1) V := by
  obtain ⟨h1, h2, h3, h4⟩ := h
  refine ⟨h1, h2, fun t p g0 g1 g2 g3 g4 => ?_, fun t p g0 g1 => h4 t p g0 (by omega)⟩
  by_cases e : t = set
  · subst e
    exact Int.le_antisymm (hf p g2 g3) (h4 t p hs (Int.le_refl _) g2 g3 g4)
  · exact h3 t p (by omega) g1 g2 g3 g4
theorem RK_Bel {sets : Int} (h : RK FAR ST LD LN CV cl sets en (-1) V) : Bel FAR ST LD LN CV cl sets en V := ⟨h.1, h.2.1, fun t p g0 => h.2.2.1 t p (by omega)⟩
def sm60 (V : Int → Int) (set : Int) : Int := sumN (fun i => V (60 * set + (i : Int))) 60
theorem sumN_le {f g : Nat → Int} : ∀ n, (∀ i, i < n → f i ≤ g i) → sumN f n ≤ sumN g n
  | 0, _ => Int.le_refl _
  | n + 1, h => by
    have := sumN_le n (fun i hi => h i (by omega))
    have := h n (by omega)
    show sumN f n + f n ≤ sumN g n + g n
    omega
theorem sumN_lt {f g : Nat → Int} : ∀ n, (∀ i, i < n → f i ≤ g i) → (∃ i, i < n ∧ f i < g i) → sumN f n < sumN g n
  | 0, _, ⟨i, hi, _⟩ => absurd hi (by omega)
  | n + 1, h, ⟨i, hi, h1⟩ => by
    show sumN f n + f n < sumN g n + g n
    by_cases e : i = n
    · subst e
      have := sumN_le i (fun j hj => h j (by omega))
      omega
    · have := sumN_lt n (fun j hj => h j (by omega)) ⟨i, by omega, h1⟩
      have := h n (by omega)
      omega
theorem sumN_nn {f : Nat → Int} : ∀ n, (∀ i, i < n → 0 ≤ f i) → 0 ≤ sumN f n
  | 0, _ => Int.le_refl _
  | n + 1, h => by
    have := sumN_nn n (fun i hi => h i (by omega))
    have := h n (by omega)
    show 0 ≤ sumN f n + f n
    omega
theorem sm60_lt {a v : Int} (ha : 0 ≤ a ∧ a < 60) (hv : v < V (60 * set + a)) : sm60 (uI V (60 * set + a) v) set < sm60 V set :=
  sumN_lt 60 (fun i hi => by
    show uI V (60 * set + a) v (60 * set + (i : Int)) ≤ V (60 * set + (i : Int))
    unfold uI
    split
    · rename_i e; rw [e]; omega
    · exact Int.le_refl _) ⟨a.toNat, by omega, by
    show uI V (60 * set + a) v (60 * set + ((a.toNat : Nat) : Int)) < V (60 * set + ((a.toNat : Nat) : Int))
    rw [Int.toNat_of_nonneg ha.1, uI_s]; exact hv⟩
theorem sm60_nn {sets : Int} (h : ∀ q, 0 ≤ q → q < 60 * sets → 0 ≤ V q ∧ V q ≤ FAR) (hs : 0 ≤ set ∧ set < sets) : 0 ≤ sm60 V set := sumN_nn 60 (fun i hi => (h (60 * set + (i : Int)) (by omega) (by omega)).1)
/-! one step of the search for the least -/
theorem bnx_n {at_ le fi f0 m : Int} (h0 : 0 ≤ m) (hl : le = bstM FAR ST V LD LN CV cl set at_ m.toNat) (hf : fi = fstM FAR ST V LD LN CV cl set at_ f0 m.toNat) (hx : le ≤ mvV FAR ST V LD LN CV cl set at_ m) : le = bstM FAR ST V LD LN CV cl set at_ (m + 1).toNat ∧ fi = fstM FAR ST V LD LN CV cl set at_ f0 (m + 1).toNat := by
  rw [show (m + 1).toNat = m.toNat + 1 by omega]
  unfold bstM fstM
  rw [Int.toNat_of_nonneg h0, ← hl, ← hf, if_neg (by omega), if_neg (by omega)]
  exact ⟨rfl, rfl⟩
theorem bnx_y {at_ le fi f0 m v : Int} (h0 : 0 ≤ m) (hl : le = bstM FAR ST V LD LN CV cl set at_ m.toNat) (hv : v = mvV FAR ST V LD LN CV cl set at_ m) (hx : v < le) : v = bstM FAR ST V LD LN CV cl set at_ (m + 1).toNat ∧ m = fstM FAR ST V LD LN CV cl set at_ f0 (m + 1).toNat := by
  rw [show (m + 1).toNat = m.toNat + 1 by omega]
  unfold bstM fstM
  rw [Int.toNat_of_nonneg h0, ← hl, ← hv, if_pos hx, if_pos hx]
  exact ⟨rfl, rfl⟩
theorem mv_1 {at_ m : Int} (h : LD (8 * at_ + m) = -1) : mvV FAR ST V LD LN CV cl set at_ m = FAR := by unfold mvV; rw [if_pos h]
theorem mv_2 {at_ m : Int} (h : LD (8 * at_ + m) ≠ -1) (h2 : bhd set (CV (8 * at_ + m)) cl = -1) : mvV FAR ST V LD LN CV cl set at_ m = FAR := by unfold mvV; rw [if_neg h, if_pos h2]
theorem mv_3 {at_ m : Int} (h : LD (8 * at_ + m) ≠ -1) (h2 : bhd set (CV (8 * at_ + m)) cl ≠ -1) (h3 : FAR ≤ V (60 * bhd set (CV (8 * at_ + m)) cl + LD (8 * at_ + m))) : mvV FAR ST V LD LN CV cl set at_ m = FAR := by unfold mvV; rw [if_neg h, if_neg h2, if_pos h3]
theorem mv_4 {at_ m : Int} (h : LD (8 * at_ + m) ≠ -1) (h2 : bhd set (CV (8 * at_ + m)) cl ≠ -1) (h3 : V (60 * bhd set (CV (8 * at_ + m)) cl + LD (8 * at_ + m)) < FAR) : mvV FAR ST V LD LN CV cl set at_ m = V (60 * bhd set (CV (8 * at_ + m)) cl + LD (8 * at_ + m)) + ST * LN (8 * at_ + m) + 1 := by unfold mvV; rw [if_neg h, if_neg h2, if_neg (by omega)]
theorem bst_le' {at_ : Int} (k : Nat) : bstM FAR ST V LD LN CV cl set at_ k ≤ FAR := bst_far k
end RKS
/-! the tables -/
def ldT (F S : Int) (kd : Int → Int) (p m : Int) : Int := if p / 2 / 6 < F ∧ p / 2 % 6 < S then lead F S kd p m else -1
def cvT (np : Int) (pf ps pk pn bt : Int → Int) (p m : Int) : Int := if alg np pf ps pk p m = -1 then -1 else if pn (alg np pf ps pk p m) ≠ 0 then bt (alg np pf ps pk p m) else -2
def ndc (pn : Int → Int) (k : Int) : Int := sumN (fun i => pn (i : Int)) k.toNat
theorem ndc_s {pn : Int → Int} {k : Int} (h : 0 ≤ k) : ndc pn (k + 1) = ndc pn k + pn k := by unfold ndc; rw [sumN_t _ h, Int.toNat_of_nonneg h]
theorem ldT_ne {F S : Int} {kd : Int → Int} {p m : Int} (h : ldT F S kd p m ≠ -1) : (p / 2 / 6 < F ∧ p / 2 % 6 < S) ∧ ldT F S kd p m = lead F S kd p m ∧ lead F S kd p m ≠ -1 := by
  unfold ldT at *
  split at h
  · rename_i q; rw [if_pos q]; exact ⟨q, rfl, h⟩
  · exact absurd rfl h
theorem uI3 {P : Int → Int → Int → Int → Prop} {a b c : Int → Int} {K va vb vc : Int} (h : ∀ k, 0 ≤ k → k < K → P k (a k) (b k) (c k)) (hk : P K va vb vc) : ∀ k, 0 ≤ k → k < K + 1 → P k (uI a K va k) (uI b K vb k) (uI c K vc k) := by
  intro k h0 h1
  by_cases e : k = K
  · subst e; rw [uI_s, uI_s, uI_s]; exact hk
  · rw [uI_n e, uI_n e, uI_n e]; exact h k h0 (by omega)
theorem uI31 {P : Int → Int → Int → Int → Prop} {a b c : Int → Int} {K va : Int} (h : ∀ k, 0 ≤ k → k < K → P k (a k) (b k) (c k)) (hk : P K va (b K) (c K)) : ∀ k, 0 ≤ k → k < K + 1 → P k (uI a K va k) (b k) (c k) := by
  intro k h0 h1
  by_cases e : k = K
  · subst e; rw [uI_s]; exact hk
  · rw [uI_n e]; exact h k h0 (by omega)
