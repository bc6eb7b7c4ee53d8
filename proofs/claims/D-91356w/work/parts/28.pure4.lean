/-! ===== a plan followed ===== -/
theorem cnt_rg (P : Nat → Bool) : ∀ n, 0 ≤ cnt P n ∧ cnt P n ≤ n
  | 0 => ⟨Int.le_refl _, Int.le_refl _⟩
  | n + 1 => by
    have h1 := cnt_rg P n
    have h2 := bI_rg (P n)
    show 0 ≤ cnt P n + bI (P n) ∧ cnt P n + bI (P n) ≤ ((n + 1 : Nat) : Int)
    omega
theorem cnt_t (P : Nat → Bool) {k : Int} (h : 0 ≤ k) : cnt P (k + 1).toNat = cnt P k.toNat + bI (P k.toNat) := by
  rw [show (k + 1).toNat = k.toNat + 1 by omega]; rfl
def sumN (f : Nat → Int) : Nat → Int
  | 0 => 0
  | n + 1 => sumN f n + f n
theorem sumN_t (f : Nat → Int) {k : Int} (h : 0 ≤ k) : sumN f (k + 1).toNat = sumN f k.toNat + f k.toNat := by
  rw [show (k + 1).toNat = k.toNat + 1 by omega]; rfl
theorem sumN_rg {f : Nat → Int} {n M : Nat} (h : ∀ i, i < n → 0 ≤ f i ∧ f i ≤ M) : ∀ k, k ≤ n → 0 ≤ sumN f k ∧ sumN f k ≤ k * M
  | 0, _ => by simp [sumN]
  | k + 1, hk => by
    have h1 := sumN_rg h k (by omega)
    have h2 := h k (by omega)
    show 0 ≤ sumN f k + f k ∧ sumN f k + f k ≤ ((k + 1 : Nat) : Int) * M
    have e : ((k + 1 : Nat) : Int) * M = k * M + M := by rw [Int.natCast_add, Int.add_mul]; simp
    rw [e]
    omega
/-- the needle's place ahead of the k-th move -/
def plN (F S : Int) (kd : Int → Int) (b : Int) (mv : Int → Int) : Nat → Int
  | 0 => b
  | k + 1 => lead F S kd (plN F S kd b mv k) (mv (k : Int))
def plc (F S : Int) (kd : Int → Int) (b : Int) (mv : Int → Int) (k : Int) : Int := plN F S kd b mv k.toNat
theorem plc_0 (F S : Int) (kd : Int → Int) (b : Int) (mv : Int → Int) : plc F S kd b mv 0 = b := rfl
theorem plc_s {F S : Int} {kd : Int → Int} {b : Int} {mv : Int → Int} {k : Int} (h : 0 ≤ k) : plc F S kd b mv (k + 1) = lead F S kd (plc F S kd b mv k) (mv k) := by
  unfold plc
  rw [show (k + 1).toNat = k.toNat + 1 by omega]
  show lead F S kd _ (mv ((k.toNat : Nat) : Int)) = _
  rw [Int.toNat_of_nonneg h]
def PIn (F S p : Int) : Prop := 0 ≤ p ∧ p < 60 ∧ p / 2 / 6 < F ∧ p / 2 % 6 < S
theorem lead_in {F S : Int} {kd : Int → Int} {p m : Int} (hF : 1 ≤ F ∧ F ≤ 5) (hS : 2 ≤ S ∧ S ≤ 6) (hp : PIn F S p) (h : lead F S kd p m ≠ -1) : PIn F S (lead F S kd p m) := by
  obtain ⟨h1, h2, h3, h4⟩ := hp
  unfold PIn
  have e : m = 0 ∨ m = 1 ∨ m = 2 ∨ m = 3 ∨ m = 4 ∨ m = 5 ∨ m = 6 ∨ ¬ (m = 0 ∨ m = 1 ∨ m = 2 ∨ m = 3 ∨ m = 4 ∨ m = 5 ∨ m = 6) := by omega
  rcases e with rfl | rfl | rfl | rfl | rfl | rfl | rfl | e
  · rw [lead_0]; split <;> omega
  · obtain ⟨q, r⟩ := leadn_1 h; rw [r]; omega
  · obtain ⟨q, r⟩ := leadn_2 h; rw [r]; omega
  · obtain ⟨q, r⟩ := leadn_3 h; rw [r]; omega
  · obtain ⟨q, r⟩ := leadn_4 h; rw [r]; omega
  · obtain ⟨q, r⟩ := leadn_5 h; rw [r]; omega
  · obtain ⟨q, r⟩ := leadn_6 h; rw [r]; omega
  · have e7 : lead F S kd p m = lead F S kd p 7 := by
      rw [lead_7]; unfold lead
      rw [if_neg (by omega), if_neg (by omega), if_neg (by omega), if_neg (by omega), if_neg (by omega), if_neg (by omega), if_neg (by omega)]
    rw [e7] at h ⊢
    obtain ⟨q, r⟩ := leadn_7 h; rw [r]; omega
/-- a plan that can be made -/
def PLok (F S : Int) (kd : Int → Int) (b n : Int) (mv : Int → Int) : Prop := PIn F S b ∧ (0 ≤ n ∧ n ≤ 400) ∧ ∀ k, 0 ≤ k → k < n → (0 ≤ mv k ∧ mv k < 8) ∧ lead F S kd (plc F S kd b mv k) (mv k) ≠ -1
theorem PLok.pin {F S : Int} {kd : Int → Int} {b n : Int} {mv : Int → Int} (hF : 1 ≤ F ∧ F ≤ 5) (hS : 2 ≤ S ∧ S ≤ 6) (h : PLok F S kd b n mv) : ∀ (j : Nat), (j : Int) ≤ n → PIn F S (plc F S kd b mv j)
  | 0, _ => by show PIn F S (plc F S kd b mv 0); rw [plc_0]; exact h.1
  | j + 1, hj => by
    have ih := PLok.pin hF hS h j (by omega)
    have hk := h.2.2 j (by omega) (by omega)
    have e : plc F S kd b mv ((j + 1 : Nat) : Int) = lead F S kd (plc F S kd b mv j) (mv j) := by
      rw [show ((j + 1 : Nat) : Int) = (j : Int) + 1 by omega, plc_s (by omega)]
    rw [e]
    exact lead_in hF hS ih hk.2
theorem PLok.at {F S : Int} {kd : Int → Int} {b n : Int} {mv : Int → Int} (hF : 1 ≤ F ∧ F ≤ 5) (hS : 2 ≤ S ∧ S ≤ 6) (h : PLok F S kd b n mv) {k : Int} (h0 : 0 ≤ k) (h1 : k ≤ n) : PIn F S (plc F S kd b mv k) := by
  have := h.pin hF hS k.toNat (by omega)
  rw [Int.toNat_of_nonneg h0] at this
  exact this
/-! what a plan goes along, its holes, its ties, its length -/
def fgo (np : Int) (pf ps pk : Int → Int) (F S : Int) (kd : Int → Int) (b : Int) (mv : Int → Int) (n j : Int) : Int := cnt (fun k => decide (alg np pf ps pk (plN F S kd b mv k) (mv (k : Int)) = j)) n.toNat
def fho (F S : Int) (kd : Int → Int) (b : Int) (mv : Int → Int) (n j : Int) : Int := cnt (fun k => decide (mv (k : Int) = 0 ∧ plN F S kd b mv k / 2 = j)) n.toNat
def fti (F S : Int) (kd : Int → Int) (b : Int) (mv : Int → Int) (n j : Int) : Int := cnt (fun k => decide ((mv (k : Int) = 6 ∧ plN F S kd b mv k / 2 / 6 = j) ∨ (mv (k : Int) = 7 ∧ plN F S kd b mv k / 2 / 6 = j + 1))) n.toNat
def fle (ht th : Int → Int) (F S : Int) (kd : Int → Int) (b : Int) (mv : Int → Int) (n : Int) : Int := sumN (fun k => leng ht th (plN F S kd b mv k) (mv (k : Int))) n.toNat
section FOL
variable {np : Int} {pf ps pk ht th : Int → Int} {F S : Int} {kd : Int → Int} {b : Int} {mv : Int → Int} {k j : Int}
theorem fgo_s (h : 0 ≤ k) : fgo np pf ps pk F S kd b mv (k + 1) j = fgo np pf ps pk F S kd b mv k j + bI (decide (alg np pf ps pk (plc F S kd b mv k) (mv k) = j)) := by
  unfold fgo plc
  rw [cnt_t _ h, Int.toNat_of_nonneg h]
theorem fho_s (h : 0 ≤ k) : fho F S kd b mv (k + 1) j = fho F S kd b mv k j + bI (decide (mv k = 0 ∧ plc F S kd b mv k / 2 = j)) := by
  unfold fho plc
  rw [cnt_t _ h, Int.toNat_of_nonneg h]
theorem fti_s (h : 0 ≤ k) : fti F S kd b mv (k + 1) j = fti F S kd b mv k j + bI (decide ((mv k = 6 ∧ plc F S kd b mv k / 2 / 6 = j) ∨ (mv k = 7 ∧ plc F S kd b mv k / 2 / 6 = j + 1))) := by
  unfold fti plc
  rw [cnt_t _ h, Int.toNat_of_nonneg h]
theorem fle_s (h : 0 ≤ k) : fle ht th F S kd b mv (k + 1) = fle ht th F S kd b mv k + leng ht th (plc F S kd b mv k) (mv k) := by
  unfold fle plc
  rw [sumN_t _ h, Int.toNat_of_nonneg h]
theorem fgo_rg (h : 0 ≤ k) : 0 ≤ fgo np pf ps pk F S kd b mv k j ∧ fgo np pf ps pk F S kd b mv k j ≤ k := by
  have := cnt_rg (fun k => decide (alg np pf ps pk (plN F S kd b mv k) (mv (k : Int)) = j)) k.toNat
  unfold fgo; omega
theorem fho_rg (h : 0 ≤ k) : 0 ≤ fho F S kd b mv k j ∧ fho F S kd b mv k j ≤ k := by
  have := cnt_rg (fun k => decide (mv (k : Int) = 0 ∧ plN F S kd b mv k / 2 = j)) k.toNat
  unfold fho; omega
theorem fti_rg (h : 0 ≤ k) : 0 ≤ fti F S kd b mv k j ∧ fti F S kd b mv k j ≤ k := by
  have := cnt_rg (fun k => decide ((mv (k : Int) = 6 ∧ plN F S kd b mv k / 2 / 6 = j) ∨ (mv (k : Int) = 7 ∧ plN F S kd b mv k / 2 / 6 = j + 1))) k.toNat
  unfold fti; omega
end FOL
theorem bI_d {P : Prop} [Decidable P] (h : P) : bI (decide P) = 1 := by rw [decide_eq_true h]; rfl
theorem bI_dn {P : Prop} [Decidable P] (h : ¬ P) : bI (decide P) = 0 := by rw [decide_eq_false h]; rfl
/-- heights that rise, at most 400; thicknesses -/
def HTok (S : Int) (ht : Int → Int) : Prop := ∀ j, 0 ≤ j → j < 6 → 0 ≤ ht j ∧ ht j ≤ 400
theorem leng_rg {ht th : Int → Int} {F S : Int} {kd : Int → Int} {p m : Int} (hF : 1 ≤ F ∧ F ≤ 5) (hS : 2 ≤ S ∧ S ≤ 6) (hth : ∀ j, 0 ≤ j → j < 5 → 1 ≤ th j ∧ th j ≤ 50) (hht : ∀ j, 0 ≤ j → j < 6 → 0 ≤ ht j ∧ ht j ≤ 400) (hp : PIn F S p) (hm : 0 ≤ m ∧ m < 8) (h : lead F S kd p m ≠ -1) : -400 ≤ leng ht th p m ∧ leng ht th p m ≤ 402 := by
  obtain ⟨h1, h2, h3, h4⟩ := hp
  rcases (show m = 0 ∨ m = 1 ∨ m = 2 ∨ m = 3 ∨ m = 4 ∨ m = 5 ∨ m = 6 ∨ m = 7 by omega) with rfl | rfl | rfl | rfl | rfl | rfl | rfl | rfl
  · rw [leng_0]; omega
  · have q := (leadn_1 h).1; rw [leng_1]; have := hht (p / 2 % 6 + 1) (by omega) (by omega); have := hht (p / 2 % 6) (by omega) (by omega); omega
  · have q := (leadn_2 h).1; rw [leng_2]; have := hht (p / 2 % 6 - 1) (by omega) (by omega); have := hht (p / 2 % 6) (by omega) (by omega); omega
  · have q := (leadn_3 h).1; rw [leng_3]; have := hht (p / 2 % 6 + 1) (by omega) (by omega); have := hht (p / 2 % 6) (by omega) (by omega); omega
  · have q := (leadn_4 h).1; rw [leng_4]; have := hht (p / 2 % 6 - 1) (by omega) (by omega); have := hht (p / 2 % 6) (by omega) (by omega); omega
  · rw [leng_5]; omega
  · have q := (leadn_6 h).1; rw [leng_6]; have := hth (p / 2 / 6 + 1) (by omega) (by omega); have := hth (p / 2 / 6) (by omega) (by omega); omega
  · have q := (leadn_7 h).1; rw [leng_7]; have := hth (p / 2 / 6 - 1) (by omega) (by omega); have := hth (p / 2 / 6) (by omega) (by omega); omega
/-- a truth as an int, of any proposition -/
noncomputable def bP (P : Prop) : Int := @ite _ P (Classical.propDecidable P) 1 0
theorem bP_t {P : Prop} (h : P) : bP P = 1 := by unfold bP; exact if_pos h
theorem bP_f {P : Prop} (h : ¬ P) : bP P = 0 := by unfold bP; exact if_neg h
theorem bP_rg (P : Prop) : 0 ≤ bP P ∧ bP P ≤ 1 := by
  by_cases h : P
  · rw [bP_t h]; omega
  · rw [bP_f h]; omega
theorem bP_1 {P : Prop} (h : bP P ≠ 0) : P := by
  by_cases q : P
  · exact q
  · exact absurd (bP_f q) h
theorem bP_0 {P : Prop} (h : bP P = 0) : ¬ P := fun q => by rw [bP_t q] at h; omega
theorem bP_d {P : Prop} [Decidable P] : bI (decide P) = bP P := by
  by_cases h : P
  · rw [bI_d h, bP_t h]
  · rw [bI_dn h, bP_f h]
theorem bP_c {P Q : Prop} (h : P ↔ Q) : bP P = bP Q := by
  by_cases q : P
  · rw [bP_t q, bP_t (h.mp q)]
  · rw [bP_f q, bP_f (fun z => q (h.mpr z))]
