/-! ===== heights out of two ints; texts of bytes ===== -/
theorem andI_m {a m : Int} (k : Nat) (hk : k < 31) (hm : (iI m).toBitVec.toNat = 2 ^ k - 1) : 0 ≤ andI a m ∧ andI a m < 2 ^ k := by
  obtain ⟨j, h1, h2⟩ := pk_andE (iI a) (m := iI m) k hm
  have hp : (2 : Nat) ^ k < 2 ^ 31 := Nat.pow_lt_pow_right (by decide) hk
  have e : andI a m = (j : Int) := by
    unfold andI
    rw [h2]
    exact nI_toInt (by omega)
  rw [e]
  have : ((2 ^ k : Nat) : Int) = 2 ^ k := by simp
  omega
theorem andI_511 (a : Int) : 0 ≤ andI a 511 ∧ andI a 511 ≤ 511 := by
  have := andI_m (a := a) (m := 511) 9 (by decide) (by decide)
  omega
theorem andI_255 (a : Int) : 0 ≤ andI a 255 ∧ andI a 255 ≤ 255 := by
  have := andI_m (a := a) (m := 255) 8 (by decide) (by decide)
  omega
theorem andI_1 (a : Int) : 0 ≤ andI a 1 ∧ andI a 1 ≤ 1 := by
  have := andI_m (a := a) (m := 1) 1 (by decide) (by decide)
  omega
def hgt (lo hi j : Int) : Int := andI (shrI (if j < 3 then lo else hi) (9 * (j % 3))) 511
theorem hgt_rg (lo hi j : Int) : 0 ≤ hgt lo hi j ∧ hgt lo hi j ≤ 511 := andI_511 _
def hok (n lo hi : Int) : Prop := ∀ j, 0 ≤ j → j < n → hgt lo hi j ≤ 400 ∧ (j = 0 ∨ hgt lo hi (j - 1) < hgt lo hi j)
theorem hok_0 (lo hi : Int) : hok 0 lo hi := fun j h0 h1 => absurd h1 (by omega)
theorem hok_s {k lo hi : Int} (h : hok k lo hi) (hk : hgt lo hi k ≤ 400 ∧ (k = 0 ∨ hgt lo hi (k - 1) < hgt lo hi k)) : hok (k + 1) lo hi := by
  intro j h0 h1
  by_cases e : j = k
  · subst e; exact hk
  · exact h j h0 (by omega)
theorem hok_p {k lo hi w v : Int} (hw : w = if k = 0 then -1 else hgt lo hi (k - 1)) (hv : v = hgt lo hi k) (h1 : w < v) (h2 : v ≤ 400) : hgt lo hi k ≤ 400 ∧ (k = 0 ∨ hgt lo hi (k - 1) < hgt lo hi k) := by
  by_cases e : k = 0
  · exact ⟨by omega, Or.inl e⟩
  · rw [if_neg e] at hw
    exact ⟨by omega, Or.inr (by omega)⟩
theorem hok_b {k lo hi w v : Int} (hw : w = if k = 0 then -1 else hgt lo hi (k - 1)) (hv : v = hgt lo hi k) (h1 : v ≤ w ∨ 400 < v) (q : hgt lo hi k ≤ 400 ∧ (k = 0 ∨ hgt lo hi (k - 1) < hgt lo hi k)) : False := by
  have := hgt_rg lo hi k
  by_cases e : k = 0
  · rw [if_pos e] at hw
    omega
  · rw [if_neg e] at hw
    omega
def hup (n lo hi : Int) (g : Int → Int) : Int → Int := fun j => if 0 ≤ j ∧ j < n then hgt lo hi j else g j
theorem hup_s {k lo hi v : Int} {y g : Int → Int} (h : ∀ j, y j = if 0 ≤ j ∧ j < k then hgt lo hi j else g j) (h0 : 0 ≤ k) (hv : v = hgt lo hi k) : ∀ j, uI y k v j = if 0 ≤ j ∧ j < k + 1 then hgt lo hi j else g j := by
  intro j
  by_cases e : j = k
  · subst e; rw [uI_s, if_pos (by omega), hv]
  · rw [uI_n e, h]
    by_cases q : 0 ≤ j ∧ j < k
    · rw [if_pos q, if_pos (by omega)]
    · rw [if_neg q, if_neg (by omega)]
/-- the k-th byte of five ints -/
def fdw (a b c d e k : Int) : Int := if k < 4 then a else if k < 8 then b else if k < 12 then c else if k < 16 then d else e
def fdb (a b c d e k : Int) : Int := andI (shrI (fdw a b c d e k) (24 - 8 * (k % 4))) 255
def fdt (T a b c d e : Int) (n : Int) (g : Int → Int) : Int → Int := fun j => if T ≤ j ∧ j < T + n then fdb a b c d e (j - T) else g j
theorem fdt_s {T a b c d e k v : Int} {y g : Int → Int} (h : ∀ j, y j = fdt T a b c d e k g j) (h0 : 0 ≤ k) (hv : v = fdb a b c d e k) : ∀ j, uI y (T + k) v j = fdt T a b c d e (k + 1) g j := by
  intro j
  unfold fdt
  by_cases q : j = T + k
  · subst q; rw [uI_s, if_pos (by omega), hv]; congr 1; omega
  · rw [uI_n q, h]
    unfold fdt
    by_cases r : T ≤ j ∧ j < T + k
    · rw [if_pos r, if_pos (by omega)]
    · rw [if_neg r, if_neg (by omega)]
theorem nz_b {b : Int} (h : 0 ≤ b ∧ b ≤ 1) : vp_nar .boolean (iI b) = iI b := by
  have e : b = 0 ∨ b = 1 := by omega
  rcases e with rfl | rfl <;> rfl
theorem nr_b {b : Int} (h : 0 ≤ b ∧ b ≤ 1) : narrow .boolean (.int (iI b)) = .int (iI b) := by
  have e : b = 0 ∨ b = 1 := by omega
  rcases e with rfl | rfl <;> rfl
