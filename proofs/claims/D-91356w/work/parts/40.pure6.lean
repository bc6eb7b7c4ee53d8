/-! ===== the least that is still to come: its law ===== -/
/-- what is covered behind a move; -1: it may not be made -/
def bhd (set cv cl : Int) : Int := if cv = -1 then set else if cv = -2 then (if cl ≠ 0 then -1 else set) else if cl ≠ 0 ∧ andI (shrI set cv) 1 = 1 then -1 else orI set (shlI 1 cv)
/-- the value of a move: V of what lies behind it, and its cost; FAR -/
def mvV (FAR ST : Int) (V LD LN CV : Int → Int) (cl set at_ m : Int) : Int :=
  if LD (8 * at_ + m) = -1 then FAR else if bhd set (CV (8 * at_ + m)) cl = -1 then FAR else
  if FAR ≤ V (60 * bhd set (CV (8 * at_ + m)) cl + LD (8 * at_ + m)) then FAR else V (60 * bhd set (CV (8 * at_ + m)) cl + LD (8 * at_ + m)) + ST * LN (8 * at_ + m) + 1
/-- the least over the first moves; the first that has it -/
def bstM (FAR ST : Int) (V LD LN CV : Int → Int) (cl set at_ : Int) : Nat → Int
  | 0 => FAR
  | m + 1 => if mvV FAR ST V LD LN CV cl set at_ m < bstM FAR ST V LD LN CV cl set at_ m then mvV FAR ST V LD LN CV cl set at_ m else bstM FAR ST V LD LN CV cl set at_ m
def fstM (FAR ST : Int) (V LD LN CV : Int → Int) (cl set at_ f0 : Int) : Nat → Int
  | 0 => f0
  | m + 1 => if mvV FAR ST V LD LN CV cl set at_ m < bstM FAR ST V LD LN CV cl set at_ m then (m : Int) else fstM FAR ST V LD LN CV cl set at_ f0 m
/-- the tables' ranges: n bits -/
def TBok (n : Int) (LD LN CV : Int → Int) : Prop := ∀ k, 0 ≤ k → k < 480 → (-1 ≤ LD k ∧ LD k < 60) ∧ (LD k ≠ -1 → (1 ≤ LN k ∧ LN k ≤ 402) ∧ (-2 ≤ CV k ∧ CV k < n))
theorem p2_le {n : Nat} (h : n ≤ 10) : (2 : Int) ^ n ≤ 1024 := by
  have := Nat.pow_le_pow_right (show 0 < 2 by decide) h
  have e : ((2 ^ n : Nat) : Int) = 2 ^ n := by simp
  omega
theorem p2_pos (n : Nat) : 0 < (2 : Int) ^ n := by
  have := Nat.pow_pos (n := n) (show 0 < 2 by decide)
  have e : ((2 ^ n : Nat) : Int) = 2 ^ n := by simp
  omega
/-- a bit set, in numbers -/
theorem or_bit {set b : Int} (hs : 0 ≤ set ∧ set < 1024) (hb : 0 ≤ b ∧ b < 10) : (andI (shrI set b) 1 = 1 ∧ orI set (shlI 1 b) = set) ∨ (andI (shrI set b) 1 = 0 ∧ orI set (shlI 1 b) = set + 2 ^ b.toNat ∧ (set.toNat / 2 ^ b.toNat) % 2 = 0) := by
  obtain ⟨x, hx⟩ := iI_nat (N := 1024) hs
  obtain ⟨y, hy⟩ := iI_nat (N := 10) hb
  obtain ⟨h1, h2⟩ := set_ok y x
  subst hx hy
  rw [h1, h2]
  have e1 : ((x.val : Int)).toNat = x.val := by omega
  have e2 : ((y.val : Int)).toNat = y.val := by omega
  rw [e1, e2]
  by_cases q : (x.val / 2 ^ y.val) % 2 = 1
  · left; rw [if_pos q]; omega
  · right
    rw [if_neg q]
    refine ⟨by omega, ?_, by omega⟩
    rw [Int.natCast_add]
    simp
theorem bit_lt {set n b : Nat} (h : set < 2 ^ n) (hb : b < n) (q : (set / 2 ^ b) % 2 = 0) : set + 2 ^ b < 2 ^ n := by
  have e : 2 ^ n = 2 ^ b * 2 ^ (n - b) := by rw [← Nat.pow_add]; congr 1; omega
  have e2 : 2 ^ (n - b) = 2 * 2 ^ (n - b - 1) := by rw [← Nat.pow_succ']; congr 1; omega
  have h3 : set / 2 ^ b < 2 ^ (n - b) := by
    apply Nat.div_lt_of_lt_mul
    rw [← e]; exact h
  have h4 : set / 2 ^ b + 1 < 2 ^ (n - b) := by omega
  have h5 := Nat.div_add_mod set (2 ^ b)
  have h6 := Nat.mod_lt set (Nat.pow_pos (n := b) (show 0 < 2 by decide))
  have h7 : 2 ^ b * (set / 2 ^ b + 1 + 1) ≤ 2 ^ b * 2 ^ (n - b) := Nat.mul_le_mul_left _ h4
  rw [← e, Nat.mul_add, Nat.mul_add] at h7
  omega
theorem bhd_rg {set cv cl : Int} {n : Nat} (hn : n ≤ 10) (hs : 0 ≤ set ∧ set < 2 ^ n) (hc : -2 ≤ cv ∧ cv < n) : bhd set cv cl = -1 ∨ (set ≤ bhd set cv cl ∧ bhd set cv cl < 2 ^ n) := by
  have h10 := p2_le hn
  unfold bhd
  split
  · exact Or.inr ⟨Int.le_refl _, hs.2⟩
  · split
    · split
      · exact Or.inl rfl
      · exact Or.inr ⟨Int.le_refl _, hs.2⟩
    · split
      · exact Or.inl rfl
      · right
        rcases or_bit (set := set) (b := cv) ⟨hs.1, by omega⟩ ⟨by omega, by omega⟩ with ⟨-, e⟩ | ⟨-, e, q⟩
        · rw [e]; exact ⟨Int.le_refl _, hs.2⟩
        · rw [e]
          have h1 := bit_lt (set := set.toNat) (n := n) (b := cv.toNat) (by
            have e9 : ((2 ^ n : Nat) : Int) = 2 ^ n := by simp
            omega) (by omega) q
          have e9 : ((2 ^ n : Nat) : Int) = 2 ^ n := by simp
          have e8 : ((2 ^ cv.toNat : Nat) : Int) = 2 ^ cv.toNat := by simp
          have := p2_pos cv.toNat
          omega
section BST
variable {FAR ST : Int} {V LD LN CV : Int → Int} {cl set at_ : Int}
theorem bst_le : ∀ (k m : Nat), m < k → bstM FAR ST V LD LN CV cl set at_ k ≤ mvV FAR ST V LD LN CV cl set at_ m
  | k + 1, m, h => by
    unfold bstM
    by_cases e : m = k
    · subst e; split <;> omega
    · have := bst_le k m (by omega)
      split <;> omega
theorem bst_far : ∀ k, bstM FAR ST V LD LN CV cl set at_ k ≤ FAR
  | 0 => Int.le_refl _
  | k + 1 => by
    have := bst_far k
    unfold bstM
    split <;> omega
theorem bst_ex : ∀ k, bstM FAR ST V LD LN CV cl set at_ k = FAR ∨ ∃ m : Nat, m < k ∧ bstM FAR ST V LD LN CV cl set at_ k = mvV FAR ST V LD LN CV cl set at_ m
  | 0 => Or.inl rfl
  | k + 1 => by
    unfold bstM
    split
    · exact Or.inr ⟨k, by omega, rfl⟩
    · rcases bst_ex k with h | ⟨m, h1, h2⟩
      · exact Or.inl h
      · exact Or.inr ⟨m, by omega, h2⟩
/-- the first move that has the least, if some has less than FAR -/
theorem fst_ok {f0 : Int} : ∀ k, bstM FAR ST V LD LN CV cl set at_ k < FAR → ∃ m : Nat, m < k ∧ fstM FAR ST V LD LN CV cl set at_ f0 k = m ∧ mvV FAR ST V LD LN CV cl set at_ m = bstM FAR ST V LD LN CV cl set at_ k ∧ ∀ j : Nat, j < m → bstM FAR ST V LD LN CV cl set at_ k < mvV FAR ST V LD LN CV cl set at_ j
  | 0, h => absurd h (by show ¬ FAR < FAR; omega)
  | k + 1, h => by
    unfold bstM fstM at *
    split
    · rename_i q
      rw [if_pos q] at h
      refine ⟨k, by omega, rfl, rfl, fun j hj => ?_⟩
      have := bst_le (FAR := FAR) (ST := ST) (V := V) (LD := LD) (LN := LN) (CV := CV) (cl := cl) (set := set) (at_ := at_) k j hj
      omega
    · rename_i q
      rw [if_neg q] at h
      obtain ⟨m, h1, h2, h3, h4⟩ := fst_ok (f0 := f0) k h
      exact ⟨m, by omega, h2, h3, h4⟩
end BST
theorem mvV_cg {FAR ST : Int} {V V' LD LN CV : Int → Int} {cl set at_ : Int} {n : Nat} (hn : n ≤ 10) (hT : TBok n LD LN CV) (hs : 0 ≤ set ∧ set < 2 ^ n) (ha : 0 ≤ at_ ∧ at_ < 60) (h : ∀ t p, set ≤ t → t < 2 ^ n → 0 ≤ p → p < 60 → V (60 * t + p) = V' (60 * t + p)) {m : Nat} (hm : m < 8) : mvV FAR ST V LD LN CV cl set at_ m = mvV FAR ST V' LD LN CV cl set at_ m := by
  unfold mvV
  obtain ⟨t1, t2⟩ := hT (8 * at_ + m) (by omega) (by omega)
  by_cases q : LD (8 * at_ + m) = -1
  · rw [if_pos q, if_pos q]
  · rw [if_neg q, if_neg q]
    by_cases r : bhd set (CV (8 * at_ + m)) cl = -1
    · rw [if_pos r, if_pos r]
    · rw [if_neg r, if_neg r]
      rcases bhd_rg (cl := cl) hn hs (t2 q).2 with z | z
      · exact absurd z r
      · rw [h _ _ z.1 z.2 (by omega) (by omega)]
theorem bst_cg {FAR ST : Int} {V V' LD LN CV : Int → Int} {cl set at_ : Int} {n : Nat} (hn : n ≤ 10) (hT : TBok n LD LN CV) (hs : 0 ≤ set ∧ set < 2 ^ n) (ha : 0 ≤ at_ ∧ at_ < 60) (h : ∀ t p, set ≤ t → t < 2 ^ n → 0 ≤ p → p < 60 → V (60 * t + p) = V' (60 * t + p)) : ∀ k : Nat, k ≤ 8 → bstM FAR ST V LD LN CV cl set at_ k = bstM FAR ST V' LD LN CV cl set at_ k
  | 0, _ => rfl
  | k + 1, hk => by
    unfold bstM
    rw [bst_cg hn hT hs ha h k (by omega), mvV_cg hn hT hs ha h (by omega)]
theorem mvV_mono {FAR ST : Int} {V V' LD LN CV : Int → Int} {cl set at_ : Int} {m : Nat} (hf : ∀ q, V' q ≤ V q) : mvV FAR ST V' LD LN CV cl set at_ m ≤ mvV FAR ST V LD LN CV cl set at_ m ∨ FAR ≤ mvV FAR ST V LD LN CV cl set at_ m := by
  unfold mvV
  by_cases q : LD (8 * at_ + m) = -1
  · right; rw [if_pos q]; exact Int.le_refl _
  · rw [if_neg q, if_neg q]
    by_cases r : bhd set (CV (8 * at_ + m)) cl = -1
    · right; rw [if_pos r]; exact Int.le_refl _
    · rw [if_neg r, if_neg r]
      have := hf (60 * bhd set (CV (8 * at_ + m)) cl + LD (8 * at_ + m))
      by_cases z : FAR ≤ V (60 * bhd set (CV (8 * at_ + m)) cl + LD (8 * at_ + m))
      · right; rw [if_pos z]; exact Int.le_refl _
      · left; rw [if_neg z, if_neg (by omega)]; omega
theorem bst_mono {FAR ST : Int} {V V' LD LN CV : Int → Int} {cl set at_ : Int} (hf : ∀ q, V' q ≤ V q) : ∀ k, bstM FAR ST V' LD LN CV cl set at_ k ≤ bstM FAR ST V LD LN CV cl set at_ k
  | 0 => Int.le_refl _
  | k + 1 => by
    have ih := bst_mono (FAR := FAR) (ST := ST) (LD := LD) (LN := LN) (CV := CV) (cl := cl) (set := set) (at_ := at_) hf k
    have h1 := bst_far (FAR := FAR) (ST := ST) (V := V) (LD := LD) (LN := LN) (CV := CV) (cl := cl) (set := set) (at_ := at_) k
    have h2 := mvV_mono (FAR := FAR) (ST := ST) (V := V) (V' := V') (LD := LD) (LN := LN) (CV := CV) (cl := cl) (set := set) (at_ := at_) (m := k) hf
    unfold bstM
    split <;> split <;> omega
/-- the law of the least: at the end 0, elsewhere the least over the moves -/
def Bel (FAR ST : Int) (LD LN CV : Int → Int) (cl sets en : Int) (V : Int → Int) : Prop :=
  (∀ q, 0 ≤ q → q < 60 * sets → 0 ≤ V q ∧ V q ≤ FAR) ∧ V (60 * (sets - 1) + en) = 0 ∧ ∀ t p, 0 ≤ t → t < sets → 0 ≤ p → p < 60 → ¬ (t = sets - 1 ∧ p = en) → V (60 * t + p) = bstM FAR ST V LD LN CV cl t p 8
