/-! ===== what leads to a place: at most one way a move ===== -/
theorem lead_inj {F S : Int} {kd : Int → Int} {p q m : Int} (hm : 0 ≤ m ∧ m < 8) (hp : 0 ≤ p) (hq : 0 ≤ q) (h : lead F S kd p m ≠ -1) (e : lead F S kd p m = lead F S kd q m) : p = q := by
  have h' : lead F S kd q m ≠ -1 := by rw [← e]; exact h
  rcases (show m = 0 ∨ m = 1 ∨ m = 2 ∨ m = 3 ∨ m = 4 ∨ m = 5 ∨ m = 6 ∨ m = 7 by omega) with rfl | rfl | rfl | rfl | rfl | rfl | rfl | rfl
  · rw [lead_0, lead_0] at e
    split at e <;> split at e <;> omega
  · have a := (leadn_1 h).2; have b := (leadn_1 h').2; omega
  · have a := (leadn_2 h).2; have b := (leadn_2 h').2; omega
  · have a := (leadn_3 h).2; have b := (leadn_3 h').2; omega
  · have a := (leadn_4 h).2; have b := (leadn_4 h').2; omega
  · have a := (leadn_5 h).2; have b := (leadn_5 h').2; omega
  · have a := (leadn_6 h).2; have b := (leadn_6 h').2; omega
  · have a := (leadn_7 h).2; have b := (leadn_7 h').2; omega
def incN (LD : Int → Int) (q : Int) : Nat → Nat
  | 0 => 0
  | n + 1 => incN LD q n + (if LD (n : Int) = q then 1 else 0)
def imN (LD : Int → Int) (q : Int) (m : Nat) : Nat → Nat
  | 0 => 0
  | n + 1 => imN LD q m n + (if LD (n : Int) = q ∧ n % 8 = m then 1 else 0)
theorem incN_sum (LD : Int → Int) (q : Int) : ∀ n, incN LD q n = imN LD q 0 n + imN LD q 1 n + imN LD q 2 n + imN LD q 3 n + imN LD q 4 n + imN LD q 5 n + imN LD q 6 n + imN LD q 7 n
  | 0 => rfl
  | n + 1 => by
    have ih := incN_sum LD q n
    unfold incN imN
    by_cases h : LD (n : Int) = q
    · rcases (show n % 8 = 0 ∨ n % 8 = 1 ∨ n % 8 = 2 ∨ n % 8 = 3 ∨ n % 8 = 4 ∨ n % 8 = 5 ∨ n % 8 = 6 ∨ n % 8 = 7 by omega) with e | e | e | e | e | e | e | e <;> simp [h, e] <;> omega
    · simp [h]; omega
theorem imN_1 {LD : Int → Int} {q : Int} {m N : Nat} (hi : ∀ a b : Nat, a < N → b < N → a % 8 = b % 8 → LD (a : Int) = q → LD (b : Int) = q → a = b) : ∀ n, n ≤ N → imN LD q m n = 0 ∨ (imN LD q m n = 1 ∧ ∃ k, k < n ∧ LD (k : Int) = q ∧ k % 8 = m)
  | 0, _ => Or.inl rfl
  | n + 1, hn => by
    have ih := imN_1 (m := m) hi n (by omega)
    unfold imN
    by_cases h : LD (n : Int) = q ∧ n % 8 = m
    · rw [if_pos h]
      rcases ih with ih | ⟨ih, k, h1, h2, h3⟩
      · exact Or.inr ⟨by omega, n, by omega, h.1, h.2⟩
      · have := hi k n (by omega) (by omega) (by omega) h2 h.1
        omega
    · rw [if_neg h]
      rcases ih with ih | ⟨ih, k, h1, h2, h3⟩
      · exact Or.inl ih
      · exact Or.inr ⟨ih, k, by omega, h2, h3⟩
theorem incN_8 {LD : Int → Int} {q : Int} {N n : Nat} (hi : ∀ a b : Nat, a < N → b < N → a % 8 = b % 8 → LD (a : Int) = q → LD (b : Int) = q → a = b) (hn : n < N) (h : LD (n : Int) = q) : incN LD q n < 8 := by
  rw [incN_sum]
  have f : ∀ m, imN LD q m n ≤ 1 := fun m => by rcases imN_1 (m := m) hi n (by omega) with a | a <;> omega
  have z : imN LD q (n % 8) n = 0 := by
    rcases imN_1 (m := n % 8) hi n (by omega) with a | ⟨a, k, h1, h2, h3⟩
    · exact a
    · have := hi k n (by omega) hn h3 h2 h
      omega
  have f0 := f 0; have f1 := f 1; have f2 := f 2; have f3 := f 3; have f4 := f 4; have f5 := f 5; have f6 := f 6; have f7 := f 7
  rcases (show n % 8 = 0 ∨ n % 8 = 1 ∨ n % 8 = 2 ∨ n % 8 = 3 ∨ n % 8 = 4 ∨ n % 8 = 5 ∨ n % 8 = 6 ∨ n % 8 = 7 by omega) with e | e | e | e | e | e | e | e <;> rw [e] at z <;> omega
