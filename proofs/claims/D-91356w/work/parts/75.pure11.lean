/-! ===== what leads to a place: at most one way a move ===== -/
theorem lead_inj {F S : Int} {kd : Int → Int} {p q m : Int} (hm : 0 ≤ m ∧ m < 8) (hp : 0 ≤ p) (hq : 0 ≤ q) (h : lead F S kd p m ≠ -1) (e : lead F S kd p m = lead F S kd q m) : p = q := by
  have h' : lead F S kd q m ≠ -1 := by rw [← e]; exact h
  rcases (show m = 0 ∨ m = 1 ∨ m = 2 ∨ m = 3 ∨ m = 4 ∨ m = 5 ∨ m = 6 ∨ m = 7 by omega) with rfl | rfl | rfl | rfl | rfl | rfl | rfl | rfl
  · rw [lead_0, lead_0] at e
    split at e <;> split at e <;> omega
  · have a := (leadn_1 h).2; have b := (leadn_1 h').2; omega
  · have a := (leadn_2 h).2; have b := (leadn_2 h').2; omega
  · have a := (leadn_3 h).2; have b := (leadn_3 h').2; omega
  · have a := (leadn_4 h).2; have b := (leadn_4 h').2; omega
  · have a := (leadn_5 h).2; have b := (leadn_5 h').2; omega
  · have a := (leadn_6 h).2; have b := (leadn_6 h').2; omega
  · have a := (leadn_7 h).2; have b := (leadn_7 h').2; omega
