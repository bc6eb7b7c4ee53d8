/-! ===== sets of what is covered, as bits ===== -/
set_option maxRecDepth 100000 in
theorem set_ok : ∀ (b : Fin 10) (n : Fin 1024), orI (n.val : Int) (shlI 1 (b.val : Int)) = (if (n.val / 2 ^ b.val) % 2 = 1 then (n.val : Int) else ((n.val + 2 ^ b.val : Nat) : Int)) ∧ andI (shrI (n.val : Int) (b.val : Int)) 1 = (((n.val / 2 ^ b.val) % 2 : Nat) : Int) := by decide +kernel
/-- a fold's bit is cleared -/
def clr (v f : Int) : Int := andI v (xorI (shlI 1 f) (-1))
theorem clr_ok : ∀ (v : Fin 32) (f : Fin 5), 0 ≤ clr v.val f.val ∧ clr v.val f.val < 32 ∧ ∀ i : Fin 5, ((clr v.val f.val / 2 ^ i.val) % 2 = 1 ↔ (((v.val : Int) / 2 ^ i.val) % 2 = 1 ∧ i.val ≠ f.val)) := by decide +kernel
theorem ful_ok : ∀ F : Fin 6, shlI 1 (F.val : Int) = 2 ^ F.val := by decide +kernel
def cnt (P : Nat → Bool) : Nat → Int
  | 0 => 0
  | n + 1 => cnt P n + bI (P n)
def zerN (n : Nat) : Int := cnt (fun i => decide ((n / 2 ^ i) % 2 = 0)) 10
set_option maxRecDepth 100000 in
theorem zer_ok : ∀ (b : Fin 10) (n : Fin 1024), (n.val / 2 ^ b.val) % 2 = 0 → zerN (n.val + 2 ^ b.val) + 1 ≤ zerN n.val := by decide +kernel
