/-! ===== contracts of the model: what is asked of plans ===== -/
def sm_along (f : Nat → Int) (g : Nat → Int → Int) (a b : Int) (z : Int) (f' : Nat → Int) (g' : Nat → Int → Int) : Prop :=
  ((¬ ((0 ≤ a ∧ a < f 7) ∧ 0 ≤ b ∧ b < f 8)) ∧ z = 0 ∧ f' = (up f 1 1) ∧ g' = g) ∨
  (((0 ≤ a ∧ a < f 7) ∧ 0 ≤ b ∧ b < f 8) ∧ z = fgo (f 8) (g 14) (g 15) (g 16) (f 2) (f 3) (g 12) (g 19 a) (fun k => g 20 (400 * a + k)) (g 18 a) b ∧ f' = (up (up (up f 1 0) 25 (fle (g 11) (g 10) (f 2) (f 3) (g 12) (g 19 a) (fun k => g 20 (400 * a + k)) (g 18 a))) 26 (plc (f 2) (f 3) (g 12) (g 19 a) (fun k => g 20 (400 * a + k)) (g 18 a))) ∧ g' = (ug (ug (ug g 22 (fgo (f 8) (g 14) (g 15) (g 16) (f 2) (f 3) (g 12) (g 19 a) (fun k => g 20 (400 * a + k)) (g 18 a))) 23 (fho (f 2) (f 3) (g 12) (g 19 a) (fun k => g 20 (400 * a + k)) (g 18 a))) 24 (fti (f 2) (f 3) (g 12) (g 19 a) (fun k => g 20 (400 * a + k)) (g 18 a))))
def sm_holes (f : Nat → Int) (g : Nat → Int → Int) (a b c_ : Int) (z : Int) (f' : Nat → Int) (g' : Nat → Int → Int) : Prop :=
  ((¬ ((0 ≤ a ∧ a < f 7) ∧ (0 ≤ b ∧ b < f 2) ∧ 0 ≤ c_ ∧ c_ < f 3)) ∧ z = 0 ∧ f' = (up f 1 1) ∧ g' = g) ∨
  (((0 ≤ a ∧ a < f 7) ∧ (0 ≤ b ∧ b < f 2) ∧ 0 ≤ c_ ∧ c_ < f 3) ∧ z = fho (f 2) (f 3) (g 12) (g 19 a) (fun k => g 20 (400 * a + k)) (g 18 a) (6 * b + c_) ∧ f' = (up (up (up f 1 0) 25 (fle (g 11) (g 10) (f 2) (f 3) (g 12) (g 19 a) (fun k => g 20 (400 * a + k)) (g 18 a))) 26 (plc (f 2) (f 3) (g 12) (g 19 a) (fun k => g 20 (400 * a + k)) (g 18 a))) ∧ g' = (ug (ug (ug g 22 (fgo (f 8) (g 14) (g 15) (g 16) (f 2) (f 3) (g 12) (g 19 a) (fun k => g 20 (400 * a + k)) (g 18 a))) 23 (fho (f 2) (f 3) (g 12) (g 19 a) (fun k => g 20 (400 * a + k)) (g 18 a))) 24 (fti (f 2) (f 3) (g 12) (g 19 a) (fun k => g 20 (400 * a + k)) (g 18 a))))
def sm_tied (f : Nat → Int) (g : Nat → Int → Int) (a b : Int) (z : Int) (f' : Nat → Int) (g' : Nat → Int → Int) : Prop :=
  ((¬ ((0 ≤ a ∧ a < f 7) ∧ 0 ≤ b ∧ b < f 2 - 1)) ∧ z = 0 ∧ f' = (up f 1 1) ∧ g' = g) ∨
  (((0 ≤ a ∧ a < f 7) ∧ 0 ≤ b ∧ b < f 2 - 1) ∧ z = fti (f 2) (f 3) (g 12) (g 19 a) (fun k => g 20 (400 * a + k)) (g 18 a) b ∧ f' = (up (up (up f 1 0) 25 (fle (g 11) (g 10) (f 2) (f 3) (g 12) (g 19 a) (fun k => g 20 (400 * a + k)) (g 18 a))) 26 (plc (f 2) (f 3) (g 12) (g 19 a) (fun k => g 20 (400 * a + k)) (g 18 a))) ∧ g' = (ug (ug (ug g 22 (fgo (f 8) (g 14) (g 15) (g 16) (f 2) (f 3) (g 12) (g 19 a) (fun k => g 20 (400 * a + k)) (g 18 a))) 23 (fho (f 2) (f 3) (g 12) (g 19 a) (fun k => g 20 (400 * a + k)) (g 18 a))) 24 (fti (f 2) (f 3) (g 12) (g 19 a) (fun k => g 20 (400 * a + k)) (g 18 a))))
def sm_swells (f : Nat → Int) (g : Nat → Int → Int) (a b : Int) (z : Int) (f' : Nat → Int) (g' : Nat → Int → Int) : Prop :=
  ((¬ ((0 ≤ a ∧ a < f 7) ∧ 0 ≤ b ∧ b < f 3)) ∧ z = 0 ∧ f' = (up f 1 1) ∧ g' = g) ∨
  (((0 ≤ a ∧ a < f 7) ∧ 0 ≤ b ∧ b < f 3) ∧ z = fswS (g 10) (f 2) + fswP (f 4) b (g 15) (g 16) (fgo (f 8) (g 14) (g 15) (g 16) (f 2) (f 3) (g 12) (g 19 a) (fun k => g 20 (400 * a + k)) (g 18 a)) (f 8) ∧ f' = (up (up (up f 1 0) 25 (fle (g 11) (g 10) (f 2) (f 3) (g 12) (g 19 a) (fun k => g 20 (400 * a + k)) (g 18 a))) 26 (plc (f 2) (f 3) (g 12) (g 19 a) (fun k => g 20 (400 * a + k)) (g 18 a))) ∧ g' = (ug (ug (ug g 22 (fgo (f 8) (g 14) (g 15) (g 16) (f 2) (f 3) (g 12) (g 19 a) (fun k => g 20 (400 * a + k)) (g 18 a))) 23 (fho (f 2) (f 3) (g 12) (g 19 a) (fun k => g 20 (400 * a + k)) (g 18 a))) 24 (fti (f 2) (f 3) (g 12) (g 19 a) (fun k => g 20 (400 * a + k)) (g 18 a))))
def sm_about (f : Nat → Int) (g : Nat → Int → Int) (a v : Int) (z : Int) (f' : Nat → Int) (g' : Nat → Int → Int) : Prop :=
  ((¬ (0 ≤ a ∧ a < f 7)) ∧ z = 0 ∧ f' = (up f 1 1) ∧ g' = g) ∨
  (((0 ≤ a ∧ a < f 7) ∧ v = 0) ∧ z = fle (g 11) (g 10) (f 2) (f 3) (g 12) (g 19 a) (fun k => g 20 (400 * a + k)) (g 18 a) ∧ f' = (up (up (up f 1 0) 25 (fle (g 11) (g 10) (f 2) (f 3) (g 12) (g 19 a) (fun k => g 20 (400 * a + k)) (g 18 a))) 26 (plc (f 2) (f 3) (g 12) (g 19 a) (fun k => g 20 (400 * a + k)) (g 18 a))) ∧ g' = (ug (ug (ug g 22 (fgo (f 8) (g 14) (g 15) (g 16) (f 2) (f 3) (g 12) (g 19 a) (fun k => g 20 (400 * a + k)) (g 18 a))) 23 (fho (f 2) (f 3) (g 12) (g 19 a) (fun k => g 20 (400 * a + k)) (g 18 a))) 24 (fti (f 2) (f 3) (g 12) (g 19 a) (fun k => g 20 (400 * a + k)) (g 18 a)))) ∨
  (((0 ≤ a ∧ a < f 7) ∧ v = 1) ∧ z = g 18 a ∧ f' = (up (up (up f 1 0) 25 (fle (g 11) (g 10) (f 2) (f 3) (g 12) (g 19 a) (fun k => g 20 (400 * a + k)) (g 18 a))) 26 (plc (f 2) (f 3) (g 12) (g 19 a) (fun k => g 20 (400 * a + k)) (g 18 a))) ∧ g' = (ug (ug (ug g 22 (fgo (f 8) (g 14) (g 15) (g 16) (f 2) (f 3) (g 12) (g 19 a) (fun k => g 20 (400 * a + k)) (g 18 a))) 23 (fho (f 2) (f 3) (g 12) (g 19 a) (fun k => g 20 (400 * a + k)) (g 18 a))) 24 (fti (f 2) (f 3) (g 12) (g 19 a) (fun k => g 20 (400 * a + k)) (g 18 a)))) ∨
  (((0 ≤ a ∧ a < f 7) ∧ v = 2) ∧ z = plc (f 2) (f 3) (g 12) (g 19 a) (fun k => g 20 (400 * a + k)) (g 18 a) / 2 / 6 ∧ f' = (up (up (up f 1 0) 25 (fle (g 11) (g 10) (f 2) (f 3) (g 12) (g 19 a) (fun k => g 20 (400 * a + k)) (g 18 a))) 26 (plc (f 2) (f 3) (g 12) (g 19 a) (fun k => g 20 (400 * a + k)) (g 18 a))) ∧ g' = (ug (ug (ug g 22 (fgo (f 8) (g 14) (g 15) (g 16) (f 2) (f 3) (g 12) (g 19 a) (fun k => g 20 (400 * a + k)) (g 18 a))) 23 (fho (f 2) (f 3) (g 12) (g 19 a) (fun k => g 20 (400 * a + k)) (g 18 a))) 24 (fti (f 2) (f 3) (g 12) (g 19 a) (fun k => g 20 (400 * a + k)) (g 18 a)))) ∨
  (((0 ≤ a ∧ a < f 7) ∧ v = 3) ∧ z = plc (f 2) (f 3) (g 12) (g 19 a) (fun k => g 20 (400 * a + k)) (g 18 a) / 2 % 6 ∧ f' = (up (up (up f 1 0) 25 (fle (g 11) (g 10) (f 2) (f 3) (g 12) (g 19 a) (fun k => g 20 (400 * a + k)) (g 18 a))) 26 (plc (f 2) (f 3) (g 12) (g 19 a) (fun k => g 20 (400 * a + k)) (g 18 a))) ∧ g' = (ug (ug (ug g 22 (fgo (f 8) (g 14) (g 15) (g 16) (f 2) (f 3) (g 12) (g 19 a) (fun k => g 20 (400 * a + k)) (g 18 a))) 23 (fho (f 2) (f 3) (g 12) (g 19 a) (fun k => g 20 (400 * a + k)) (g 18 a))) 24 (fti (f 2) (f 3) (g 12) (g 19 a) (fun k => g 20 (400 * a + k)) (g 18 a)))) ∨
  (((0 ≤ a ∧ a < f 7) ∧ v = 4) ∧ z = plc (f 2) (f 3) (g 12) (g 19 a) (fun k => g 20 (400 * a + k)) (g 18 a) % 2 ∧ f' = (up (up (up f 1 0) 25 (fle (g 11) (g 10) (f 2) (f 3) (g 12) (g 19 a) (fun k => g 20 (400 * a + k)) (g 18 a))) 26 (plc (f 2) (f 3) (g 12) (g 19 a) (fun k => g 20 (400 * a + k)) (g 18 a))) ∧ g' = (ug (ug (ug g 22 (fgo (f 8) (g 14) (g 15) (g 16) (f 2) (f 3) (g 12) (g 19 a) (fun k => g 20 (400 * a + k)) (g 18 a))) 23 (fho (f 2) (f 3) (g 12) (g 19 a) (fun k => g 20 (400 * a + k)) (g 18 a))) 24 (fti (f 2) (f 3) (g 12) (g 19 a) (fun k => g 20 (400 * a + k)) (g 18 a)))) ∨
  (((0 ≤ a ∧ a < f 7) ∧ v = 5) ∧ z = bP (plc (f 2) (f 3) (g 12) (g 19 a) (fun k => g 20 (400 * a + k)) (g 18 a) = g 19 a) ∧ f' = (up (up (up f 1 0) 25 (fle (g 11) (g 10) (f 2) (f 3) (g 12) (g 19 a) (fun k => g 20 (400 * a + k)) (g 18 a))) 26 (plc (f 2) (f 3) (g 12) (g 19 a) (fun k => g 20 (400 * a + k)) (g 18 a))) ∧ g' = (ug (ug (ug g 22 (fgo (f 8) (g 14) (g 15) (g 16) (f 2) (f 3) (g 12) (g 19 a) (fun k => g 20 (400 * a + k)) (g 18 a))) 23 (fho (f 2) (f 3) (g 12) (g 19 a) (fun k => g 20 (400 * a + k)) (g 18 a))) 24 (fti (f 2) (f 3) (g 12) (g 19 a) (fun k => g 20 (400 * a + k)) (g 18 a)))) ∨
  (((0 ≤ a ∧ a < f 7) ∧ v = 6) ∧ z = bP (plc (f 2) (f 3) (g 12) (g 19 a) (fun k => g 20 (400 * a + k)) (g 18 a) = g 19 a ∧ ∀ j, 0 ≤ j → j < f 8 → g 17 j = 0 ∨ 0 < fgo (f 8) (g 14) (g 15) (g 16) (f 2) (f 3) (g 12) (g 19 a) (fun k => g 20 (400 * a + k)) (g 18 a) j) ∧ f' = (up (up (up f 1 0) 25 (fle (g 11) (g 10) (f 2) (f 3) (g 12) (g 19 a) (fun k => g 20 (400 * a + k)) (g 18 a))) 26 (plc (f 2) (f 3) (g 12) (g 19 a) (fun k => g 20 (400 * a + k)) (g 18 a))) ∧ g' = (ug (ug (ug g 22 (fgo (f 8) (g 14) (g 15) (g 16) (f 2) (f 3) (g 12) (g 19 a) (fun k => g 20 (400 * a + k)) (g 18 a))) 23 (fho (f 2) (f 3) (g 12) (g 19 a) (fun k => g 20 (400 * a + k)) (g 18 a))) 24 (fti (f 2) (f 3) (g 12) (g 19 a) (fun k => g 20 (400 * a + k)) (g 18 a)))) ∨
  (((0 ≤ a ∧ a < f 7) ∧ v = 7) ∧ z = bP (plc (f 2) (f 3) (g 12) (g 19 a) (fun k => g 20 (400 * a + k)) (g 18 a) = g 19 a ∧ ∀ j, 0 ≤ j → j < f 8 → fgo (f 8) (g 14) (g 15) (g 16) (f 2) (f 3) (g 12) (g 19 a) (fun k => g 20 (400 * a + k)) (g 18 a) j = g 17 j) ∧ f' = (up (up (up f 1 0) 25 (fle (g 11) (g 10) (f 2) (f 3) (g 12) (g 19 a) (fun k => g 20 (400 * a + k)) (g 18 a))) 26 (plc (f 2) (f 3) (g 12) (g 19 a) (fun k => g 20 (400 * a + k)) (g 18 a))) ∧ g' = (ug (ug (ug g 22 (fgo (f 8) (g 14) (g 15) (g 16) (f 2) (f 3) (g 12) (g 19 a) (fun k => g 20 (400 * a + k)) (g 18 a))) 23 (fho (f 2) (f 3) (g 12) (g 19 a) (fun k => g 20 (400 * a + k)) (g 18 a))) 24 (fti (f 2) (f 3) (g 12) (g 19 a) (fun k => g 20 (400 * a + k)) (g 18 a)))) ∨
  (((0 ≤ a ∧ a < f 7) ∧ v = 8) ∧ z = bP (∀ j, 0 ≤ j → j < f 2 - 1 → 2 ≤ fti (f 2) (f 3) (g 12) (g 19 a) (fun k => g 20 (400 * a + k)) (g 18 a) j) ∧ f' = (up (up (up f 1 0) 25 (fle (g 11) (g 10) (f 2) (f 3) (g 12) (g 19 a) (fun k => g 20 (400 * a + k)) (g 18 a))) 26 (plc (f 2) (f 3) (g 12) (g 19 a) (fun k => g 20 (400 * a + k)) (g 18 a))) ∧ g' = (ug (ug (ug g 22 (fgo (f 8) (g 14) (g 15) (g 16) (f 2) (f 3) (g 12) (g 19 a) (fun k => g 20 (400 * a + k)) (g 18 a))) 23 (fho (f 2) (f 3) (g 12) (g 19 a) (fun k => g 20 (400 * a + k)) (g 18 a))) 24 (fti (f 2) (f 3) (g 12) (g 19 a) (fun k => g 20 (400 * a + k)) (g 18 a)))) ∨
  (((0 ≤ a ∧ a < f 7) ∧ (v < 0 ∨ 8 < v)) ∧ z = 0 ∧ f' = (up (up (up f 1 1) 25 (fle (g 11) (g 10) (f 2) (f 3) (g 12) (g 19 a) (fun k => g 20 (400 * a + k)) (g 18 a))) 26 (plc (f 2) (f 3) (g 12) (g 19 a) (fun k => g 20 (400 * a + k)) (g 18 a))) ∧ g' = (ug (ug (ug g 22 (fgo (f 8) (g 14) (g 15) (g 16) (f 2) (f 3) (g 12) (g 19 a) (fun k => g 20 (400 * a + k)) (g 18 a))) 23 (fho (f 2) (f 3) (g 12) (g 19 a) (fun k => g 20 (400 * a + k)) (g 18 a))) 24 (fti (f 2) (f 3) (g 12) (g 19 a) (fun k => g 20 (400 * a + k)) (g 18 a))))
def sm_loose (f : Nat → Int) (g : Nat → Int → Int) (a b : Int) (z : Int) (f' : Nat → Int) (g' : Nat → Int → Int) : Prop :=
  ((¬ ((0 ≤ a ∧ a < f 7) ∧ 0 ≤ b ∧ b < g 18 a)) ∧ z = 0 ∧ f' = (up f 1 1) ∧ g' = g) ∨
  (((0 ≤ a ∧ a < f 7) ∧ 0 ≤ b ∧ b < g 18 a) ∧ ∃ y27 : Int → Int, (LSok z (GL (f 2) (fun j => offs (bP (plc (f 2) (f 3) (g 12) (g 19 a) (fun k => g 20 (400 * a + k)) (g 18 a) = g 19 a)) (g 18 a) (fun k => g 20 (400 * a + k)) b j = 0 ∧ alg (f 8) (g 14) (g 15) (g 16) (plc (f 2) (f 3) (g 12) (g 19 a) (fun k => g 20 (400 * a + k)) j) (g 20 (400 * a + j)) ≠ -1) (fun j => plc (f 2) (f 3) (g 12) (g 19 a) (fun k => g 20 (400 * a + k)) j / 2 / 6) (g 18 a))) ∧ f' = (up (up (up f 1 0) 25 (fle (g 11) (g 10) (f 2) (f 3) (g 12) (g 19 a) (fun k => g 20 (400 * a + k)) (g 18 a))) 26 (plc (f 2) (f 3) (g 12) (g 19 a) (fun k => g 20 (400 * a + k)) (g 18 a))) ∧ g' = (ug (ug (ug (ug g 22 (fgo (f 8) (g 14) (g 15) (g 16) (f 2) (f 3) (g 12) (g 19 a) (fun k => g 20 (400 * a + k)) (g 18 a))) 23 (fho (f 2) (f 3) (g 12) (g 19 a) (fun k => g 20 (400 * a + k)) (g 18 a))) 24 (fti (f 2) (f 3) (g 12) (g 19 a) (fun k => g 20 (400 * a + k)) (g 18 a))) 27 y27))
section MC6
set_option maxHeartbeats 4000000 in
set_option maxRecDepth 100000 in
theorem c_X3_isWhole (l : Launch) (D : va_G) (hst : l.stackTraces = false) (h : Nat → Nat) (f : Nat → Int) (g : Nat → Int → Int)  (hnp : 0 ≤ f 8 ∧ f 8 ≤ 55) (hpt : ∀ j, 0 ≤ j → j < f 8 → (0 ≤ g 14 j ∧ g 14 j ≤ 4) ∧ (0 ≤ g 15 j ∧ g 15 j ≤ 5) ∧ (0 ≤ g 16 j ∧ g 16 j ≤ 2) ∧ (0 ≤ g 17 j ∧ g 17 j ≤ 1)) (hg22 : ∀ j, 0 ≤ j → j < 55 → 0 ≤ g 22 j ∧ g 22 j ≤ 400) : CT l D yX3_isWhole (ws_ yX3_isWhole cX3_isWhole 3 (some .boolean)) (rmD 0 0 0) (0) (0) mdR [.ref (h 36)] (mW D h f g) exT (pI fun z _ => z = bP (∀ j, 0 ≤ j → j < f 8 → g 17 j = 0 ∨ 0 < g 22 j)) xN := by
  refine ct_R (lv := [(0, .ref (h 36))]) RX3 (by decide) rfl rfl hst (Nat.le_of_ble_eq_true rfl) rfl ?_
  intro p e s mm args below meth c A C htab hex
  refine g_iconst C dX3_isWhole_0 ?_
  refine g_istore_n C dX3_isWhole_1 rfl (lv' := [(0, .ref (h 36)), (1, .int (iI 1))]) [1, 0] rfl (Nat.le_of_ble_eq_true rfl) ?_
  refine g_iconst C dX3_isWhole_2 ?_
  refine g_istore_n C dX3_isWhole_3 rfl (lv' := [(0, .ref (h 36)), (1, .int (iI 1)), (2, .int (iI 0))]) [1, 2, 0] rfl (Nat.le_of_ble_eq_true rfl) ?_
  have L1 : ∀ (n : Nat) (k : Int) (is_ : Int), (0 ≤ k ∧ k ≤ f 8) → (is_ = bP (∀ j, 0 ≤ j → j < k → g 17 j = 0 ∨ 0 < g 22 j)) → (f 8 - k).toNat < n → GO p l e (rmD 0 0 0) s mm args below meth c 3 D A (fun _ => True) 0 0 (MX below D A (pI fun z _ => z = bP (∀ j, 0 ≤ j → j < f 8 → g 17 j = 0 ∨ 0 < g 22 j)) xN args s (0) (0)) (mW D h f g) 4 [(0, .ref (h 36)), (1, .int (iI is_)), (2, .int (iI k))] [] := by
    intro n
    induction n with
    | zero => intro k is_ hk his hm; exact absurd hm (Nat.not_lt_zero _)
    | succ n ih1 =>
      intro k is_ hk his hm1
      have hib : 0 ≤ is_ ∧ is_ ≤ 1 := by rw [his]; exact bP_rg _
      refine g_iload_n C dX3_isWhole_4 rfl 2 rfl ?_
      refine g_aload_n C dX3_isWhole_5 rfl 0 rfl ?_
      refine gm_get8 C (v := f 8) rfl dX3_isWhole_6 ?_
      refine g_icmp_ge C (tgt := 46) dX3_isWhole_9 (by decide) (by omega) (by omega) (fun hc9_2 => ?_) (fun hc9_2 => ?_)
      ·
        refine g_iload_n C dX3_isWhole_46 rfl 1 rfl ?_
        refine g_nilA ?_
        exact g_iret C dX3_isWhole_47 (nr_b hib) (Nat.le_of_ble_eq_true rfl) (Nat.le_of_ble_eq_true rfl) ⟨_, rfl, by rw [his, show k = f 8 by omega]⟩
      ·
        have J3 : ∀ (bv : Int), (bv = bP (∀ j, 0 ≤ j → j < k + 1 → g 17 j = 0 ∨ 0 < g 22 j)) → GO p l e (rmD 0 0 0) s mm args below meth c 3 D A (fun _ => True) 0 0 (MX below D A (pI fun z _ => z = bP (∀ j, 0 ≤ j → j < f 8 → g 17 j = 0 ∨ 0 < g 22 j)) xN args s (0) (0)) (mW D h f g) 39 [(0, .ref (h 36)), (1, .int (iI is_)), (2, .int (iI k))] [.int (iI bv)] := by
          intro bv hbv
          refine g_istore_n C dX3_isWhole_39 rfl (lv' := [(0, .ref (h 36)), (1, .int (iI bv)), (2, .int (iI k))]) [1, 0, 2] rfl (Nat.le_of_ble_eq_true rfl) ?_
          refine g_iinc C dX3_isWhole_40 2 rfl (lv' := [(0, .ref (h 36)), (1, .int (iI bv)), (2, .int (iI (k + 1)))]) [1, 2, 0] rfl (Nat.le_of_ble_eq_true rfl) ?_
          refine g_goto C (tgt := 4) dX3_isWhole_43 (by decide) ?_
          exact ih1 (k + 1) bv (by omega) hbv (by omega)
        refine g_iload_n C dX3_isWhole_12 rfl 1 rfl ?_
        refine g_if_eq C (tgt := 38) dX3_isWhole_13 (by decide) (by omega) (fun hc13_4 => ?_) (fun hc13_4 => ?_)
        ·
          refine g_iconst C dX3_isWhole_38 ?_
          exact J3 0 (by first | exact bA_0 (by rw [← his]; omega) | exact bA_1 hk.1 (show ¬ (g 17 k = 0 ∨ 0 < g 22 k) by omega))
        ·
          refine g_aload_n C dX3_isWhole_16 rfl 0 rfl ?_
          refine gm_get17 C dX3_isWhole_17 ?_
          refine g_iload_n C dX3_isWhole_20 rfl 2 rfl ?_
          refine gm_ald17 C (v := (g 17) k) rfl dX3_isWhole_21 (by omega) ?_
          have hf5 := hpt (k) (by omega) (by omega)
          refine g_if_eq C (tgt := 34) dX3_isWhole_22 (by decide) (by omega) (fun hc22_6 => ?_) (fun hc22_6 => ?_)
          ·
            refine g_iconst C dX3_isWhole_34 ?_
            refine g_goto C (tgt := 39) dX3_isWhole_35 (by decide) ?_
            exact J3 1 (bA_t (by rw [← his]; omega) (show g 17 k = 0 ∨ 0 < g 22 k by omega))
          ·
            refine g_aload_n C dX3_isWhole_25 rfl 0 rfl ?_
            refine gm_get22 C dX3_isWhole_26 ?_
            refine g_iload_n C dX3_isWhole_29 rfl 2 rfl ?_
            refine gm_ald22 C (v := (g 22) k) rfl dX3_isWhole_30 (by omega) ?_
            have hf7 := hg22 (k) (by omega) (by omega)
            refine g_if_le C (tgt := 38) dX3_isWhole_31 (by decide) (by omega) (fun hc31_8 => ?_) (fun hc31_8 => ?_)
            ·
              refine g_iconst C dX3_isWhole_38 ?_
              exact J3 0 (by first | exact bA_0 (by rw [← his]; omega) | exact bA_1 hk.1 (show ¬ (g 17 k = 0 ∨ 0 < g 22 k) by omega))
            ·
              refine g_iconst C dX3_isWhole_34 ?_
              refine g_goto C (tgt := 39) dX3_isWhole_35 (by decide) ?_
              exact J3 1 (bA_t (by rw [← his]; omega) (show g 17 k = 0 ∨ 0 < g 22 k by omega))
  exact L1 _ 0 1 (by omega) bA_i (Nat.lt_succ_self _)

section MK
variable {p : Program} {l : Launch} {e : Env} {R : Room} {s : State} {mm : MethodId} {args : Array Value} {below : List Frame} {meth : Method} {c : Code} {cc : ByteArray} {nL : Nat} {ret : Option FieldType} {D : va_G} {A B : Nat → Prop} {cells slots : Nat} {Q : State → Prop} {pc : Nat} {lv : List (Nat × Value)} {st : List Value}
theorem kX3_X3_isWhole {h : Nat → Nat} {f : Nat → Int} {g : Nat → Int → Int}  (C : CX p l s mm args meth c RX3 cc nL ret D A) (hnp : 0 ≤ f 8 ∧ f 8 ≤ 55) (hpt : ∀ j, 0 ≤ j → j < f 8 → (0 ≤ g 14 j ∧ g 14 j ≤ 4) ∧ (0 ≤ g 15 j ∧ g 15 j ≤ 5) ∧ (0 ≤ g 16 j ∧ g 16 j ≤ 2) ∧ (0 ≤ g 17 j ∧ g 17 j ≤ 1)) (hg22 : ∀ j, 0 ≤ j → j < 55 → 0 ≤ g 22 j ∧ g 22 j ≤ 400) (hR : 0 + 1 ≤ R.frames ∧ 8 + (3 + 11) + 64 * 0 ≤ R.locals) (hcat : (st.map fun v => v.category).sum ≤ 8) (hroom : cells ≤ R.cells ∧ slots ≤ R.slots) {rv : Int} (hr : bP (∀ j, 0 ≤ j → j < f 8 → g 17 j = 0 ∨ 0 < g 22 j) = rv) (d : decode cc pc = .ok (.invokevirtual 188, 3)) (K : GO p l e R s mm args below meth c nL D A B cells slots Q (mW D h f g) (pc + 3) lv (.int (iI rv) :: st)) : GO p l e R s mm args below meth c nL D A B cells slots Q (mW D h f g) (pc) lv (.ref (h 36) :: st) := by
  refine g_callVR C (c_X3_isWhole l D C.hl h f g  hnp hpt hg22) (As := []) (n := 0) (lw_V q1232 q1234 qs41 q69 q1235) (by decide +kernel) rfl rfl hR (rcv C 0 rfl rfl rfl) rfl rfl hcat ⟨hroom.1, hroom.2⟩ d Sb.rf exT_b hex_t (fun v w hp => ?_) kx_n
  obtain ⟨z, rfl, rfl⟩ := hp
  rw [hr]
  exact K
end MK
set_option maxHeartbeats 4000000 in
set_option maxRecDepth 100000 in
theorem c_X3_isClean (l : Launch) (D : va_G) (hst : l.stackTraces = false) (h : Nat → Nat) (f : Nat → Int) (g : Nat → Int → Int)  (hnp : 0 ≤ f 8 ∧ f 8 ≤ 55) (hpt : ∀ j, 0 ≤ j → j < f 8 → (0 ≤ g 14 j ∧ g 14 j ≤ 4) ∧ (0 ≤ g 15 j ∧ g 15 j ≤ 5) ∧ (0 ≤ g 16 j ∧ g 16 j ≤ 2) ∧ (0 ≤ g 17 j ∧ g 17 j ≤ 1)) (hg22 : ∀ j, 0 ≤ j → j < 55 → 0 ≤ g 22 j ∧ g 22 j ≤ 400) : CT l D yX3_isClean (ws_ yX3_isClean cX3_isClean 3 (some .boolean)) (rmD 0 0 0) (0) (0) mdR [.ref (h 36)] (mW D h f g) exT (pI fun z _ => z = bP (∀ j, 0 ≤ j → j < f 8 → g 22 j = g 17 j)) xN := by
  refine ct_R (lv := [(0, .ref (h 36))]) RX3 (by decide) rfl rfl hst (Nat.le_of_ble_eq_true rfl) rfl ?_
  intro p e s mm args below meth c A C htab hex
  refine g_iconst C dX3_isClean_0 ?_
  refine g_istore_n C dX3_isClean_1 rfl (lv' := [(0, .ref (h 36)), (1, .int (iI 1))]) [1, 0] rfl (Nat.le_of_ble_eq_true rfl) ?_
  refine g_iconst C dX3_isClean_2 ?_
  refine g_istore_n C dX3_isClean_3 rfl (lv' := [(0, .ref (h 36)), (1, .int (iI 1)), (2, .int (iI 0))]) [1, 2, 0] rfl (Nat.le_of_ble_eq_true rfl) ?_
  have L1 : ∀ (n : Nat) (k : Int) (is_ : Int), (0 ≤ k ∧ k ≤ f 8) → (is_ = bP (∀ j, 0 ≤ j → j < k → g 22 j = g 17 j)) → (f 8 - k).toNat < n → GO p l e (rmD 0 0 0) s mm args below meth c 3 D A (fun _ => True) 0 0 (MX below D A (pI fun z _ => z = bP (∀ j, 0 ≤ j → j < f 8 → g 22 j = g 17 j)) xN args s (0) (0)) (mW D h f g) 4 [(0, .ref (h 36)), (1, .int (iI is_)), (2, .int (iI k))] [] := by
    intro n
    induction n with
    | zero => intro k is_ hk his hm; exact absurd hm (Nat.not_lt_zero _)
    | succ n ih1 =>
      intro k is_ hk his hm1
      have hib : 0 ≤ is_ ∧ is_ ≤ 1 := by rw [his]; exact bP_rg _
      refine g_iload_n C dX3_isClean_4 rfl 2 rfl ?_
      refine g_aload_n C dX3_isClean_5 rfl 0 rfl ?_
      refine gm_get8 C (v := f 8) rfl dX3_isClean_6 ?_
      refine g_icmp_ge C (tgt := 51) dX3_isClean_9 (by decide) (by omega) (by omega) (fun hc9_2 => ?_) (fun hc9_2 => ?_)
      ·
        refine g_iload_n C dX3_isClean_51 rfl 1 rfl ?_
        refine g_nilA ?_
        exact g_iret C dX3_isClean_52 (nr_b hib) (Nat.le_of_ble_eq_true rfl) (Nat.le_of_ble_eq_true rfl) ⟨_, rfl, by rw [his, show k = f 8 by omega]⟩
      ·
        have J3 : ∀ (bv : Int), (bv = bP (∀ j, 0 ≤ j → j < k + 1 → g 22 j = g 17 j)) → GO p l e (rmD 0 0 0) s mm args below meth c 3 D A (fun _ => True) 0 0 (MX below D A (pI fun z _ => z = bP (∀ j, 0 ≤ j → j < f 8 → g 22 j = g 17 j)) xN args s (0) (0)) (mW D h f g) 44 [(0, .ref (h 36)), (1, .int (iI is_)), (2, .int (iI k))] [.int (iI bv)] := by
          intro bv hbv
          refine g_istore_n C dX3_isClean_44 rfl (lv' := [(0, .ref (h 36)), (1, .int (iI bv)), (2, .int (iI k))]) [1, 0, 2] rfl (Nat.le_of_ble_eq_true rfl) ?_
          refine g_iinc C dX3_isClean_45 2 rfl (lv' := [(0, .ref (h 36)), (1, .int (iI bv)), (2, .int (iI (k + 1)))]) [1, 2, 0] rfl (Nat.le_of_ble_eq_true rfl) ?_
          refine g_goto C (tgt := 4) dX3_isClean_48 (by decide) ?_
          exact ih1 (k + 1) bv (by omega) hbv (by omega)
        refine g_iload_n C dX3_isClean_12 rfl 1 rfl ?_
        refine g_if_eq C (tgt := 43) dX3_isClean_13 (by decide) (by omega) (fun hc13_4 => ?_) (fun hc13_4 => ?_)
        ·
          refine g_iconst C dX3_isClean_43 ?_
          exact J3 0 (by first | exact bA_0 (by rw [← his]; omega) | exact bA_1 hk.1 (show ¬ (g 22 k = g 17 k) by omega))
        ·
          refine g_aload_n C dX3_isClean_16 rfl 0 rfl ?_
          refine gm_get22 C dX3_isClean_17 ?_
          refine g_iload_n C dX3_isClean_20 rfl 2 rfl ?_
          refine gm_ald22 C (v := (g 22) k) rfl dX3_isClean_21 (by omega) ?_
          have hf5 := hg22 (k) (by omega) (by omega)
          refine g_aload_n C dX3_isClean_22 rfl 0 rfl ?_
          refine gm_get17 C dX3_isClean_23 ?_
          refine g_iload_n C dX3_isClean_26 rfl 2 rfl ?_
          refine gm_ald17 C (v := (g 17) k) rfl dX3_isClean_27 (by omega) ?_
          have hf6 := hpt (k) (by omega) (by omega)
          have J7 : ∀ (nv : Int), (nv = g 17 k) → GO p l e (rmD 0 0 0) s mm args below meth c 3 D A (fun _ => True) 0 0 (MX below D A (pI fun z _ => z = bP (∀ j, 0 ≤ j → j < f 8 → g 22 j = g 17 j)) xN args s (0) (0)) (mW D h f g) 36 [(0, .ref (h 36)), (1, .int (iI is_)), (2, .int (iI k))] [.int (iI nv), .int (iI ((g 22) k))] := by
            intro nv hnv
            refine g_icmp_ne C (tgt := 43) dX3_isClean_36 (by decide) (by omega) (by omega) (fun hc36_8 => ?_) (fun hc36_8 => ?_)
            ·
              refine g_iconst C dX3_isClean_43 ?_
              exact J3 0 (by first | exact bA_0 (by rw [← his]; omega) | exact bA_1 hk.1 (show ¬ (g 22 k = g 17 k) by omega))
            ·
              refine g_iconst C dX3_isClean_39 ?_
              refine g_goto C (tgt := 44) dX3_isClean_40 (by decide) ?_
              exact J3 1 (bA_t (by rw [← his]; omega) (show g 22 k = g 17 k by omega))
          refine g_if_eq C (tgt := 35) dX3_isClean_28 (by decide) (by omega) (fun hc28_9 => ?_) (fun hc28_9 => ?_)
          ·
            refine g_iconst C dX3_isClean_35 ?_
            exact J7 0 (by omega)
          ·
            refine g_iconst C dX3_isClean_31 ?_
            refine g_goto C (tgt := 36) dX3_isClean_32 (by decide) ?_
            exact J7 1 (by omega)
  exact L1 _ 0 1 (by omega) bA_i (Nat.lt_succ_self _)

section MK
variable {p : Program} {l : Launch} {e : Env} {R : Room} {s : State} {mm : MethodId} {args : Array Value} {below : List Frame} {meth : Method} {c : Code} {cc : ByteArray} {nL : Nat} {ret : Option FieldType} {D : va_G} {A B : Nat → Prop} {cells slots : Nat} {Q : State → Prop} {pc : Nat} {lv : List (Nat × Value)} {st : List Value}
theorem kX3_X3_isClean {h : Nat → Nat} {f : Nat → Int} {g : Nat → Int → Int}  (C : CX p l s mm args meth c RX3 cc nL ret D A) (hnp : 0 ≤ f 8 ∧ f 8 ≤ 55) (hpt : ∀ j, 0 ≤ j → j < f 8 → (0 ≤ g 14 j ∧ g 14 j ≤ 4) ∧ (0 ≤ g 15 j ∧ g 15 j ≤ 5) ∧ (0 ≤ g 16 j ∧ g 16 j ≤ 2) ∧ (0 ≤ g 17 j ∧ g 17 j ≤ 1)) (hg22 : ∀ j, 0 ≤ j → j < 55 → 0 ≤ g 22 j ∧ g 22 j ≤ 400) (hR : 0 + 1 ≤ R.frames ∧ 8 + (3 + 11) + 64 * 0 ≤ R.locals) (hcat : (st.map fun v => v.category).sum ≤ 8) (hroom : cells ≤ R.cells ∧ slots ≤ R.slots) {rv : Int} (hr : bP (∀ j, 0 ≤ j → j < f 8 → g 22 j = g 17 j) = rv) (d : decode cc pc = .ok (.invokevirtual 192, 3)) (K : GO p l e R s mm args below meth c nL D A B cells slots Q (mW D h f g) (pc + 3) lv (.int (iI rv) :: st)) : GO p l e R s mm args below meth c nL D A B cells slots Q (mW D h f g) (pc) lv (.ref (h 36) :: st) := by
  refine g_callVR C (c_X3_isClean l D C.hl h f g  hnp hpt hg22) (As := []) (n := 0) (lw_V q1236 q1238 qs42 q69 q1239) (by decide +kernel) rfl rfl hR (rcv C 0 rfl rfl rfl) rfl rfl hcat ⟨hroom.1, hroom.2⟩ d Sb.rf exT_b hex_t (fun v w hp => ?_) kx_n
  obtain ⟨z, rfl, rfl⟩ := hp
  rw [hr]
  exact K
end MK
set_option maxHeartbeats 4000000 in
set_option maxRecDepth 100000 in
theorem c_X3_along (l : Launch) (D : va_G) (hst : l.stackTraces = false) (h : Nat → Nat) (f : Nat → Int) (g : Nat → Int → Int) (a b : Int) (hF : 1 ≤ f 2 ∧ f 2 ≤ 5) (hS : 2 ≤ f 3 ∧ f 3 ≤ 6) (hkd : ∀ j, 0 ≤ j → j < 6 → 0 ≤ g 12 j ∧ g 12 j ≤ 3) (hth : ∀ j, 0 ≤ j → j < 5 → 1 ≤ g 10 j ∧ g 10 j ≤ 50) (hht : ∀ j, 0 ≤ j → j < 6 → 0 ≤ g 11 j ∧ g 11 j ≤ 400) (hnp : 0 ≤ f 8 ∧ f 8 ≤ 55) (hpt : ∀ j, 0 ≤ j → j < f 8 → (0 ≤ g 14 j ∧ g 14 j ≤ 4) ∧ (0 ≤ g 15 j ∧ g 15 j ≤ 5) ∧ (0 ≤ g 16 j ∧ g 16 j ≤ 2) ∧ (0 ≤ g 17 j ∧ g 17 j ≤ 1)) (hpl : 0 ≤ f 7 ∧ f 7 ≤ 8) (hPLs : ∀ q, 0 ≤ q → q < f 7 → PLok (f 2) (f 3) (g 12) (g 19 q) (g 18 q) (fun k => g 20 (400 * q + k))) (har : -2147483648 ≤ a ∧ a < 2147483648) (hbr : -2147483648 ≤ b ∧ b < 2147483648) : CT l D yX3_along (ws_ yX3_along cX3_along 3 (some .int)) (rmD 4 0 0) (0) (0) va_A [.ref (h 36), .int (iI a), .int (iI b)] (mW D h f g) exT (pI fun z w => ∃ f' g', sm_along f g a b z f' g' ∧ w = mW D h f' g') xN := by
  refine ct_U (lv := [(0, .ref (h 36)), (1, .int (iI a)), (2, .int (iI b))]) RX3 (by decide) rfl rfl hst (Nat.le_of_ble_eq_true rfl) rfl ?_
  intro p e s mm args below meth c A C htab hex hnm
  refine g_aload_n C dX3_along_0 rfl 0 rfl ?_
  refine g_iconst C dX3_along_1 ?_
  refine gm_put1 C (f' := (up f 1 0)) rfl dX3_along_2 ?_
  refine g_aload_n C dX3_along_5 rfl 0 rfl ?_
  refine g_iload_n C dX3_along_6 rfl 1 rfl ?_
  refine kX3_X3_isPlan a C hpl (by omega) ⟨Nat.le_of_ble_eq_true rfl, Nat.le_of_ble_eq_true rfl⟩ (Nat.le_of_ble_eq_true rfl) ⟨Nat.le_of_ble_eq_true rfl, Nat.le_of_ble_eq_true rfl⟩ (rv := bI (decide (0 ≤ a ∧ a < f 7))) rfl dX3_along_7 ?_
  have hbb1 : 0 ≤ bI (decide (0 ≤ a ∧ a < f 7)) ∧ bI (decide (0 ≤ a ∧ a < f 7)) ≤ 1 := bI_rg _
  refine g_if_eq C (tgt := 21) dX3_along_10 (by decide) (by omega) (fun hc10_2 => ?_) (fun hc10_2 => ?_)
  ·
    have hc10_2b : ¬ (0 ≤ a ∧ a < f 7) := of_decide_eq_false (bI_0.mp (by omega))
    refine g_aload_n C dX3_along_21 rfl 0 rfl ?_
    refine g_iconst C dX3_along_22 ?_
    refine kX3_X3_fail 1 C  ⟨Nat.le_of_ble_eq_true rfl, Nat.le_of_ble_eq_true rfl⟩ (Nat.le_of_ble_eq_true rfl) ⟨Nat.le_of_ble_eq_true rfl, Nat.le_of_ble_eq_true rfl⟩ dX3_along_23 ?_
    refine g_ws (ws' := mW D h (up f 1 1) g) rfl ?_
    exact g_iret C dX3_along_26 rfl (Nat.le_of_ble_eq_true rfl) (Nat.le_of_ble_eq_true rfl) ⟨_, rfl, _, _, (Or.inl ⟨by omega, rfl, rfl, rfl⟩), rfl⟩
  ·
    have hc10_2b : 0 ≤ a ∧ a < f 7 := of_decide_eq_true (bI_1.mp (by omega))
    refine g_aload_n C dX3_along_13 rfl 0 rfl ?_
    refine g_iload_n C dX3_along_14 rfl 2 rfl ?_
    refine kX3_X3_isPart b C hnp (by omega) ⟨Nat.le_of_ble_eq_true rfl, Nat.le_of_ble_eq_true rfl⟩ (Nat.le_of_ble_eq_true rfl) ⟨Nat.le_of_ble_eq_true rfl, Nat.le_of_ble_eq_true rfl⟩ (rv := bI (decide (0 ≤ b ∧ b < f 8))) rfl dX3_along_15 ?_
    have hbb3 : 0 ≤ bI (decide (0 ≤ b ∧ b < f 8)) ∧ bI (decide (0 ≤ b ∧ b < f 8)) ≤ 1 := bI_rg _
    refine g_if_ne C (tgt := 27) dX3_along_18 (by decide) (by omega) (fun hc18_4 => ?_) (fun hc18_4 => ?_)
    ·
      have hc18_4b : 0 ≤ b ∧ b < f 8 := of_decide_eq_true (bI_1.mp (by omega))
      refine g_aload_n C dX3_along_27 rfl 0 rfl ?_
      refine g_iload_n C dX3_along_28 rfl 1 rfl ?_
      refine kX3_X3_follow a C hF hS hkd hth hht hnp hpt (by omega) (hPLs a (by omega) (by omega)) ⟨Nat.le_of_ble_eq_true rfl, Nat.le_of_ble_eq_true rfl⟩ (Nat.le_of_ble_eq_true rfl) ⟨Nat.le_of_ble_eq_true rfl, Nat.le_of_ble_eq_true rfl⟩ dX3_along_29 ?_
      refine g_ws (ws' := mW D h (up (up (up f 1 0) 25 (fle (g 11) (g 10) (f 2) (f 3) (g 12) (g 19 a) (fun k => g 20 (400 * a + k)) (g 18 a))) 26 (plc (f 2) (f 3) (g 12) (g 19 a) (fun k => g 20 (400 * a + k)) (g 18 a))) (ug (ug (ug g 22 (fgo (f 8) (g 14) (g 15) (g 16) (f 2) (f 3) (g 12) (g 19 a) (fun k => g 20 (400 * a + k)) (g 18 a))) 23 (fho (f 2) (f 3) (g 12) (g 19 a) (fun k => g 20 (400 * a + k)) (g 18 a))) 24 (fti (f 2) (f 3) (g 12) (g 19 a) (fun k => g 20 (400 * a + k)) (g 18 a)))) rfl ?_
      refine g_aload_n C dX3_along_32 rfl 0 rfl ?_
      refine gm_get22 C dX3_along_33 ?_
      refine g_iload_n C dX3_along_36 rfl 2 rfl ?_
      refine gm_ald22 C (v := (fgo (f 8) (g 14) (g 15) (g 16) (f 2) (f 3) (g 12) (g 19 a) (fun k => g 20 (400 * a + k)) (g 18 a)) b) rfl dX3_along_37 (by omega) ?_
      exact g_iret C dX3_along_38 rfl (Nat.le_of_ble_eq_true rfl) (Nat.le_of_ble_eq_true rfl) ⟨_, rfl, _, _, (Or.inr (⟨by omega, rfl, rfl, rfl⟩)), rfl⟩
    ·
      have hc18_4b : ¬ (0 ≤ b ∧ b < f 8) := of_decide_eq_false (bI_0.mp (by omega))
      refine g_aload_n C dX3_along_21 rfl 0 rfl ?_
      refine g_iconst C dX3_along_22 ?_
      refine kX3_X3_fail 1 C  ⟨Nat.le_of_ble_eq_true rfl, Nat.le_of_ble_eq_true rfl⟩ (Nat.le_of_ble_eq_true rfl) ⟨Nat.le_of_ble_eq_true rfl, Nat.le_of_ble_eq_true rfl⟩ dX3_along_23 ?_
      refine g_ws (ws' := mW D h (up f 1 1) g) rfl ?_
      exact g_iret C dX3_along_26 rfl (Nat.le_of_ble_eq_true rfl) (Nat.le_of_ble_eq_true rfl) ⟨_, rfl, _, _, (Or.inl ⟨by omega, rfl, rfl, rfl⟩), rfl⟩

set_option maxHeartbeats 4000000 in
set_option maxRecDepth 100000 in
theorem c_X3_holes (l : Launch) (D : va_G) (hst : l.stackTraces = false) (h : Nat → Nat) (f : Nat → Int) (g : Nat → Int → Int) (a b c_ : Int) (hF : 1 ≤ f 2 ∧ f 2 ≤ 5) (hS : 2 ≤ f 3 ∧ f 3 ≤ 6) (hkd : ∀ j, 0 ≤ j → j < 6 → 0 ≤ g 12 j ∧ g 12 j ≤ 3) (hth : ∀ j, 0 ≤ j → j < 5 → 1 ≤ g 10 j ∧ g 10 j ≤ 50) (hht : ∀ j, 0 ≤ j → j < 6 → 0 ≤ g 11 j ∧ g 11 j ≤ 400) (hnp : 0 ≤ f 8 ∧ f 8 ≤ 55) (hpt : ∀ j, 0 ≤ j → j < f 8 → (0 ≤ g 14 j ∧ g 14 j ≤ 4) ∧ (0 ≤ g 15 j ∧ g 15 j ≤ 5) ∧ (0 ≤ g 16 j ∧ g 16 j ≤ 2) ∧ (0 ≤ g 17 j ∧ g 17 j ≤ 1)) (hpl : 0 ≤ f 7 ∧ f 7 ≤ 8) (hPLs : ∀ q, 0 ≤ q → q < f 7 → PLok (f 2) (f 3) (g 12) (g 19 q) (g 18 q) (fun k => g 20 (400 * q + k))) (har : -2147483648 ≤ a ∧ a < 2147483648) (hbr : -2147483648 ≤ b ∧ b < 2147483648) (hc_r : -2147483648 ≤ c_ ∧ c_ < 2147483648) : CT l D yX3_holes (ws_ yX3_holes cX3_holes 4 (some .int)) (rmD 4 0 0) (0) (0) va_A [.ref (h 36), .int (iI a), .int (iI b), .int (iI c_)] (mW D h f g) exT (pI fun z w => ∃ f' g', sm_holes f g a b c_ z f' g' ∧ w = mW D h f' g') xN := by
  refine ct_U (lv := [(0, .ref (h 36)), (1, .int (iI a)), (2, .int (iI b)), (3, .int (iI c_))]) RX3 (by decide) rfl rfl hst (Nat.le_of_ble_eq_true rfl) rfl ?_
  intro p e s mm args below meth c A C htab hex hnm
  refine g_aload_n C dX3_holes_0 rfl 0 rfl ?_
  refine g_iconst C dX3_holes_1 ?_
  refine gm_put1 C (f' := (up f 1 0)) rfl dX3_holes_2 ?_
  refine g_aload_n C dX3_holes_5 rfl 0 rfl ?_
  refine g_iload_n C dX3_holes_6 rfl 1 rfl ?_
  refine kX3_X3_isPlan a C hpl (by omega) ⟨Nat.le_of_ble_eq_true rfl, Nat.le_of_ble_eq_true rfl⟩ (Nat.le_of_ble_eq_true rfl) ⟨Nat.le_of_ble_eq_true rfl, Nat.le_of_ble_eq_true rfl⟩ (rv := bI (decide (0 ≤ a ∧ a < f 7))) rfl dX3_holes_7 ?_
  have hbb1 : 0 ≤ bI (decide (0 ≤ a ∧ a < f 7)) ∧ bI (decide (0 ≤ a ∧ a < f 7)) ≤ 1 := bI_rg _
  refine g_if_eq C (tgt := 29) dX3_holes_10 (by decide) (by omega) (fun hc10_2 => ?_) (fun hc10_2 => ?_)
  ·
    have hc10_2b : ¬ (0 ≤ a ∧ a < f 7) := of_decide_eq_false (bI_0.mp (by omega))
    refine g_aload_n C dX3_holes_29 rfl 0 rfl ?_
    refine g_iconst C dX3_holes_30 ?_
    refine kX3_X3_fail 1 C  ⟨Nat.le_of_ble_eq_true rfl, Nat.le_of_ble_eq_true rfl⟩ (Nat.le_of_ble_eq_true rfl) ⟨Nat.le_of_ble_eq_true rfl, Nat.le_of_ble_eq_true rfl⟩ dX3_holes_31 ?_
    refine g_ws (ws' := mW D h (up f 1 1) g) rfl ?_
    exact g_iret C dX3_holes_34 rfl (Nat.le_of_ble_eq_true rfl) (Nat.le_of_ble_eq_true rfl) ⟨_, rfl, _, _, (Or.inl ⟨by omega, rfl, rfl, rfl⟩), rfl⟩
  ·
    have hc10_2b : 0 ≤ a ∧ a < f 7 := of_decide_eq_true (bI_1.mp (by omega))
    refine g_aload_n C dX3_holes_13 rfl 0 rfl ?_
    refine g_iload_n C dX3_holes_14 rfl 2 rfl ?_
    refine kX3_X3_isFold b C hF (by omega) ⟨Nat.le_of_ble_eq_true rfl, Nat.le_of_ble_eq_true rfl⟩ (Nat.le_of_ble_eq_true rfl) ⟨Nat.le_of_ble_eq_true rfl, Nat.le_of_ble_eq_true rfl⟩ (rv := bI (decide (0 ≤ b ∧ b < f 2))) rfl dX3_holes_15 ?_
    have hbb3 : 0 ≤ bI (decide (0 ≤ b ∧ b < f 2)) ∧ bI (decide (0 ≤ b ∧ b < f 2)) ≤ 1 := bI_rg _
    refine g_if_eq C (tgt := 29) dX3_holes_18 (by decide) (by omega) (fun hc18_4 => ?_) (fun hc18_4 => ?_)
    ·
      have hc18_4b : ¬ (0 ≤ b ∧ b < f 2) := of_decide_eq_false (bI_0.mp (by omega))
      refine g_aload_n C dX3_holes_29 rfl 0 rfl ?_
      refine g_iconst C dX3_holes_30 ?_
      refine kX3_X3_fail 1 C  ⟨Nat.le_of_ble_eq_true rfl, Nat.le_of_ble_eq_true rfl⟩ (Nat.le_of_ble_eq_true rfl) ⟨Nat.le_of_ble_eq_true rfl, Nat.le_of_ble_eq_true rfl⟩ dX3_holes_31 ?_
      refine g_ws (ws' := mW D h (up f 1 1) g) rfl ?_
      exact g_iret C dX3_holes_34 rfl (Nat.le_of_ble_eq_true rfl) (Nat.le_of_ble_eq_true rfl) ⟨_, rfl, _, _, (Or.inl ⟨by omega, rfl, rfl, rfl⟩), rfl⟩
    ·
      have hc18_4b : 0 ≤ b ∧ b < f 2 := of_decide_eq_true (bI_1.mp (by omega))
      refine g_aload_n C dX3_holes_21 rfl 0 rfl ?_
      refine g_iload_n C dX3_holes_22 rfl 3 rfl ?_
      refine kX3_X3_isStation c_ C hS (by omega) ⟨Nat.le_of_ble_eq_true rfl, Nat.le_of_ble_eq_true rfl⟩ (Nat.le_of_ble_eq_true rfl) ⟨Nat.le_of_ble_eq_true rfl, Nat.le_of_ble_eq_true rfl⟩ (rv := bI (decide (0 ≤ c_ ∧ c_ < f 3))) rfl dX3_holes_23 ?_
      have hbb5 : 0 ≤ bI (decide (0 ≤ c_ ∧ c_ < f 3)) ∧ bI (decide (0 ≤ c_ ∧ c_ < f 3)) ≤ 1 := bI_rg _
      refine g_if_ne C (tgt := 35) dX3_holes_26 (by decide) (by omega) (fun hc26_6 => ?_) (fun hc26_6 => ?_)
      ·
        have hc26_6b : 0 ≤ c_ ∧ c_ < f 3 := of_decide_eq_true (bI_1.mp (by omega))
        refine g_aload_n C dX3_holes_35 rfl 0 rfl ?_
        refine g_iload_n C dX3_holes_36 rfl 1 rfl ?_
        refine kX3_X3_follow a C hF hS hkd hth hht hnp hpt (by omega) (hPLs a (by omega) (by omega)) ⟨Nat.le_of_ble_eq_true rfl, Nat.le_of_ble_eq_true rfl⟩ (Nat.le_of_ble_eq_true rfl) ⟨Nat.le_of_ble_eq_true rfl, Nat.le_of_ble_eq_true rfl⟩ dX3_holes_37 ?_
        refine g_ws (ws' := mW D h (up (up (up f 1 0) 25 (fle (g 11) (g 10) (f 2) (f 3) (g 12) (g 19 a) (fun k => g 20 (400 * a + k)) (g 18 a))) 26 (plc (f 2) (f 3) (g 12) (g 19 a) (fun k => g 20 (400 * a + k)) (g 18 a))) (ug (ug (ug g 22 (fgo (f 8) (g 14) (g 15) (g 16) (f 2) (f 3) (g 12) (g 19 a) (fun k => g 20 (400 * a + k)) (g 18 a))) 23 (fho (f 2) (f 3) (g 12) (g 19 a) (fun k => g 20 (400 * a + k)) (g 18 a))) 24 (fti (f 2) (f 3) (g 12) (g 19 a) (fun k => g 20 (400 * a + k)) (g 18 a)))) rfl ?_
        refine g_aload_n C dX3_holes_40 rfl 0 rfl ?_
        refine gm_get23 C dX3_holes_41 ?_
        refine g_bipush C dX3_holes_44 (z := 6) rfl ?_
        refine g_iload_n C dX3_holes_46 rfl 2 rfl ?_
        refine g_imul C dX3_holes_47 ?_
        refine g_iload_n C dX3_holes_48 rfl 3 rfl ?_
        refine g_iadd C dX3_holes_49 ?_
        refine gm_ald23 C (v := (fho (f 2) (f 3) (g 12) (g 19 a) (fun k => g 20 (400 * a + k)) (g 18 a)) ((6 * b) + c_)) rfl dX3_holes_50 (by omega) ?_
        exact g_iret C dX3_holes_51 rfl (Nat.le_of_ble_eq_true rfl) (Nat.le_of_ble_eq_true rfl) ⟨_, rfl, _, _, (Or.inr (⟨by omega, rfl, rfl, rfl⟩)), rfl⟩
      ·
        have hc26_6b : ¬ (0 ≤ c_ ∧ c_ < f 3) := of_decide_eq_false (bI_0.mp (by omega))
        refine g_aload_n C dX3_holes_29 rfl 0 rfl ?_
        refine g_iconst C dX3_holes_30 ?_
        refine kX3_X3_fail 1 C  ⟨Nat.le_of_ble_eq_true rfl, Nat.le_of_ble_eq_true rfl⟩ (Nat.le_of_ble_eq_true rfl) ⟨Nat.le_of_ble_eq_true rfl, Nat.le_of_ble_eq_true rfl⟩ dX3_holes_31 ?_
        refine g_ws (ws' := mW D h (up f 1 1) g) rfl ?_
        exact g_iret C dX3_holes_34 rfl (Nat.le_of_ble_eq_true rfl) (Nat.le_of_ble_eq_true rfl) ⟨_, rfl, _, _, (Or.inl ⟨by omega, rfl, rfl, rfl⟩), rfl⟩

set_option maxHeartbeats 4000000 in
set_option maxRecDepth 100000 in
theorem c_X3_tied (l : Launch) (D : va_G) (hst : l.stackTraces = false) (h : Nat → Nat) (f : Nat → Int) (g : Nat → Int → Int) (a b : Int) (hF : 1 ≤ f 2 ∧ f 2 ≤ 5) (hS : 2 ≤ f 3 ∧ f 3 ≤ 6) (hkd : ∀ j, 0 ≤ j → j < 6 → 0 ≤ g 12 j ∧ g 12 j ≤ 3) (hth : ∀ j, 0 ≤ j → j < 5 → 1 ≤ g 10 j ∧ g 10 j ≤ 50) (hht : ∀ j, 0 ≤ j → j < 6 → 0 ≤ g 11 j ∧ g 11 j ≤ 400) (hnp : 0 ≤ f 8 ∧ f 8 ≤ 55) (hpt : ∀ j, 0 ≤ j → j < f 8 → (0 ≤ g 14 j ∧ g 14 j ≤ 4) ∧ (0 ≤ g 15 j ∧ g 15 j ≤ 5) ∧ (0 ≤ g 16 j ∧ g 16 j ≤ 2) ∧ (0 ≤ g 17 j ∧ g 17 j ≤ 1)) (hpl : 0 ≤ f 7 ∧ f 7 ≤ 8) (hPLs : ∀ q, 0 ≤ q → q < f 7 → PLok (f 2) (f 3) (g 12) (g 19 q) (g 18 q) (fun k => g 20 (400 * q + k))) (har : -2147483648 ≤ a ∧ a < 2147483648) (hbr : -2147483648 ≤ b ∧ b < 2147483648) : CT l D yX3_tied (ws_ yX3_tied cX3_tied 3 (some .int)) (rmD 4 0 0) (0) (0) va_A [.ref (h 36), .int (iI a), .int (iI b)] (mW D h f g) exT (pI fun z w => ∃ f' g', sm_tied f g a b z f' g' ∧ w = mW D h f' g') xN := by
  refine ct_U (lv := [(0, .ref (h 36)), (1, .int (iI a)), (2, .int (iI b))]) RX3 (by decide) rfl rfl hst (Nat.le_of_ble_eq_true rfl) rfl ?_
  intro p e s mm args below meth c A C htab hex hnm
  refine g_aload_n C dX3_tied_0 rfl 0 rfl ?_
  refine g_iconst C dX3_tied_1 ?_
  refine gm_put1 C (f' := (up f 1 0)) rfl dX3_tied_2 ?_
  refine g_aload_n C dX3_tied_5 rfl 0 rfl ?_
  refine g_iload_n C dX3_tied_6 rfl 1 rfl ?_
  refine kX3_X3_isPlan a C hpl (by omega) ⟨Nat.le_of_ble_eq_true rfl, Nat.le_of_ble_eq_true rfl⟩ (Nat.le_of_ble_eq_true rfl) ⟨Nat.le_of_ble_eq_true rfl, Nat.le_of_ble_eq_true rfl⟩ (rv := bI (decide (0 ≤ a ∧ a < f 7))) rfl dX3_tied_7 ?_
  have hbb1 : 0 ≤ bI (decide (0 ≤ a ∧ a < f 7)) ∧ bI (decide (0 ≤ a ∧ a < f 7)) ≤ 1 := bI_rg _
  refine g_if_eq C (tgt := 27) dX3_tied_10 (by decide) (by omega) (fun hc10_2 => ?_) (fun hc10_2 => ?_)
  ·
    have hc10_2b : ¬ (0 ≤ a ∧ a < f 7) := of_decide_eq_false (bI_0.mp (by omega))
    refine g_aload_n C dX3_tied_27 rfl 0 rfl ?_
    refine g_iconst C dX3_tied_28 ?_
    refine kX3_X3_fail 1 C  ⟨Nat.le_of_ble_eq_true rfl, Nat.le_of_ble_eq_true rfl⟩ (Nat.le_of_ble_eq_true rfl) ⟨Nat.le_of_ble_eq_true rfl, Nat.le_of_ble_eq_true rfl⟩ dX3_tied_29 ?_
    refine g_ws (ws' := mW D h (up f 1 1) g) rfl ?_
    exact g_iret C dX3_tied_32 rfl (Nat.le_of_ble_eq_true rfl) (Nat.le_of_ble_eq_true rfl) ⟨_, rfl, _, _, (Or.inl ⟨by omega, rfl, rfl, rfl⟩), rfl⟩
  ·
    have hc10_2b : 0 ≤ a ∧ a < f 7 := of_decide_eq_true (bI_1.mp (by omega))
    refine g_iload_n C dX3_tied_13 rfl 2 rfl ?_
    refine g_if_lt C (tgt := 27) dX3_tied_14 (by decide) (by omega) (fun hc14_3 => ?_) (fun hc14_3 => ?_)
    ·
      refine g_aload_n C dX3_tied_27 rfl 0 rfl ?_
      refine g_iconst C dX3_tied_28 ?_
      refine kX3_X3_fail 1 C  ⟨Nat.le_of_ble_eq_true rfl, Nat.le_of_ble_eq_true rfl⟩ (Nat.le_of_ble_eq_true rfl) ⟨Nat.le_of_ble_eq_true rfl, Nat.le_of_ble_eq_true rfl⟩ dX3_tied_29 ?_
      refine g_ws (ws' := mW D h (up f 1 1) g) rfl ?_
      exact g_iret C dX3_tied_32 rfl (Nat.le_of_ble_eq_true rfl) (Nat.le_of_ble_eq_true rfl) ⟨_, rfl, _, _, (Or.inl ⟨by omega, rfl, rfl, rfl⟩), rfl⟩
    ·
      refine g_iload_n C dX3_tied_17 rfl 2 rfl ?_
      refine g_aload_n C dX3_tied_18 rfl 0 rfl ?_
      refine gm_get2 C (v := f 2) rfl dX3_tied_19 ?_
      refine g_iconst C dX3_tied_22 ?_
      refine g_isub C dX3_tied_23 ?_
      refine g_icmp_lt C (tgt := 33) dX3_tied_24 (by decide) (by omega) (by omega) (fun hc24_4 => ?_) (fun hc24_4 => ?_)
      ·
        refine g_aload_n C dX3_tied_33 rfl 0 rfl ?_
        refine g_iload_n C dX3_tied_34 rfl 1 rfl ?_
        refine kX3_X3_follow a C hF hS hkd hth hht hnp hpt (by omega) (hPLs a (by omega) (by omega)) ⟨Nat.le_of_ble_eq_true rfl, Nat.le_of_ble_eq_true rfl⟩ (Nat.le_of_ble_eq_true rfl) ⟨Nat.le_of_ble_eq_true rfl, Nat.le_of_ble_eq_true rfl⟩ dX3_tied_35 ?_
        refine g_ws (ws' := mW D h (up (up (up f 1 0) 25 (fle (g 11) (g 10) (f 2) (f 3) (g 12) (g 19 a) (fun k => g 20 (400 * a + k)) (g 18 a))) 26 (plc (f 2) (f 3) (g 12) (g 19 a) (fun k => g 20 (400 * a + k)) (g 18 a))) (ug (ug (ug g 22 (fgo (f 8) (g 14) (g 15) (g 16) (f 2) (f 3) (g 12) (g 19 a) (fun k => g 20 (400 * a + k)) (g 18 a))) 23 (fho (f 2) (f 3) (g 12) (g 19 a) (fun k => g 20 (400 * a + k)) (g 18 a))) 24 (fti (f 2) (f 3) (g 12) (g 19 a) (fun k => g 20 (400 * a + k)) (g 18 a)))) rfl ?_
        refine g_aload_n C dX3_tied_38 rfl 0 rfl ?_
        refine gm_get24 C dX3_tied_39 ?_
        refine g_iload_n C dX3_tied_42 rfl 2 rfl ?_
        refine gm_ald24 C (v := (fti (f 2) (f 3) (g 12) (g 19 a) (fun k => g 20 (400 * a + k)) (g 18 a)) b) rfl dX3_tied_43 (by omega) ?_
        exact g_iret C dX3_tied_44 rfl (Nat.le_of_ble_eq_true rfl) (Nat.le_of_ble_eq_true rfl) ⟨_, rfl, _, _, (Or.inr (⟨by omega, rfl, rfl, rfl⟩)), rfl⟩
      ·
        refine g_aload_n C dX3_tied_27 rfl 0 rfl ?_
        refine g_iconst C dX3_tied_28 ?_
        refine kX3_X3_fail 1 C  ⟨Nat.le_of_ble_eq_true rfl, Nat.le_of_ble_eq_true rfl⟩ (Nat.le_of_ble_eq_true rfl) ⟨Nat.le_of_ble_eq_true rfl, Nat.le_of_ble_eq_true rfl⟩ dX3_tied_29 ?_
        refine g_ws (ws' := mW D h (up f 1 1) g) rfl ?_
        exact g_iret C dX3_tied_32 rfl (Nat.le_of_ble_eq_true rfl) (Nat.le_of_ble_eq_true rfl) ⟨_, rfl, _, _, (Or.inl ⟨by omega, rfl, rfl, rfl⟩), rfl⟩

set_option maxHeartbeats 4000000 in
set_option maxRecDepth 100000 in
theorem c_X3_swells (l : Launch) (D : va_G) (hst : l.stackTraces = false) (h : Nat → Nat) (f : Nat → Int) (g : Nat → Int → Int) (a b : Int) (hF : 1 ≤ f 2 ∧ f 2 ≤ 5) (hS : 2 ≤ f 3 ∧ f 3 ≤ 6) (hkd : ∀ j, 0 ≤ j → j < 6 → 0 ≤ g 12 j ∧ g 12 j ≤ 3) (hth : ∀ j, 0 ≤ j → j < 5 → 1 ≤ g 10 j ∧ g 10 j ≤ 50) (hht : ∀ j, 0 ≤ j → j < 6 → 0 ≤ g 11 j ∧ g 11 j ≤ 400) (hnp : 0 ≤ f 8 ∧ f 8 ≤ 55) (hpt : ∀ j, 0 ≤ j → j < f 8 → (0 ≤ g 14 j ∧ g 14 j ≤ 4) ∧ (0 ≤ g 15 j ∧ g 15 j ≤ 5) ∧ (0 ≤ g 16 j ∧ g 16 j ≤ 2) ∧ (0 ≤ g 17 j ∧ g 17 j ≤ 1)) (hpl : 0 ≤ f 7 ∧ f 7 ≤ 8) (hPLs : ∀ q, 0 ≤ q → q < f 7 → PLok (f 2) (f 3) (g 12) (g 19 q) (g 18 q) (fun k => g 20 (400 * q + k))) (har : -2147483648 ≤ a ∧ a < 2147483648) (hbr : -2147483648 ≤ b ∧ b < 2147483648) : CT l D yX3_swells (ws_ yX3_swells cX3_swells 5 (some .int)) (rmD 4 0 0) (0) (0) va_A [.ref (h 36), .int (iI a), .int (iI b)] (mW D h f g) exT (pI fun z w => ∃ f' g', sm_swells f g a b z f' g' ∧ w = mW D h f' g') xN := by
  refine ct_U (lv := [(0, .ref (h 36)), (1, .int (iI a)), (2, .int (iI b))]) RX3 (by decide) rfl rfl hst (Nat.le_of_ble_eq_true rfl) rfl ?_
  intro p e s mm args below meth c A C htab hex hnm
  refine g_aload_n C dX3_swells_0 rfl 0 rfl ?_
  refine g_iconst C dX3_swells_1 ?_
  refine gm_put1 C (f' := (up f 1 0)) rfl dX3_swells_2 ?_
  refine g_aload_n C dX3_swells_5 rfl 0 rfl ?_
  refine g_iload_n C dX3_swells_6 rfl 1 rfl ?_
  refine kX3_X3_isPlan a C hpl (by omega) ⟨Nat.le_of_ble_eq_true rfl, Nat.le_of_ble_eq_true rfl⟩ (Nat.le_of_ble_eq_true rfl) ⟨Nat.le_of_ble_eq_true rfl, Nat.le_of_ble_eq_true rfl⟩ (rv := bI (decide (0 ≤ a ∧ a < f 7))) rfl dX3_swells_7 ?_
  have hbb1 : 0 ≤ bI (decide (0 ≤ a ∧ a < f 7)) ∧ bI (decide (0 ≤ a ∧ a < f 7)) ≤ 1 := bI_rg _
  refine g_if_eq C (tgt := 21) dX3_swells_10 (by decide) (by omega) (fun hc10_2 => ?_) (fun hc10_2 => ?_)
  ·
    have hc10_2b : ¬ (0 ≤ a ∧ a < f 7) := of_decide_eq_false (bI_0.mp (by omega))
    refine g_aload_n C dX3_swells_21 rfl 0 rfl ?_
    refine g_iconst C dX3_swells_22 ?_
    refine kX3_X3_fail 1 C  ⟨Nat.le_of_ble_eq_true rfl, Nat.le_of_ble_eq_true rfl⟩ (Nat.le_of_ble_eq_true rfl) ⟨Nat.le_of_ble_eq_true rfl, Nat.le_of_ble_eq_true rfl⟩ dX3_swells_23 ?_
    refine g_ws (ws' := mW D h (up f 1 1) g) rfl ?_
    exact g_iret C dX3_swells_26 rfl (Nat.le_of_ble_eq_true rfl) (Nat.le_of_ble_eq_true rfl) ⟨_, rfl, _, _, (Or.inl ⟨by omega, rfl, rfl, rfl⟩), rfl⟩
  ·
    have hc10_2b : 0 ≤ a ∧ a < f 7 := of_decide_eq_true (bI_1.mp (by omega))
    refine g_aload_n C dX3_swells_13 rfl 0 rfl ?_
    refine g_iload_n C dX3_swells_14 rfl 2 rfl ?_
    refine kX3_X3_isStation b C hS (by omega) ⟨Nat.le_of_ble_eq_true rfl, Nat.le_of_ble_eq_true rfl⟩ (Nat.le_of_ble_eq_true rfl) ⟨Nat.le_of_ble_eq_true rfl, Nat.le_of_ble_eq_true rfl⟩ (rv := bI (decide (0 ≤ b ∧ b < f 3))) rfl dX3_swells_15 ?_
    have hbb3 : 0 ≤ bI (decide (0 ≤ b ∧ b < f 3)) ∧ bI (decide (0 ≤ b ∧ b < f 3)) ≤ 1 := bI_rg _
    refine g_if_ne C (tgt := 27) dX3_swells_18 (by decide) (by omega) (fun hc18_4 => ?_) (fun hc18_4 => ?_)
    ·
      have hc18_4b : 0 ≤ b ∧ b < f 3 := of_decide_eq_true (bI_1.mp (by omega))
      refine g_aload_n C dX3_swells_27 rfl 0 rfl ?_
      refine g_iload_n C dX3_swells_28 rfl 1 rfl ?_
      refine kX3_X3_follow a C hF hS hkd hth hht hnp hpt (by omega) (hPLs a (by omega) (by omega)) ⟨Nat.le_of_ble_eq_true rfl, Nat.le_of_ble_eq_true rfl⟩ (Nat.le_of_ble_eq_true rfl) ⟨Nat.le_of_ble_eq_true rfl, Nat.le_of_ble_eq_true rfl⟩ dX3_swells_29 ?_
      refine g_ws (ws' := mW D h (up (up (up f 1 0) 25 (fle (g 11) (g 10) (f 2) (f 3) (g 12) (g 19 a) (fun k => g 20 (400 * a + k)) (g 18 a))) 26 (plc (f 2) (f 3) (g 12) (g 19 a) (fun k => g 20 (400 * a + k)) (g 18 a))) (ug (ug (ug g 22 (fgo (f 8) (g 14) (g 15) (g 16) (f 2) (f 3) (g 12) (g 19 a) (fun k => g 20 (400 * a + k)) (g 18 a))) 23 (fho (f 2) (f 3) (g 12) (g 19 a) (fun k => g 20 (400 * a + k)) (g 18 a))) 24 (fti (f 2) (f 3) (g 12) (g 19 a) (fun k => g 20 (400 * a + k)) (g 18 a)))) rfl ?_
      refine g_iconst C dX3_swells_32 ?_
      refine g_istore_n C dX3_swells_33 rfl (lv' := [(0, .ref (h 36)), (1, .int (iI a)), (2, .int (iI b)), (3, .int (iI 0))]) [1, 2, 3, 0] rfl (Nat.le_of_ble_eq_true rfl) ?_
      refine g_iconst C dX3_swells_34 ?_
      refine g_istore C dX3_swells_35 (lv' := [(0, .ref (h 36)), (1, .int (iI a)), (2, .int (iI b)), (3, .int (iI 0)), (4, .int (iI 0))]) [1, 2, 3, 4, 0] rfl (Nat.le_of_ble_eq_true rfl) ?_
      have L5 : ∀ (n : Nat) (k : Int) (v : Int), (0 ≤ k ∧ k ≤ f 2) → (v = fswS (g 10) k) → (f 2 - k).toNat < n → GO p l e (rmD 4 0 0) s mm args below meth c 5 D A A 0 0 (MX below D A (pI fun z w => ∃ f' g', sm_swells f g a b z f' g' ∧ w = mW D h f' g') xN args s (0) (0)) (mW D h (up (up (up f 1 0) 25 (fle (g 11) (g 10) (f 2) (f 3) (g 12) (g 19 a) (fun k => g 20 (400 * a + k)) (g 18 a))) 26 (plc (f 2) (f 3) (g 12) (g 19 a) (fun k => g 20 (400 * a + k)) (g 18 a))) (ug (ug (ug g 22 (fgo (f 8) (g 14) (g 15) (g 16) (f 2) (f 3) (g 12) (g 19 a) (fun k => g 20 (400 * a + k)) (g 18 a))) 23 (fho (f 2) (f 3) (g 12) (g 19 a) (fun k => g 20 (400 * a + k)) (g 18 a))) 24 (fti (f 2) (f 3) (g 12) (g 19 a) (fun k => g 20 (400 * a + k)) (g 18 a)))) 37 [(0, .ref (h 36)), (1, .int (iI a)), (2, .int (iI b)), (3, .int (iI v)), (4, .int (iI k))] [] := by
        intro n
        induction n with
        | zero => intro k v hk hv hm; exact absurd hm (Nat.not_lt_zero _)
        | succ n ih5 =>
          intro k v hk hv hm5
          refine g_iload C dX3_swells_37 4 rfl ?_
          refine g_aload_n C dX3_swells_39 rfl 0 rfl ?_
          refine gm_get2 C (v := f 2) rfl dX3_swells_40 ?_
          refine g_icmp_ge C (tgt := 62) dX3_swells_43 (by decide) (by omega) (by omega) (fun hc43_6 => ?_) (fun hc43_6 => ?_)
          ·
            refine g_iconst C dX3_swells_62 ?_
            refine g_istore C dX3_swells_63 (lv' := [(0, .ref (h 36)), (1, .int (iI a)), (2, .int (iI b)), (3, .int (iI v)), (4, .int (iI 0))]) [1, 2, 3, 4, 0] rfl (Nat.le_of_ble_eq_true rfl) ?_
            have L7 : ∀ (n : Nat) (k : Int) (v : Int), (0 ≤ k ∧ k ≤ f 8) → (v = fswS (g 10) (f 2) + fswP (f 4) b (g 15) (g 16) (fgo (f 8) (g 14) (g 15) (g 16) (f 2) (f 3) (g 12) (g 19 a) (fun k => g 20 (400 * a + k)) (g 18 a)) k) → (f 8 - k).toNat < n → GO p l e (rmD 4 0 0) s mm args below meth c 5 D A A 0 0 (MX below D A (pI fun z w => ∃ f' g', sm_swells f g a b z f' g' ∧ w = mW D h f' g') xN args s (0) (0)) (mW D h (up (up (up f 1 0) 25 (fle (g 11) (g 10) (f 2) (f 3) (g 12) (g 19 a) (fun k => g 20 (400 * a + k)) (g 18 a))) 26 (plc (f 2) (f 3) (g 12) (g 19 a) (fun k => g 20 (400 * a + k)) (g 18 a))) (ug (ug (ug g 22 (fgo (f 8) (g 14) (g 15) (g 16) (f 2) (f 3) (g 12) (g 19 a) (fun k => g 20 (400 * a + k)) (g 18 a))) 23 (fho (f 2) (f 3) (g 12) (g 19 a) (fun k => g 20 (400 * a + k)) (g 18 a))) 24 (fti (f 2) (f 3) (g 12) (g 19 a) (fun k => g 20 (400 * a + k)) (g 18 a)))) 65 [(0, .ref (h 36)), (1, .int (iI a)), (2, .int (iI b)), (3, .int (iI v)), (4, .int (iI k))] [] := by
              intro n
              induction n with
              | zero => intro k v hk hv hm; exact absurd hm (Nat.not_lt_zero _)
              | succ n ih7 =>
                intro k v hk hv hm7
                refine g_iload C dX3_swells_65 4 rfl ?_
                refine g_aload_n C dX3_swells_67 rfl 0 rfl ?_
                refine gm_get8 C (v := f 8) rfl dX3_swells_68 ?_
                refine g_icmp_ge C (tgt := 129) dX3_swells_71 (by decide) (by omega) (by omega) (fun hc71_8 => ?_) (fun hc71_8 => ?_)
                ·
                  refine g_iload_n C dX3_swells_129 rfl 3 rfl ?_
                  exact g_iret C dX3_swells_130 rfl (Nat.le_of_ble_eq_true rfl) (Nat.le_of_ble_eq_true rfl) ⟨_, rfl, _, _, (Or.inr (⟨by omega, (by rw [hv, show k = f 8 by omega]), rfl, rfl⟩)), rfl⟩
                ·
                  refine g_aload_n C dX3_swells_74 rfl 0 rfl ?_
                  refine gm_get16 C dX3_swells_75 ?_
                  refine g_iload C dX3_swells_78 4 rfl ?_
                  refine gm_ald16 C (v := (g 16) k) rfl dX3_swells_80 (by omega) ?_
                  have hf9 := hpt (k) (by omega) (by omega)
                  refine g_if_ne C (tgt := 123) dX3_swells_81 (by decide) (by omega) (fun hc81_10 => ?_) (fun hc81_10 => ?_)
                  ·
                    refine g_iinc C dX3_swells_123 4 rfl (lv' := [(0, .ref (h 36)), (1, .int (iI a)), (2, .int (iI b)), (3, .int (iI v)), (4, .int (iI (k + 1)))]) [1, 2, 3, 4, 0] rfl (Nat.le_of_ble_eq_true rfl) ?_
                    refine g_goto C (tgt := 65) dX3_swells_126 (by decide) ?_
                    exact ih7 (k + 1) v (by omega) (by rw [fswP_n hk.1 (by omega), hv]) (by omega)
                  ·
                    refine g_aload_n C dX3_swells_84 rfl 0 rfl ?_
                    refine gm_get15 C dX3_swells_85 ?_
                    refine g_iload C dX3_swells_88 4 rfl ?_
                    refine gm_ald15 C (v := (g 15) k) rfl dX3_swells_90 (by omega) ?_
                    have hf11 := hpt (k) (by omega) (by omega)
                    refine g_iload_n C dX3_swells_91 rfl 2 rfl ?_
                    refine g_icmp_eq C (tgt := 108) dX3_swells_92 (by decide) (by omega) (by omega) (fun hc92_12 => ?_) (fun hc92_12 => ?_)
                    ·
                      refine g_iload_n C dX3_swells_108 rfl 3 rfl ?_
                      refine g_aload_n C dX3_swells_109 rfl 0 rfl ?_
                      refine gm_get4 C (v := f 4) rfl dX3_swells_110 ?_
                      refine g_aload_n C dX3_swells_113 rfl 0 rfl ?_
                      refine gm_get22 C dX3_swells_114 ?_
                      refine g_iload C dX3_swells_117 4 rfl ?_
                      refine gm_ald22 C (v := (fgo (f 8) (g 14) (g 15) (g 16) (f 2) (f 3) (g 12) (g 19 a) (fun k => g 20 (400 * a + k)) (g 18 a)) k) rfl dX3_swells_119 (by omega) ?_
                      refine g_imul C dX3_swells_120 ?_
                      refine g_iadd C dX3_swells_121 ?_
                      refine g_istore_n C dX3_swells_122 rfl (lv' := [(0, .ref (h 36)), (1, .int (iI a)), (2, .int (iI b)), (3, .int (iI (v + ((f 4) * ((fgo (f 8) (g 14) (g 15) (g 16) (f 2) (f 3) (g 12) (g 19 a) (fun k => g 20 (400 * a + k)) (g 18 a)) k))))), (4, .int (iI k))]) [1, 2, 3, 0, 4] rfl (Nat.le_of_ble_eq_true rfl) ?_
                      refine g_iinc C dX3_swells_123 4 rfl (lv' := [(0, .ref (h 36)), (1, .int (iI a)), (2, .int (iI b)), (3, .int (iI (v + ((f 4) * ((fgo (f 8) (g 14) (g 15) (g 16) (f 2) (f 3) (g 12) (g 19 a) (fun k => g 20 (400 * a + k)) (g 18 a)) k))))), (4, .int (iI (k + 1)))]) [1, 2, 3, 4, 0] rfl (Nat.le_of_ble_eq_true rfl) ?_
                      refine g_goto C (tgt := 65) dX3_swells_126 (by decide) ?_
                      exact ih7 (k + 1) (v + ((f 4) * ((fgo (f 8) (g 14) (g 15) (g 16) (f 2) (f 3) (g 12) (g 19 a) (fun k => g 20 (400 * a + k)) (g 18 a)) k))) (by omega) (by rw [fswP_y hk.1 (by omega), hv, Int.add_assoc]) (by omega)
                    ·
                      refine g_aload_n C dX3_swells_95 rfl 0 rfl ?_
                      refine gm_get15 C dX3_swells_96 ?_
                      refine g_iload C dX3_swells_99 4 rfl ?_
                      refine gm_ald15 C (v := (g 15) k) rfl dX3_swells_101 (by omega) ?_
                      have hf13 := hpt (k) (by omega) (by omega)
                      refine g_iconst C dX3_swells_102 ?_
                      refine g_iadd C dX3_swells_103 ?_
                      refine g_iload_n C dX3_swells_104 rfl 2 rfl ?_
                      refine g_icmp_ne C (tgt := 123) dX3_swells_105 (by decide) (by omega) (by omega) (fun hc105_14 => ?_) (fun hc105_14 => ?_)
                      ·
                        refine g_iinc C dX3_swells_123 4 rfl (lv' := [(0, .ref (h 36)), (1, .int (iI a)), (2, .int (iI b)), (3, .int (iI v)), (4, .int (iI (k + 1)))]) [1, 2, 3, 4, 0] rfl (Nat.le_of_ble_eq_true rfl) ?_
                        refine g_goto C (tgt := 65) dX3_swells_126 (by decide) ?_
                        exact ih7 (k + 1) v (by omega) (by rw [fswP_n hk.1 (by omega), hv]) (by omega)
                      ·
                        refine g_iload_n C dX3_swells_108 rfl 3 rfl ?_
                        refine g_aload_n C dX3_swells_109 rfl 0 rfl ?_
                        refine gm_get4 C (v := f 4) rfl dX3_swells_110 ?_
                        refine g_aload_n C dX3_swells_113 rfl 0 rfl ?_
                        refine gm_get22 C dX3_swells_114 ?_
                        refine g_iload C dX3_swells_117 4 rfl ?_
                        refine gm_ald22 C (v := (fgo (f 8) (g 14) (g 15) (g 16) (f 2) (f 3) (g 12) (g 19 a) (fun k => g 20 (400 * a + k)) (g 18 a)) k) rfl dX3_swells_119 (by omega) ?_
                        refine g_imul C dX3_swells_120 ?_
                        refine g_iadd C dX3_swells_121 ?_
                        refine g_istore_n C dX3_swells_122 rfl (lv' := [(0, .ref (h 36)), (1, .int (iI a)), (2, .int (iI b)), (3, .int (iI (v + ((f 4) * ((fgo (f 8) (g 14) (g 15) (g 16) (f 2) (f 3) (g 12) (g 19 a) (fun k => g 20 (400 * a + k)) (g 18 a)) k))))), (4, .int (iI k))]) [1, 2, 3, 0, 4] rfl (Nat.le_of_ble_eq_true rfl) ?_
                        refine g_iinc C dX3_swells_123 4 rfl (lv' := [(0, .ref (h 36)), (1, .int (iI a)), (2, .int (iI b)), (3, .int (iI (v + ((f 4) * ((fgo (f 8) (g 14) (g 15) (g 16) (f 2) (f 3) (g 12) (g 19 a) (fun k => g 20 (400 * a + k)) (g 18 a)) k))))), (4, .int (iI (k + 1)))]) [1, 2, 3, 4, 0] rfl (Nat.le_of_ble_eq_true rfl) ?_
                        refine g_goto C (tgt := 65) dX3_swells_126 (by decide) ?_
                        exact ih7 (k + 1) (v + ((f 4) * ((fgo (f 8) (g 14) (g 15) (g 16) (f 2) (f 3) (g 12) (g 19 a) (fun k => g 20 (400 * a + k)) (g 18 a)) k))) (by omega) (by rw [fswP_y hk.1 (by omega), hv, Int.add_assoc]) (by omega)
            exact L7 _ 0 v (by omega) (by rw [hv, show k = f 2 by omega]; show _ = _ + sumN _ 0; exact (Int.add_zero _).symm) (Nat.lt_succ_self _)
          ·
            refine g_iload_n C dX3_swells_46 rfl 3 rfl ?_
            refine g_aload_n C dX3_swells_47 rfl 0 rfl ?_
            refine gm_get10 C dX3_swells_48 ?_
            refine g_iload C dX3_swells_51 4 rfl ?_
            refine gm_ald10 C (v := (g 10) k) rfl dX3_swells_53 (by omega) ?_
            have hf15 := hth (k) (by omega) (by omega)
            refine g_iadd C dX3_swells_54 ?_
            refine g_istore_n C dX3_swells_55 rfl (lv' := [(0, .ref (h 36)), (1, .int (iI a)), (2, .int (iI b)), (3, .int (iI (v + ((g 10) k)))), (4, .int (iI k))]) [1, 2, 3, 0, 4] rfl (Nat.le_of_ble_eq_true rfl) ?_
            refine g_iinc C dX3_swells_56 4 rfl (lv' := [(0, .ref (h 36)), (1, .int (iI a)), (2, .int (iI b)), (3, .int (iI (v + ((g 10) k)))), (4, .int (iI (k + 1)))]) [1, 2, 3, 4, 0] rfl (Nat.le_of_ble_eq_true rfl) ?_
            refine g_goto C (tgt := 37) dX3_swells_59 (by decide) ?_
            exact ih5 (k + 1) (v + ((g 10) k)) (by omega) (by rw [fswS_s hk.1, hv]) (by omega)
      exact L5 _ 0 0 (by omega) rfl (Nat.lt_succ_self _)
    ·
      have hc18_4b : ¬ (0 ≤ b ∧ b < f 3) := of_decide_eq_false (bI_0.mp (by omega))
      refine g_aload_n C dX3_swells_21 rfl 0 rfl ?_
      refine g_iconst C dX3_swells_22 ?_
      refine kX3_X3_fail 1 C  ⟨Nat.le_of_ble_eq_true rfl, Nat.le_of_ble_eq_true rfl⟩ (Nat.le_of_ble_eq_true rfl) ⟨Nat.le_of_ble_eq_true rfl, Nat.le_of_ble_eq_true rfl⟩ dX3_swells_23 ?_
      refine g_ws (ws' := mW D h (up f 1 1) g) rfl ?_
      exact g_iret C dX3_swells_26 rfl (Nat.le_of_ble_eq_true rfl) (Nat.le_of_ble_eq_true rfl) ⟨_, rfl, _, _, (Or.inl ⟨by omega, rfl, rfl, rfl⟩), rfl⟩

set_option maxHeartbeats 4000000 in
set_option maxRecDepth 100000 in
theorem c_X3_about (l : Launch) (D : va_G) (hst : l.stackTraces = false) (h : Nat → Nat) (f : Nat → Int) (g : Nat → Int → Int) (a v : Int) (hF : 1 ≤ f 2 ∧ f 2 ≤ 5) (hS : 2 ≤ f 3 ∧ f 3 ≤ 6) (hkd : ∀ j, 0 ≤ j → j < 6 → 0 ≤ g 12 j ∧ g 12 j ≤ 3) (hth : ∀ j, 0 ≤ j → j < 5 → 1 ≤ g 10 j ∧ g 10 j ≤ 50) (hht : ∀ j, 0 ≤ j → j < 6 → 0 ≤ g 11 j ∧ g 11 j ≤ 400) (hnp : 0 ≤ f 8 ∧ f 8 ≤ 55) (hpt : ∀ j, 0 ≤ j → j < f 8 → (0 ≤ g 14 j ∧ g 14 j ≤ 4) ∧ (0 ≤ g 15 j ∧ g 15 j ≤ 5) ∧ (0 ≤ g 16 j ∧ g 16 j ≤ 2) ∧ (0 ≤ g 17 j ∧ g 17 j ≤ 1)) (hpl : 0 ≤ f 7 ∧ f 7 ≤ 8) (hPLs : ∀ q, 0 ≤ q → q < f 7 → PLok (f 2) (f 3) (g 12) (g 19 q) (g 18 q) (fun k => g 20 (400 * q + k))) (har : -2147483648 ≤ a ∧ a < 2147483648) (hvr : -2147483648 ≤ v ∧ v < 2147483648) : CT l D yX3_about (ws_ yX3_about cX3_about 6 (some .int)) (rmD 4 0 0) (0) (0) va_A [.ref (h 36), .int (iI a), .int (iI v)] (mW D h f g) exT (pI fun z w => ∃ f' g', sm_about f g a v z f' g' ∧ w = mW D h f' g') xN := by
  refine ct_U (lv := [(0, .ref (h 36)), (1, .int (iI a)), (2, .int (iI v))]) RX3 (by decide) rfl rfl hst (Nat.le_of_ble_eq_true rfl) rfl ?_
  intro p e s mm args below meth c A C htab hex hnm
  refine g_aload_n C dX3_about_0 rfl 0 rfl ?_
  refine g_iconst C dX3_about_1 ?_
  refine gm_put1 C (f' := (up f 1 0)) rfl dX3_about_2 ?_
  refine g_aload_n C dX3_about_5 rfl 0 rfl ?_
  refine g_iload_n C dX3_about_6 rfl 1 rfl ?_
  refine kX3_X3_isPlan a C hpl (by omega) ⟨Nat.le_of_ble_eq_true rfl, Nat.le_of_ble_eq_true rfl⟩ (Nat.le_of_ble_eq_true rfl) ⟨Nat.le_of_ble_eq_true rfl, Nat.le_of_ble_eq_true rfl⟩ (rv := bI (decide (0 ≤ a ∧ a < f 7))) rfl dX3_about_7 ?_
  have hbb1 : 0 ≤ bI (decide (0 ≤ a ∧ a < f 7)) ∧ bI (decide (0 ≤ a ∧ a < f 7)) ≤ 1 := bI_rg _
  refine g_if_ne C (tgt := 19) dX3_about_10 (by decide) (by omega) (fun hc10_2 => ?_) (fun hc10_2 => ?_)
  ·
    have hc10_2b : 0 ≤ a ∧ a < f 7 := of_decide_eq_true (bI_1.mp (by omega))
    refine g_aload_n C dX3_about_19 rfl 0 rfl ?_
    refine g_iload_n C dX3_about_20 rfl 1 rfl ?_
    refine kX3_X3_follow a C hF hS hkd hth hht hnp hpt (by omega) (hPLs a (by omega) (by omega)) ⟨Nat.le_of_ble_eq_true rfl, Nat.le_of_ble_eq_true rfl⟩ (Nat.le_of_ble_eq_true rfl) ⟨Nat.le_of_ble_eq_true rfl, Nat.le_of_ble_eq_true rfl⟩ dX3_about_21 ?_
    refine g_ws (ws' := mW D h (up (up (up f 1 0) 25 (fle (g 11) (g 10) (f 2) (f 3) (g 12) (g 19 a) (fun k => g 20 (400 * a + k)) (g 18 a))) 26 (plc (f 2) (f 3) (g 12) (g 19 a) (fun k => g 20 (400 * a + k)) (g 18 a))) (ug (ug (ug g 22 (fgo (f 8) (g 14) (g 15) (g 16) (f 2) (f 3) (g 12) (g 19 a) (fun k => g 20 (400 * a + k)) (g 18 a))) 23 (fho (f 2) (f 3) (g 12) (g 19 a) (fun k => g 20 (400 * a + k)) (g 18 a))) 24 (fti (f 2) (f 3) (g 12) (g 19 a) (fun k => g 20 (400 * a + k)) (g 18 a)))) rfl ?_
    have hPLa := hPLs a (by omega) (by omega)
    have hpin := hPLa.at hF hS hPLa.2.1.1 (Int.le_refl _)
    have hpn := hPLa.2.1
    have hb0 := hPLa.1
    unfold PIn at hpin hb0
    have J3 : ∀ (cl : Int), (cl = bP (plc (f 2) (f 3) (g 12) (g 19 a) (fun k => g 20 (400 * a + k)) (g 18 a) = g 19 a)) → GO p l e (rmD 4 0 0) s mm args below meth c 6 D A A 0 0 (MX below D A (pI fun z w => ∃ f' g', sm_about f g a v z f' g' ∧ w = mW D h f' g') xN args s (0) (0)) (mW D h (up (up (up f 1 0) 25 (fle (g 11) (g 10) (f 2) (f 3) (g 12) (g 19 a) (fun k => g 20 (400 * a + k)) (g 18 a))) 26 (plc (f 2) (f 3) (g 12) (g 19 a) (fun k => g 20 (400 * a + k)) (g 18 a))) (ug (ug (ug g 22 (fgo (f 8) (g 14) (g 15) (g 16) (f 2) (f 3) (g 12) (g 19 a) (fun k => g 20 (400 * a + k)) (g 18 a))) 23 (fho (f 2) (f 3) (g 12) (g 19 a) (fun k => g 20 (400 * a + k)) (g 18 a))) 24 (fti (f 2) (f 3) (g 12) (g 19 a) (fun k => g 20 (400 * a + k)) (g 18 a)))) 42 [(0, .ref (h 36)), (1, .int (iI a)), (2, .int (iI v))] [.int (iI cl)] := by
      intro cl hcl
      have hclb : 0 ≤ cl ∧ cl ≤ 1 := by rw [hcl]; exact bP_rg _
      refine g_istore_n C dX3_about_42 rfl (lv' := [(0, .ref (h 36)), (1, .int (iI a)), (2, .int (iI v)), (3, .int (iI cl))]) [1, 2, 3, 0] rfl (Nat.le_of_ble_eq_true rfl) ?_
      refine g_iconst C dX3_about_43 ?_
      refine g_istore C dX3_about_44 (lv' := [(0, .ref (h 36)), (1, .int (iI a)), (2, .int (iI v)), (3, .int (iI cl)), (4, .int (iI 1))]) [1, 2, 3, 4, 0] rfl (Nat.le_of_ble_eq_true rfl) ?_
      refine g_iconst C dX3_about_46 ?_
      refine g_istore C dX3_about_47 (lv' := [(0, .ref (h 36)), (1, .int (iI a)), (2, .int (iI v)), (3, .int (iI cl)), (4, .int (iI 1)), (5, .int (iI 0))]) [1, 2, 3, 4, 5, 0] rfl (Nat.le_of_ble_eq_true rfl) ?_
      have L4 : ∀ (n : Nat) (k : Int) (he : Int), (0 ≤ k ∧ k ≤ f 2 - 1) → (he = bP (∀ j, 0 ≤ j → j < k → 2 ≤ fti (f 2) (f 3) (g 12) (g 19 a) (fun k => g 20 (400 * a + k)) (g 18 a) j)) → (f 2 - k).toNat < n → GO p l e (rmD 4 0 0) s mm args below meth c 6 D A A 0 0 (MX below D A (pI fun z w => ∃ f' g', sm_about f g a v z f' g' ∧ w = mW D h f' g') xN args s (0) (0)) (mW D h (up (up (up f 1 0) 25 (fle (g 11) (g 10) (f 2) (f 3) (g 12) (g 19 a) (fun k => g 20 (400 * a + k)) (g 18 a))) 26 (plc (f 2) (f 3) (g 12) (g 19 a) (fun k => g 20 (400 * a + k)) (g 18 a))) (ug (ug (ug g 22 (fgo (f 8) (g 14) (g 15) (g 16) (f 2) (f 3) (g 12) (g 19 a) (fun k => g 20 (400 * a + k)) (g 18 a))) 23 (fho (f 2) (f 3) (g 12) (g 19 a) (fun k => g 20 (400 * a + k)) (g 18 a))) 24 (fti (f 2) (f 3) (g 12) (g 19 a) (fun k => g 20 (400 * a + k)) (g 18 a)))) 49 [(0, .ref (h 36)), (1, .int (iI a)), (2, .int (iI v)), (3, .int (iI cl)), (4, .int (iI he)), (5, .int (iI k))] [] := by
        intro n
        induction n with
        | zero => intro k he hk hhe hm; exact absurd hm (Nat.not_lt_zero _)
        | succ n ih4 =>
          intro k he hk hhe hm4
          have hhb : 0 ≤ he ∧ he ≤ 1 := by rw [hhe]; exact bP_rg _
          refine g_iload C dX3_about_49 5 rfl ?_
          refine g_iconst C dX3_about_51 ?_
          refine g_iadd C dX3_about_52 ?_
          refine g_aload_n C dX3_about_53 rfl 0 rfl ?_
          refine gm_get2 C (v := f 2) rfl dX3_about_54 ?_
          refine g_icmp_ge C (tgt := 89) dX3_about_57 (by decide) (by omega) (by omega) (fun hc57_5 => ?_) (fun hc57_5 => ?_)
          ·
            refine g_iload_n C dX3_about_89 rfl 2 rfl ?_
            rcases (show v = 0 ∨ v = 1 ∨ v = 2 ∨ v = 3 ∨ v = 4 ∨ v = 5 ∨ v = 6 ∨ v = 7 ∨ v = 8 ∨ (v < 0 ∨ 8 < v) by omega) with rfl | rfl | rfl | rfl | rfl | rfl | rfl | rfl | rfl | hwh
            ·
              refine g_table C (tgt := 140) dX3_about_90 (by omega) (by omega) rfl (by decide) ?_
              refine g_aload_n C dX3_about_140 rfl 0 rfl ?_
              refine gm_get25 C (v := fle (g 11) (g 10) (f 2) (f 3) (g 12) (g 19 a) (fun k => g 20 (400 * a + k)) (g 18 a)) rfl dX3_about_141 ?_
              exact g_iret C dX3_about_144 rfl (Nat.le_of_ble_eq_true rfl) (Nat.le_of_ble_eq_true rfl) ⟨_, rfl, _, _, (Or.inr (Or.inl ⟨by omega, rfl, rfl, rfl⟩)), rfl⟩
            ·
              refine g_table C (tgt := 145) dX3_about_90 (by omega) (by omega) rfl (by decide) ?_
              refine g_aload_n C dX3_about_145 rfl 0 rfl ?_
              refine gm_get18 C dX3_about_146 ?_
              refine g_iload_n C dX3_about_149 rfl 1 rfl ?_
              refine gm_ald18 C (v := (g 18) a) rfl dX3_about_150 (by omega) ?_
              exact g_iret C dX3_about_151 rfl (Nat.le_of_ble_eq_true rfl) (Nat.le_of_ble_eq_true rfl) ⟨_, rfl, _, _, (Or.inr (Or.inr (Or.inl ⟨by omega, rfl, rfl, rfl⟩))), rfl⟩
            ·
              refine g_table C (tgt := 152) dX3_about_90 (by omega) (by omega) rfl (by decide) ?_
              refine g_aload_n C dX3_about_152 rfl 0 rfl ?_
              refine gm_get26 C (v := plc (f 2) (f 3) (g 12) (g 19 a) (fun k => g 20 (400 * a + k)) (g 18 a)) rfl dX3_about_153 ?_
              refine kX3_X3_foldOf (plc (f 2) (f 3) (g 12) (g 19 a) (fun k => g 20 (400 * a + k)) (g 18 a)) C (by omega) ⟨Nat.le_of_ble_eq_true rfl, Nat.le_of_ble_eq_true rfl⟩ (Nat.le_of_ble_eq_true rfl) ⟨Nat.le_of_ble_eq_true rfl, Nat.le_of_ble_eq_true rfl⟩ (rv := (plc (f 2) (f 3) (g 12) (g 19 a) (fun k => g 20 (400 * a + k)) (g 18 a)) / 2 / 6) rfl dX3_about_156 ?_
              exact g_iret C dX3_about_159 rfl (Nat.le_of_ble_eq_true rfl) (Nat.le_of_ble_eq_true rfl) ⟨_, rfl, _, _, (Or.inr (Or.inr (Or.inr (Or.inl ⟨by omega, rfl, rfl, rfl⟩)))), rfl⟩
            ·
              refine g_table C (tgt := 160) dX3_about_90 (by omega) (by omega) rfl (by decide) ?_
              refine g_aload_n C dX3_about_160 rfl 0 rfl ?_
              refine gm_get26 C (v := plc (f 2) (f 3) (g 12) (g 19 a) (fun k => g 20 (400 * a + k)) (g 18 a)) rfl dX3_about_161 ?_
              refine kX3_X3_stationOf (plc (f 2) (f 3) (g 12) (g 19 a) (fun k => g 20 (400 * a + k)) (g 18 a)) C (by omega) ⟨Nat.le_of_ble_eq_true rfl, Nat.le_of_ble_eq_true rfl⟩ (Nat.le_of_ble_eq_true rfl) ⟨Nat.le_of_ble_eq_true rfl, Nat.le_of_ble_eq_true rfl⟩ (rv := (plc (f 2) (f 3) (g 12) (g 19 a) (fun k => g 20 (400 * a + k)) (g 18 a)) / 2 % 6) rfl dX3_about_164 ?_
              exact g_iret C dX3_about_167 rfl (Nat.le_of_ble_eq_true rfl) (Nat.le_of_ble_eq_true rfl) ⟨_, rfl, _, _, (Or.inr (Or.inr (Or.inr (Or.inr (Or.inl ⟨by omega, rfl, rfl, rfl⟩))))), rfl⟩
            ·
              refine g_table C (tgt := 168) dX3_about_90 (by omega) (by omega) rfl (by decide) ?_
              refine g_aload_n C dX3_about_168 rfl 0 rfl ?_
              refine gm_get26 C (v := plc (f 2) (f 3) (g 12) (g 19 a) (fun k => g 20 (400 * a + k)) (g 18 a)) rfl dX3_about_169 ?_
              refine kX3_X3_sideOf (plc (f 2) (f 3) (g 12) (g 19 a) (fun k => g 20 (400 * a + k)) (g 18 a)) C (by omega) ⟨Nat.le_of_ble_eq_true rfl, Nat.le_of_ble_eq_true rfl⟩ (Nat.le_of_ble_eq_true rfl) ⟨Nat.le_of_ble_eq_true rfl, Nat.le_of_ble_eq_true rfl⟩ (rv := (plc (f 2) (f 3) (g 12) (g 19 a) (fun k => g 20 (400 * a + k)) (g 18 a)) % 2) rfl dX3_about_172 ?_
              exact g_iret C dX3_about_175 rfl (Nat.le_of_ble_eq_true rfl) (Nat.le_of_ble_eq_true rfl) ⟨_, rfl, _, _, (Or.inr (Or.inr (Or.inr (Or.inr (Or.inr (Or.inl ⟨by omega, rfl, rfl, rfl⟩)))))), rfl⟩
            ·
              refine g_table C (tgt := 176) dX3_about_90 (by omega) (by omega) rfl (by decide) ?_
              refine g_iload_n C dX3_about_176 rfl 3 rfl ?_
              refine g_if_eq C (tgt := 184) dX3_about_177 (by decide) (by omega) (fun hc177_6 => ?_) (fun hc177_6 => ?_)
              ·
                refine g_iconst C dX3_about_184 ?_
                exact g_iret C dX3_about_185 rfl (Nat.le_of_ble_eq_true rfl) (Nat.le_of_ble_eq_true rfl) ⟨_, rfl, _, _, (Or.inr (Or.inr (Or.inr (Or.inr (Or.inr (Or.inr (Or.inl ⟨by omega, (by rw [← hcl]; omega), rfl, rfl⟩))))))), rfl⟩
              ·
                refine g_iconst C dX3_about_180 ?_
                refine g_goto C (tgt := 185) dX3_about_181 (by decide) ?_
                exact g_iret C dX3_about_185 rfl (Nat.le_of_ble_eq_true rfl) (Nat.le_of_ble_eq_true rfl) ⟨_, rfl, _, _, (Or.inr (Or.inr (Or.inr (Or.inr (Or.inr (Or.inr (Or.inl ⟨by omega, (by rw [← hcl]; omega), rfl, rfl⟩))))))), rfl⟩
            ·
              refine g_table C (tgt := 186) dX3_about_90 (by omega) (by omega) rfl (by decide) ?_
              have hg22 : ∀ j, 0 ≤ j → j < 55 → 0 ≤ fgo (f 8) (g 14) (g 15) (g 16) (f 2) (f 3) (g 12) (g 19 a) (fun k => g 20 (400 * a + k)) (g 18 a) j ∧ fgo (f 8) (g 14) (g 15) (g 16) (f 2) (f 3) (g 12) (g 19 a) (fun k => g 20 (400 * a + k)) (g 18 a) j ≤ 400 := fun j _ _ => by have := fgo_rg (np := f 8) (pf := g 14) (ps := g 15) (pk := g 16) (F := f 2) (S := f 3) (kd := g 12) (b := g 19 a) (mv := (fun k => g 20 (400 * a + k))) (j := j) hpn.1; omega
              refine g_iload_n C dX3_about_186 rfl 3 rfl ?_
              refine g_if_eq C (tgt := 201) dX3_about_187 (by decide) (by omega) (fun hc187_7 => ?_) (fun hc187_7 => ?_)
              ·
                refine g_iconst C dX3_about_201 ?_
                exact g_iret C dX3_about_202 rfl (Nat.le_of_ble_eq_true rfl) (Nat.le_of_ble_eq_true rfl) ⟨_, rfl, _, _, (Or.inr (Or.inr (Or.inr (Or.inr (Or.inr (Or.inr (Or.inr (Or.inl ⟨by omega, (by first | exact bN_0 hcl (by omega) | exact bN_1 (by omega)), rfl, rfl⟩)))))))), rfl⟩
              ·
                refine g_aload_n C dX3_about_190 rfl 0 rfl ?_
                refine kX3_X3_isWhole  C hnp hpt hg22 ⟨Nat.le_of_ble_eq_true rfl, Nat.le_of_ble_eq_true rfl⟩ (Nat.le_of_ble_eq_true rfl) ⟨Nat.le_of_ble_eq_true rfl, Nat.le_of_ble_eq_true rfl⟩ (rv := bP (∀ j, 0 ≤ j → j < f 8 → g 17 j = 0 ∨ 0 < (fgo (f 8) (g 14) (g 15) (g 16) (f 2) (f 3) (g 12) (g 19 a) (fun k => g 20 (400 * a + k)) (g 18 a)) j)) rfl dX3_about_191 ?_
                have hbb8 : 0 ≤ bP (∀ j, 0 ≤ j → j < f 8 → g 17 j = 0 ∨ 0 < (fgo (f 8) (g 14) (g 15) (g 16) (f 2) (f 3) (g 12) (g 19 a) (fun k => g 20 (400 * a + k)) (g 18 a)) j) ∧ bP (∀ j, 0 ≤ j → j < f 8 → g 17 j = 0 ∨ 0 < (fgo (f 8) (g 14) (g 15) (g 16) (f 2) (f 3) (g 12) (g 19 a) (fun k => g 20 (400 * a + k)) (g 18 a)) j) ≤ 1 := bP_rg _
                refine g_if_eq C (tgt := 201) dX3_about_194 (by decide) (by omega) (fun hc194_9 => ?_) (fun hc194_9 => ?_)
                ·
                  refine g_iconst C dX3_about_201 ?_
                  exact g_iret C dX3_about_202 rfl (Nat.le_of_ble_eq_true rfl) (Nat.le_of_ble_eq_true rfl) ⟨_, rfl, _, _, (Or.inr (Or.inr (Or.inr (Or.inr (Or.inr (Or.inr (Or.inr (Or.inl ⟨by omega, (by first | exact bN_0 hcl (by omega) | exact bN_1 (by omega)), rfl, rfl⟩)))))))), rfl⟩
                ·
                  refine g_iconst C dX3_about_197 ?_
                  refine g_goto C (tgt := 202) dX3_about_198 (by decide) ?_
                  exact g_iret C dX3_about_202 rfl (Nat.le_of_ble_eq_true rfl) (Nat.le_of_ble_eq_true rfl) ⟨_, rfl, _, _, (Or.inr (Or.inr (Or.inr (Or.inr (Or.inr (Or.inr (Or.inr (Or.inl ⟨by omega, (bN_t hcl (by omega) (by omega)), rfl, rfl⟩)))))))), rfl⟩
            ·
              refine g_table C (tgt := 203) dX3_about_90 (by omega) (by omega) rfl (by decide) ?_
              have hg22 : ∀ j, 0 ≤ j → j < 55 → 0 ≤ fgo (f 8) (g 14) (g 15) (g 16) (f 2) (f 3) (g 12) (g 19 a) (fun k => g 20 (400 * a + k)) (g 18 a) j ∧ fgo (f 8) (g 14) (g 15) (g 16) (f 2) (f 3) (g 12) (g 19 a) (fun k => g 20 (400 * a + k)) (g 18 a) j ≤ 400 := fun j _ _ => by have := fgo_rg (np := f 8) (pf := g 14) (ps := g 15) (pk := g 16) (F := f 2) (S := f 3) (kd := g 12) (b := g 19 a) (mv := (fun k => g 20 (400 * a + k))) (j := j) hpn.1; omega
              refine g_iload_n C dX3_about_203 rfl 3 rfl ?_
              refine g_if_eq C (tgt := 218) dX3_about_204 (by decide) (by omega) (fun hc204_10 => ?_) (fun hc204_10 => ?_)
              ·
                refine g_iconst C dX3_about_218 ?_
                exact g_iret C dX3_about_219 rfl (Nat.le_of_ble_eq_true rfl) (Nat.le_of_ble_eq_true rfl) ⟨_, rfl, _, _, (Or.inr (Or.inr (Or.inr (Or.inr (Or.inr (Or.inr (Or.inr (Or.inr (Or.inl ⟨by omega, (by first | exact bN_0 hcl (by omega) | exact bN_1 (by omega)), rfl, rfl⟩))))))))), rfl⟩
              ·
                refine g_aload_n C dX3_about_207 rfl 0 rfl ?_
                refine kX3_X3_isClean  C hnp hpt hg22 ⟨Nat.le_of_ble_eq_true rfl, Nat.le_of_ble_eq_true rfl⟩ (Nat.le_of_ble_eq_true rfl) ⟨Nat.le_of_ble_eq_true rfl, Nat.le_of_ble_eq_true rfl⟩ (rv := bP (∀ j, 0 ≤ j → j < f 8 → (fgo (f 8) (g 14) (g 15) (g 16) (f 2) (f 3) (g 12) (g 19 a) (fun k => g 20 (400 * a + k)) (g 18 a)) j = g 17 j)) rfl dX3_about_208 ?_
                have hbb11 : 0 ≤ bP (∀ j, 0 ≤ j → j < f 8 → (fgo (f 8) (g 14) (g 15) (g 16) (f 2) (f 3) (g 12) (g 19 a) (fun k => g 20 (400 * a + k)) (g 18 a)) j = g 17 j) ∧ bP (∀ j, 0 ≤ j → j < f 8 → (fgo (f 8) (g 14) (g 15) (g 16) (f 2) (f 3) (g 12) (g 19 a) (fun k => g 20 (400 * a + k)) (g 18 a)) j = g 17 j) ≤ 1 := bP_rg _
                refine g_if_eq C (tgt := 218) dX3_about_211 (by decide) (by omega) (fun hc211_12 => ?_) (fun hc211_12 => ?_)
                ·
                  refine g_iconst C dX3_about_218 ?_
                  exact g_iret C dX3_about_219 rfl (Nat.le_of_ble_eq_true rfl) (Nat.le_of_ble_eq_true rfl) ⟨_, rfl, _, _, (Or.inr (Or.inr (Or.inr (Or.inr (Or.inr (Or.inr (Or.inr (Or.inr (Or.inl ⟨by omega, (by first | exact bN_0 hcl (by omega) | exact bN_1 (by omega)), rfl, rfl⟩))))))))), rfl⟩
                ·
                  refine g_iconst C dX3_about_214 ?_
                  refine g_goto C (tgt := 219) dX3_about_215 (by decide) ?_
                  exact g_iret C dX3_about_219 rfl (Nat.le_of_ble_eq_true rfl) (Nat.le_of_ble_eq_true rfl) ⟨_, rfl, _, _, (Or.inr (Or.inr (Or.inr (Or.inr (Or.inr (Or.inr (Or.inr (Or.inr (Or.inl ⟨by omega, (bN_t hcl (by omega) (by omega)), rfl, rfl⟩))))))))), rfl⟩
            ·
              refine g_table C (tgt := 220) dX3_about_90 (by omega) (by omega) rfl (by decide) ?_
              refine g_iload C dX3_about_220 4 rfl ?_
              refine g_if_eq C (tgt := 229) dX3_about_222 (by decide) (by omega) (fun hc222_13 => ?_) (fun hc222_13 => ?_)
              ·
                refine g_iconst C dX3_about_229 ?_
                exact g_iret C dX3_about_230 rfl (Nat.le_of_ble_eq_true rfl) (Nat.le_of_ble_eq_true rfl) ⟨_, rfl, _, _, (Or.inr (Or.inr (Or.inr (Or.inr (Or.inr (Or.inr (Or.inr (Or.inr (Or.inr (Or.inl ⟨by omega, (by rw [show f 2 - 1 = k by omega, ← hhe]; omega), rfl, rfl⟩)))))))))), rfl⟩
              ·
                refine g_iconst C dX3_about_225 ?_
                refine g_goto C (tgt := 230) dX3_about_226 (by decide) ?_
                exact g_iret C dX3_about_230 rfl (Nat.le_of_ble_eq_true rfl) (Nat.le_of_ble_eq_true rfl) ⟨_, rfl, _, _, (Or.inr (Or.inr (Or.inr (Or.inr (Or.inr (Or.inr (Or.inr (Or.inr (Or.inr (Or.inl ⟨by omega, (by rw [show f 2 - 1 = k by omega, ← hhe]; omega), rfl, rfl⟩)))))))))), rfl⟩
            ·
              refine g_tableD C (tgt := 231) dX3_about_90 (by omega) (by omega) (by decide) ?_
              refine g_aload_n C dX3_about_231 rfl 0 rfl ?_
              refine g_iconst C dX3_about_232 ?_
              refine kX3_X3_fail 1 C  ⟨Nat.le_of_ble_eq_true rfl, Nat.le_of_ble_eq_true rfl⟩ (Nat.le_of_ble_eq_true rfl) ⟨Nat.le_of_ble_eq_true rfl, Nat.le_of_ble_eq_true rfl⟩ dX3_about_233 ?_
              refine g_ws (ws' := mW D h (up (up (up f 1 1) 25 (fle (g 11) (g 10) (f 2) (f 3) (g 12) (g 19 a) (fun k => g 20 (400 * a + k)) (g 18 a))) 26 (plc (f 2) (f 3) (g 12) (g 19 a) (fun k => g 20 (400 * a + k)) (g 18 a))) (ug (ug (ug g 22 (fgo (f 8) (g 14) (g 15) (g 16) (f 2) (f 3) (g 12) (g 19 a) (fun k => g 20 (400 * a + k)) (g 18 a))) 23 (fho (f 2) (f 3) (g 12) (g 19 a) (fun k => g 20 (400 * a + k)) (g 18 a))) 24 (fti (f 2) (f 3) (g 12) (g 19 a) (fun k => g 20 (400 * a + k)) (g 18 a)))) rfl ?_
              exact g_iret C dX3_about_236 rfl (Nat.le_of_ble_eq_true rfl) (Nat.le_of_ble_eq_true rfl) ⟨_, rfl, _, _, (Or.inr (Or.inr (Or.inr (Or.inr (Or.inr (Or.inr (Or.inr (Or.inr (Or.inr (Or.inr (⟨by omega, rfl, rfl, rfl⟩))))))))))), rfl⟩
          ·
            have J14 : ∀ (bv : Int), (bv = bP (∀ j, 0 ≤ j → j < k + 1 → 2 ≤ fti (f 2) (f 3) (g 12) (g 19 a) (fun k => g 20 (400 * a + k)) (g 18 a) j)) → GO p l e (rmD 4 0 0) s mm args below meth c 6 D A A 0 0 (MX below D A (pI fun z w => ∃ f' g', sm_about f g a v z f' g' ∧ w = mW D h f' g') xN args s (0) (0)) (mW D h (up (up (up f 1 0) 25 (fle (g 11) (g 10) (f 2) (f 3) (g 12) (g 19 a) (fun k => g 20 (400 * a + k)) (g 18 a))) 26 (plc (f 2) (f 3) (g 12) (g 19 a) (fun k => g 20 (400 * a + k)) (g 18 a))) (ug (ug (ug g 22 (fgo (f 8) (g 14) (g 15) (g 16) (f 2) (f 3) (g 12) (g 19 a) (fun k => g 20 (400 * a + k)) (g 18 a))) 23 (fho (f 2) (f 3) (g 12) (g 19 a) (fun k => g 20 (400 * a + k)) (g 18 a))) 24 (fti (f 2) (f 3) (g 12) (g 19 a) (fun k => g 20 (400 * a + k)) (g 18 a)))) 81 [(0, .ref (h 36)), (1, .int (iI a)), (2, .int (iI v)), (3, .int (iI cl)), (4, .int (iI he)), (5, .int (iI k))] [.int (iI bv)] := by
              intro bv hbv
              refine g_istore C dX3_about_81 (lv' := [(0, .ref (h 36)), (1, .int (iI a)), (2, .int (iI v)), (3, .int (iI cl)), (4, .int (iI bv)), (5, .int (iI k))]) [1, 2, 3, 4, 0, 5] rfl (Nat.le_of_ble_eq_true rfl) ?_
              refine g_iinc C dX3_about_83 5 rfl (lv' := [(0, .ref (h 36)), (1, .int (iI a)), (2, .int (iI v)), (3, .int (iI cl)), (4, .int (iI bv)), (5, .int (iI (k + 1)))]) [1, 2, 3, 4, 5, 0] rfl (Nat.le_of_ble_eq_true rfl) ?_
              refine g_goto C (tgt := 49) dX3_about_86 (by decide) ?_
              exact ih4 (k + 1) bv (by omega) hbv (by omega)
            refine g_iload C dX3_about_60 4 rfl ?_
            refine g_if_eq C (tgt := 80) dX3_about_62 (by decide) (by omega) (fun hc62_15 => ?_) (fun hc62_15 => ?_)
            ·
              refine g_iconst C dX3_about_80 ?_
              exact J14 0 (by first | exact bA_0 (by rw [← hhe]; omega) | exact bA_1 hk.1 (show ¬ (2 ≤ fti (f 2) (f 3) (g 12) (g 19 a) (fun k => g 20 (400 * a + k)) (g 18 a) k) by omega))
            ·
              refine g_aload_n C dX3_about_65 rfl 0 rfl ?_
              refine gm_get24 C dX3_about_66 ?_
              refine g_iload C dX3_about_69 5 rfl ?_
              refine gm_ald24 C (v := (fti (f 2) (f 3) (g 12) (g 19 a) (fun k => g 20 (400 * a + k)) (g 18 a)) k) rfl dX3_about_71 (by omega) ?_
              have hf16 := fti_rg (F := f 2) (S := f 3) (kd := g 12) (b := g 19 a) (mv := (fun k => g 20 (400 * a + k))) (j := k) hpn.1
              refine g_iconst C dX3_about_72 ?_
              refine g_icmp_lt C (tgt := 80) dX3_about_73 (by decide) (by omega) (by omega) (fun hc73_17 => ?_) (fun hc73_17 => ?_)
              ·
                refine g_iconst C dX3_about_80 ?_
                exact J14 0 (by first | exact bA_0 (by rw [← hhe]; omega) | exact bA_1 hk.1 (show ¬ (2 ≤ fti (f 2) (f 3) (g 12) (g 19 a) (fun k => g 20 (400 * a + k)) (g 18 a) k) by omega))
              ·
                refine g_iconst C dX3_about_76 ?_
                refine g_goto C (tgt := 81) dX3_about_77 (by decide) ?_
                exact J14 1 (bA_t (by rw [← hhe]; omega) (show 2 ≤ fti (f 2) (f 3) (g 12) (g 19 a) (fun k => g 20 (400 * a + k)) (g 18 a) k by omega))
      exact L4 _ 0 1 (by omega) bA_i (Nat.lt_succ_self _)
    refine g_aload_n C dX3_about_24 rfl 0 rfl ?_
    refine gm_get26 C (v := plc (f 2) (f 3) (g 12) (g 19 a) (fun k => g 20 (400 * a + k)) (g 18 a)) rfl dX3_about_25 ?_
    refine g_aload_n C dX3_about_28 rfl 0 rfl ?_
    refine gm_get19 C dX3_about_29 ?_
    refine g_iload_n C dX3_about_32 rfl 1 rfl ?_
    refine gm_ald19 C (v := (g 19) a) rfl dX3_about_33 (by omega) ?_
    refine g_icmp_ne C (tgt := 41) dX3_about_34 (by decide) (by omega) (by omega) (fun hc34_18 => ?_) (fun hc34_18 => ?_)
    ·
      refine g_iconst C dX3_about_41 ?_
      exact J3 0 ((bP_f (by omega)).symm)
    ·
      refine g_iconst C dX3_about_37 ?_
      refine g_goto C (tgt := 42) dX3_about_38 (by decide) ?_
      exact J3 1 ((bP_t (by omega)).symm)
  ·
    have hc10_2b : ¬ (0 ≤ a ∧ a < f 7) := of_decide_eq_false (bI_0.mp (by omega))
    refine g_aload_n C dX3_about_13 rfl 0 rfl ?_
    refine g_iconst C dX3_about_14 ?_
    refine kX3_X3_fail 1 C  ⟨Nat.le_of_ble_eq_true rfl, Nat.le_of_ble_eq_true rfl⟩ (Nat.le_of_ble_eq_true rfl) ⟨Nat.le_of_ble_eq_true rfl, Nat.le_of_ble_eq_true rfl⟩ dX3_about_15 ?_
    refine g_ws (ws' := mW D h (up f 1 1) g) rfl ?_
    exact g_iret C dX3_about_18 rfl (Nat.le_of_ble_eq_true rfl) (Nat.le_of_ble_eq_true rfl) ⟨_, rfl, _, _, (Or.inl ⟨by omega, rfl, rfl, rfl⟩), rfl⟩

set_option maxHeartbeats 4000000 in
set_option maxRecDepth 100000 in
theorem c_X3_loose (l : Launch) (D : va_G) (hst : l.stackTraces = false) (h : Nat → Nat) (f : Nat → Int) (g : Nat → Int → Int) (a b : Int) (hF : 1 ≤ f 2 ∧ f 2 ≤ 5) (hS : 2 ≤ f 3 ∧ f 3 ≤ 6) (hkd : ∀ j, 0 ≤ j → j < 6 → 0 ≤ g 12 j ∧ g 12 j ≤ 3) (hth : ∀ j, 0 ≤ j → j < 5 → 1 ≤ g 10 j ∧ g 10 j ≤ 50) (hht : ∀ j, 0 ≤ j → j < 6 → 0 ≤ g 11 j ∧ g 11 j ≤ 400) (hnp : 0 ≤ f 8 ∧ f 8 ≤ 55) (hpt : ∀ j, 0 ≤ j → j < f 8 → (0 ≤ g 14 j ∧ g 14 j ≤ 4) ∧ (0 ≤ g 15 j ∧ g 15 j ≤ 5) ∧ (0 ≤ g 16 j ∧ g 16 j ≤ 2) ∧ (0 ≤ g 17 j ∧ g 17 j ≤ 1)) (hpl : 0 ≤ f 7 ∧ f 7 ≤ 8) (hPLs : ∀ q, 0 ≤ q → q < f 7 → PLok (f 2) (f 3) (g 12) (g 19 q) (g 18 q) (fun k => g 20 (400 * q + k))) (har : -2147483648 ≤ a ∧ a < 2147483648) (hbr : -2147483648 ≤ b ∧ b < 2147483648) : CT l D yX3_loose (ws_ yX3_loose cX3_loose 10 (some .int)) (rmD 4 0 0) (0) (0) va_A [.ref (h 36), .int (iI a), .int (iI b)] (mW D h f g) exT (pI fun z w => ∃ f' g', sm_loose f g a b z f' g' ∧ w = mW D h f' g') xN := by
  refine ct_U (lv := [(0, .ref (h 36)), (1, .int (iI a)), (2, .int (iI b))]) RX3 (by decide) rfl rfl hst (Nat.le_of_ble_eq_true rfl) rfl ?_
  intro p e s mm args below meth c A C htab hex hnm
  refine g_aload_n C dX3_loose_0 rfl 0 rfl ?_
  refine g_iconst C dX3_loose_1 ?_
  refine gm_put1 C (f' := (up f 1 0)) rfl dX3_loose_2 ?_
  refine g_aload_n C dX3_loose_5 rfl 0 rfl ?_
  refine g_iload_n C dX3_loose_6 rfl 1 rfl ?_
  refine kX3_X3_isPlan a C hpl (by omega) ⟨Nat.le_of_ble_eq_true rfl, Nat.le_of_ble_eq_true rfl⟩ (Nat.le_of_ble_eq_true rfl) ⟨Nat.le_of_ble_eq_true rfl, Nat.le_of_ble_eq_true rfl⟩ (rv := bI (decide (0 ≤ a ∧ a < f 7))) rfl dX3_loose_7 ?_
  have hbb1 : 0 ≤ bI (decide (0 ≤ a ∧ a < f 7)) ∧ bI (decide (0 ≤ a ∧ a < f 7)) ≤ 1 := bI_rg _
  refine g_if_eq C (tgt := 27) dX3_loose_10 (by decide) (by omega) (fun hc10_2 => ?_) (fun hc10_2 => ?_)
  ·
    have hc10_2b : ¬ (0 ≤ a ∧ a < f 7) := of_decide_eq_false (bI_0.mp (by omega))
    refine g_aload_n C dX3_loose_27 rfl 0 rfl ?_
    refine g_iconst C dX3_loose_28 ?_
    refine kX3_X3_fail 1 C  ⟨Nat.le_of_ble_eq_true rfl, Nat.le_of_ble_eq_true rfl⟩ (Nat.le_of_ble_eq_true rfl) ⟨Nat.le_of_ble_eq_true rfl, Nat.le_of_ble_eq_true rfl⟩ dX3_loose_29 ?_
    refine g_ws (ws' := mW D h (up f 1 1) g) rfl ?_
    exact g_iret C dX3_loose_32 rfl (Nat.le_of_ble_eq_true rfl) (Nat.le_of_ble_eq_true rfl) ⟨_, rfl, _, _, (Or.inl ⟨by omega, rfl, rfl, rfl⟩), rfl⟩
  ·
    have hc10_2b : 0 ≤ a ∧ a < f 7 := of_decide_eq_true (bI_1.mp (by omega))
    refine g_iload_n C dX3_loose_13 rfl 2 rfl ?_
    have hPLa := hPLs a (by omega) (by omega)
    have hpn := hPLa.2.1
    refine g_if_lt C (tgt := 27) dX3_loose_14 (by decide) (by omega) (fun hc14_3 => ?_) (fun hc14_3 => ?_)
    ·
      refine g_aload_n C dX3_loose_27 rfl 0 rfl ?_
      refine g_iconst C dX3_loose_28 ?_
      refine kX3_X3_fail 1 C  ⟨Nat.le_of_ble_eq_true rfl, Nat.le_of_ble_eq_true rfl⟩ (Nat.le_of_ble_eq_true rfl) ⟨Nat.le_of_ble_eq_true rfl, Nat.le_of_ble_eq_true rfl⟩ dX3_loose_29 ?_
      refine g_ws (ws' := mW D h (up f 1 1) g) rfl ?_
      exact g_iret C dX3_loose_32 rfl (Nat.le_of_ble_eq_true rfl) (Nat.le_of_ble_eq_true rfl) ⟨_, rfl, _, _, (Or.inl ⟨by omega, rfl, rfl, rfl⟩), rfl⟩
    ·
      refine g_iload_n C dX3_loose_17 rfl 2 rfl ?_
      refine g_aload_n C dX3_loose_18 rfl 0 rfl ?_
      refine gm_get18 C dX3_loose_19 ?_
      refine g_iload_n C dX3_loose_22 rfl 1 rfl ?_
      refine gm_ald18 C (v := (g 18) a) rfl dX3_loose_23 (by omega) ?_
      refine g_icmp_lt C (tgt := 33) dX3_loose_24 (by decide) (by omega) (by omega) (fun hc24_4 => ?_) (fun hc24_4 => ?_)
      ·
        refine g_aload_n C dX3_loose_33 rfl 0 rfl ?_
        refine g_iload_n C dX3_loose_34 rfl 1 rfl ?_
        refine kX3_X3_follow a C hF hS hkd hth hht hnp hpt (by omega) (hPLs a (by omega) (by omega)) ⟨Nat.le_of_ble_eq_true rfl, Nat.le_of_ble_eq_true rfl⟩ (Nat.le_of_ble_eq_true rfl) ⟨Nat.le_of_ble_eq_true rfl, Nat.le_of_ble_eq_true rfl⟩ dX3_loose_35 ?_
        refine g_ws (ws' := mW D h (up (up (up f 1 0) 25 (fle (g 11) (g 10) (f 2) (f 3) (g 12) (g 19 a) (fun k => g 20 (400 * a + k)) (g 18 a))) 26 (plc (f 2) (f 3) (g 12) (g 19 a) (fun k => g 20 (400 * a + k)) (g 18 a))) (ug (ug (ug g 22 (fgo (f 8) (g 14) (g 15) (g 16) (f 2) (f 3) (g 12) (g 19 a) (fun k => g 20 (400 * a + k)) (g 18 a))) 23 (fho (f 2) (f 3) (g 12) (g 19 a) (fun k => g 20 (400 * a + k)) (g 18 a))) 24 (fti (f 2) (f 3) (g 12) (g 19 a) (fun k => g 20 (400 * a + k)) (g 18 a)))) rfl ?_
        have hPLa := hPLs a (by omega) (by omega)
        have hpin := hPLa.at hF hS hPLa.2.1.1 (Int.le_refl _)
        have hpn := hPLa.2.1
        have hb0 := hPLa.1
        unfold PIn at hpin hb0
        refine g_aload_n C dX3_loose_38 rfl 0 rfl ?_
        refine gm_get18 C dX3_loose_39 ?_
        refine g_iload_n C dX3_loose_42 rfl 1 rfl ?_
        refine gm_ald18 C (v := (g 18) a) rfl dX3_loose_43 (by omega) ?_
        refine g_istore_n C dX3_loose_44 rfl (lv' := [(0, .ref (h 36)), (1, .int (iI a)), (2, .int (iI b)), (3, .int (iI ((g 18) a)))]) [1, 2, 3, 0] rfl (Nat.le_of_ble_eq_true rfl) ?_
        have J5 : ∀ (cl : Int), (cl = bP (plc (f 2) (f 3) (g 12) (g 19 a) (fun k => g 20 (400 * a + k)) (g 18 a) = g 19 a)) → GO p l e (rmD 4 0 0) s mm args below meth c 10 D A A 0 0 (MX below D A (pI fun z w => ∃ f' g', sm_loose f g a b z f' g' ∧ w = mW D h f' g') xN args s (0) (0)) (mW D h (up (up (up f 1 0) 25 (fle (g 11) (g 10) (f 2) (f 3) (g 12) (g 19 a) (fun k => g 20 (400 * a + k)) (g 18 a))) 26 (plc (f 2) (f 3) (g 12) (g 19 a) (fun k => g 20 (400 * a + k)) (g 18 a))) (ug (ug (ug g 22 (fgo (f 8) (g 14) (g 15) (g 16) (f 2) (f 3) (g 12) (g 19 a) (fun k => g 20 (400 * a + k)) (g 18 a))) 23 (fho (f 2) (f 3) (g 12) (g 19 a) (fun k => g 20 (400 * a + k)) (g 18 a))) 24 (fti (f 2) (f 3) (g 12) (g 19 a) (fun k => g 20 (400 * a + k)) (g 18 a)))) 63 [(0, .ref (h 36)), (1, .int (iI a)), (2, .int (iI b)), (3, .int (iI ((g 18) a)))] [.int (iI cl)] := by
          intro cl hcl
          have hclb : 0 ≤ cl ∧ cl ≤ 1 := by rw [hcl]; exact bP_rg _
          refine g_istore C dX3_loose_63 (lv' := [(0, .ref (h 36)), (1, .int (iI a)), (2, .int (iI b)), (3, .int (iI ((g 18) a))), (4, .int (iI cl))]) [1, 2, 3, 4, 0] rfl (Nat.le_of_ble_eq_true rfl) ?_
          refine g_iconst C dX3_loose_65 ?_
          refine g_istore C dX3_loose_66 (lv' := [(0, .ref (h 36)), (1, .int (iI a)), (2, .int (iI b)), (3, .int (iI ((g 18) a))), (4, .int (iI cl)), (5, .int (iI 0))]) [1, 2, 3, 4, 5, 0] rfl (Nat.le_of_ble_eq_true rfl) ?_
          have L6 : ∀ (n : Nat) (k : Int) (y : Int → Int), (0 ≤ k ∧ k ≤ g 18 a) → (∀ j, 0 ≤ j → j < k → y j = 0) → (g 18 a - k).toNat < n → GO p l e (rmD 4 0 0) s mm args below meth c 10 D A A 0 0 (MX below D A (pI fun z w => ∃ f' g', sm_loose f g a b z f' g' ∧ w = mW D h f' g') xN args s (0) (0)) (mW D h (up (up (up f 1 0) 25 (fle (g 11) (g 10) (f 2) (f 3) (g 12) (g 19 a) (fun k => g 20 (400 * a + k)) (g 18 a))) 26 (plc (f 2) (f 3) (g 12) (g 19 a) (fun k => g 20 (400 * a + k)) (g 18 a))) (ug (ug (ug (ug g 22 (fgo (f 8) (g 14) (g 15) (g 16) (f 2) (f 3) (g 12) (g 19 a) (fun k => g 20 (400 * a + k)) (g 18 a))) 23 (fho (f 2) (f 3) (g 12) (g 19 a) (fun k => g 20 (400 * a + k)) (g 18 a))) 24 (fti (f 2) (f 3) (g 12) (g 19 a) (fun k => g 20 (400 * a + k)) (g 18 a))) 27 y)) 68 [(0, .ref (h 36)), (1, .int (iI a)), (2, .int (iI b)), (3, .int (iI ((g 18) a))), (4, .int (iI cl)), (5, .int (iI k))] [] := by
            intro n
            induction n with
            | zero => intro k y hk hz hm; exact absurd hm (Nat.not_lt_zero _)
            | succ n ih6 =>
              intro k y hk hz hm6
              refine g_iload C dX3_loose_68 5 rfl ?_
              refine g_iload_n C dX3_loose_70 rfl 3 rfl ?_
              refine g_icmp_ge C (tgt := 88) dX3_loose_71 (by decide) (by omega) (by omega) (fun hc71_7 => ?_) (fun hc71_7 => ?_)
              ·
                have J8 : ∀ (o1 : Int → Int), (∀ j, 0 ≤ j → j < g 18 a → o1 j = coA (bP (plc (f 2) (f 3) (g 12) (g 19 a) (fun k => g 20 (400 * a + k)) (g 18 a) = g 19 a)) (g 18 a) (fun k => g 20 (400 * a + k)) 1 (g 18 a).toNat b (fun _ => 0) j) → GO p l e (rmD 4 0 0) s mm args below meth c 10 D A A 0 0 (MX below D A (pI fun z w => ∃ f' g', sm_loose f g a b z f' g' ∧ w = mW D h f' g') xN args s (0) (0)) (mW D h (up (up (up f 1 0) 25 (fle (g 11) (g 10) (f 2) (f 3) (g 12) (g 19 a) (fun k => g 20 (400 * a + k)) (g 18 a))) 26 (plc (f 2) (f 3) (g 12) (g 19 a) (fun k => g 20 (400 * a + k)) (g 18 a))) (ug (ug (ug (ug g 22 (fgo (f 8) (g 14) (g 15) (g 16) (f 2) (f 3) (g 12) (g 19 a) (fun k => g 20 (400 * a + k)) (g 18 a))) 23 (fho (f 2) (f 3) (g 12) (g 19 a) (fun k => g 20 (400 * a + k)) (g 18 a))) 24 (fti (f 2) (f 3) (g 12) (g 19 a) (fun k => g 20 (400 * a + k)) (g 18 a))) 27 o1)) 166 [(0, .ref (h 36)), (1, .int (iI a)), (2, .int (iI b)), (3, .int (iI ((g 18) a))), (4, .int (iI cl))] [] := by
                  intro o1 ho1
                  have J9 : ∀ (o2 : Int → Int), (∀ j, 0 ≤ j → j < g 18 a → o2 j = offs (bP (plc (f 2) (f 3) (g 12) (g 19 a) (fun k => g 20 (400 * a + k)) (g 18 a) = g 19 a)) (g 18 a) (fun k => g 20 (400 * a + k)) b j) → GO p l e (rmD 4 0 0) s mm args below meth c 10 D A A 0 0 (MX below D A (pI fun z w => ∃ f' g', sm_loose f g a b z f' g' ∧ w = mW D h f' g') xN args s (0) (0)) (mW D h (up (up (up f 1 0) 25 (fle (g 11) (g 10) (f 2) (f 3) (g 12) (g 19 a) (fun k => g 20 (400 * a + k)) (g 18 a))) 26 (plc (f 2) (f 3) (g 12) (g 19 a) (fun k => g 20 (400 * a + k)) (g 18 a))) (ug (ug (ug (ug g 22 (fgo (f 8) (g 14) (g 15) (g 16) (f 2) (f 3) (g 12) (g 19 a) (fun k => g 20 (400 * a + k)) (g 18 a))) 23 (fho (f 2) (f 3) (g 12) (g 19 a) (fun k => g 20 (400 * a + k)) (g 18 a))) 24 (fti (f 2) (f 3) (g 12) (g 19 a) (fun k => g 20 (400 * a + k)) (g 18 a))) 27 o2)) 247 [(0, .ref (h 36)), (1, .int (iI a)), (2, .int (iI b)), (3, .int (iI ((g 18) a))), (4, .int (iI cl))] [] := by
                    intro o2 ho2
                    refine g_iconst C dX3_loose_247 ?_
                    refine g_aload_n C dX3_loose_248 rfl 0 rfl ?_
                    refine gm_get2 C (v := f 2) rfl dX3_loose_249 ?_
                    refine g_ishl C dX3_loose_252 (z := shlI 1 (f 2)) (iI_of _).symm ?_
                    refine g_iconst C dX3_loose_253 ?_
                    refine g_isub C dX3_loose_254 ?_
                    refine g_istore C dX3_loose_255 (lv' := [(0, .ref (h 36)), (1, .int (iI a)), (2, .int (iI b)), (3, .int (iI ((g 18) a))), (4, .int (iI cl)), (6, .int (iI ((shlI 1 (f 2)) - 1)))]) [1, 2, 3, 4, 5, 0] rfl (Nat.le_of_ble_eq_true rfl) ?_
                    refine g_aload_n C dX3_loose_257 rfl 0 rfl ?_
                    refine gm_get19 C dX3_loose_258 ?_
                    refine g_iload_n C dX3_loose_261 rfl 1 rfl ?_
                    refine gm_ald19 C (v := (g 19) a) rfl dX3_loose_262 (by omega) ?_
                    refine g_istore C dX3_loose_263 (lv' := [(0, .ref (h 36)), (1, .int (iI a)), (2, .int (iI b)), (3, .int (iI ((g 18) a))), (4, .int (iI cl)), (6, .int (iI ((shlI 1 (f 2)) - 1))), (7, .int (iI ((g 19) a)))]) [1, 2, 3, 4, 5, 6, 0] rfl (Nat.le_of_ble_eq_true rfl) ?_
                    refine g_iconst C dX3_loose_265 ?_
                    refine g_istore C dX3_loose_266 (lv' := [(0, .ref (h 36)), (1, .int (iI a)), (2, .int (iI b)), (3, .int (iI ((g 18) a))), (4, .int (iI cl)), (6, .int (iI ((shlI 1 (f 2)) - 1))), (7, .int (iI ((g 19) a))), (8, .int (iI 0))]) [1, 2, 3, 4, 5, 6, 7, 0] rfl (Nat.le_of_ble_eq_true rfl) ?_
                    have L10 : ∀ (n : Nat) (k : Int) (la : Int) (vv : Int), (0 ≤ k ∧ k ≤ g 18 a) → (la = plc (f 2) (f 3) (g 12) (g 19 a) (fun k => g 20 (400 * a + k)) k) → (LSok vv (GL (f 2) (fun j => offs (bP (plc (f 2) (f 3) (g 12) (g 19 a) (fun k => g 20 (400 * a + k)) (g 18 a) = g 19 a)) (g 18 a) (fun k => g 20 (400 * a + k)) b j = 0 ∧ alg (f 8) (g 14) (g 15) (g 16) (plc (f 2) (f 3) (g 12) (g 19 a) (fun k => g 20 (400 * a + k)) j) (g 20 (400 * a + j)) ≠ -1) (fun j => plc (f 2) (f 3) (g 12) (g 19 a) (fun k => g 20 (400 * a + k)) j / 2 / 6) k)) → (g 18 a - k).toNat < n → GO p l e (rmD 4 0 0) s mm args below meth c 10 D A A 0 0 (MX below D A (pI fun z w => ∃ f' g', sm_loose f g a b z f' g' ∧ w = mW D h f' g') xN args s (0) (0)) (mW D h (up (up (up f 1 0) 25 (fle (g 11) (g 10) (f 2) (f 3) (g 12) (g 19 a) (fun k => g 20 (400 * a + k)) (g 18 a))) 26 (plc (f 2) (f 3) (g 12) (g 19 a) (fun k => g 20 (400 * a + k)) (g 18 a))) (ug (ug (ug (ug g 22 (fgo (f 8) (g 14) (g 15) (g 16) (f 2) (f 3) (g 12) (g 19 a) (fun k => g 20 (400 * a + k)) (g 18 a))) 23 (fho (f 2) (f 3) (g 12) (g 19 a) (fun k => g 20 (400 * a + k)) (g 18 a))) 24 (fti (f 2) (f 3) (g 12) (g 19 a) (fun k => g 20 (400 * a + k)) (g 18 a))) 27 o2)) 268 [(0, .ref (h 36)), (1, .int (iI a)), (2, .int (iI b)), (3, .int (iI ((g 18) a))), (4, .int (iI cl)), (6, .int (iI vv)), (7, .int (iI la)), (8, .int (iI k))] [] := by
                      intro n
                      induction n with
                      | zero => intro k la vv hk hla hls hm; exact absurd hm (Nat.not_lt_zero _)
                      | succ n ih10 =>
                        intro k la vv hk hla hls hm10
                        refine g_iload C dX3_loose_268 7 rfl ?_
                        refine g_iload_n C dX3_loose_270 rfl 3 rfl ?_
                        refine g_icmp_ge C (tgt := 341) dX3_loose_271 (by decide) (by omega) (by omega) (fun hc271_11 => ?_) (fun hc271_11 => ?_)
                        ·
                          have ek : k = g 18 a := by omega
                          subst ek
                          refine g_iload C dX3_loose_341 5 rfl ?_
                          exact g_iret C dX3_loose_343 rfl (Nat.le_of_ble_eq_true rfl) (Nat.le_of_ble_eq_true rfl) ⟨_, rfl, _, _, (Or.inr (⟨by omega, o2, hls, rfl, rfl⟩)), rfl⟩
                        ·
                          have ho2k := ho2 k hk.1 (by omega)
                          have hor := offs_rg (bP (plc (f 2) (f 3) (g 12) (g 19 a) (fun k => g 20 (400 * a + k)) (g 18 a) = g 19 a)) (g 18 a) (fun k => g 20 (400 * a + k)) b k
                          have hmv : (0 ≤ g 20 (400 * a + k) ∧ g 20 (400 * a + k) < 8) ∧ lead (f 2) (f 3) (g 12) (plc (f 2) (f 3) (g 12) (g 19 a) (fun k => g 20 (400 * a + k)) k) (g 20 (400 * a + k)) ≠ -1 := hPLa.2.2 k hk.1 (by omega)
                          have hpi := hPLa.at hF hS (k := k) hk.1 (by omega)
                          rw [← hla] at hpi hmv
                          unfold PIn at hpi
                          refine g_aload_n C dX3_loose_274 rfl 0 rfl ?_
                          refine gm_get20 C dX3_loose_275 ?_
                          refine g_sipush C dX3_loose_278 (z := 400) rfl ?_
                          refine g_iload_n C dX3_loose_281 rfl 1 rfl ?_
                          refine g_imul C dX3_loose_282 ?_
                          refine g_iload C dX3_loose_283 7 rfl ?_
                          refine g_iadd C dX3_loose_285 ?_
                          refine gm_ald20 C (v := (g 20) ((400 * a) + k)) rfl dX3_loose_286 (by omega) ?_
                          refine g_istore C dX3_loose_287 (lv' := [(0, .ref (h 36)), (1, .int (iI a)), (2, .int (iI b)), (3, .int (iI ((g 18) a))), (4, .int (iI cl)), (6, .int (iI vv)), (7, .int (iI la)), (8, .int (iI k)), (9, .int (iI ((g 20) ((400 * a) + k))))]) [1, 2, 3, 4, 5, 6, 7, 8, 0] rfl (Nat.le_of_ble_eq_true rfl) ?_
                          have J12 : ∀ (nv : Int), (LSok nv (GL (f 2) (fun j => offs (bP (plc (f 2) (f 3) (g 12) (g 19 a) (fun k => g 20 (400 * a + k)) (g 18 a) = g 19 a)) (g 18 a) (fun k => g 20 (400 * a + k)) b j = 0 ∧ alg (f 8) (g 14) (g 15) (g 16) (plc (f 2) (f 3) (g 12) (g 19 a) (fun k => g 20 (400 * a + k)) j) (g 20 (400 * a + j)) ≠ -1) (fun j => plc (f 2) (f 3) (g 12) (g 19 a) (fun k => g 20 (400 * a + k)) j / 2 / 6) (k + 1))) → GO p l e (rmD 4 0 0) s mm args below meth c 10 D A A 0 0 (MX below D A (pI fun z w => ∃ f' g', sm_loose f g a b z f' g' ∧ w = mW D h f' g') xN args s (0) (0)) (mW D h (up (up (up f 1 0) 25 (fle (g 11) (g 10) (f 2) (f 3) (g 12) (g 19 a) (fun k => g 20 (400 * a + k)) (g 18 a))) 26 (plc (f 2) (f 3) (g 12) (g 19 a) (fun k => g 20 (400 * a + k)) (g 18 a))) (ug (ug (ug (ug g 22 (fgo (f 8) (g 14) (g 15) (g 16) (f 2) (f 3) (g 12) (g 19 a) (fun k => g 20 (400 * a + k)) (g 18 a))) 23 (fho (f 2) (f 3) (g 12) (g 19 a) (fun k => g 20 (400 * a + k)) (g 18 a))) 24 (fti (f 2) (f 3) (g 12) (g 19 a) (fun k => g 20 (400 * a + k)) (g 18 a))) 27 o2)) 325 [(0, .ref (h 36)), (1, .int (iI a)), (2, .int (iI b)), (3, .int (iI ((g 18) a))), (4, .int (iI cl)), (6, .int (iI nv)), (7, .int (iI la)), (8, .int (iI k)), (9, .int (iI ((g 20) ((400 * a) + k))))] [] := by
                            intro nv hnv
                            have hmv : (0 ≤ g 20 (400 * a + k) ∧ g 20 (400 * a + k) < 8) ∧ lead (f 2) (f 3) (g 12) (plc (f 2) (f 3) (g 12) (g 19 a) (fun k => g 20 (400 * a + k)) k) (g 20 (400 * a + k)) ≠ -1 := hPLa.2.2 k hk.1 (by omega)
                            have hpi := hPLa.at hF hS (k := k) hk.1 (by omega)
                            rw [← hla] at hpi hmv
                            unfold PIn at hpi
                            refine g_aload_n C dX3_loose_325 rfl 0 rfl ?_
                            refine g_iload C dX3_loose_326 6 rfl ?_
                            refine g_iload C dX3_loose_328 8 rfl ?_
                            refine kX3_X3_moved la ((g 20) ((400 * a) + k)) C hF hS hkd (by omega) (by omega) ⟨Nat.le_of_ble_eq_true rfl, Nat.le_of_ble_eq_true rfl⟩ (Nat.le_of_ble_eq_true rfl) ⟨Nat.le_of_ble_eq_true rfl, Nat.le_of_ble_eq_true rfl⟩ (rv := lead (f 2) (f 3) (g 12) la ((g 20) ((400 * a) + k))) rfl dX3_loose_330 ?_
                            refine g_istore C dX3_loose_333 (lv' := [(0, .ref (h 36)), (1, .int (iI a)), (2, .int (iI b)), (3, .int (iI ((g 18) a))), (4, .int (iI cl)), (6, .int (iI nv)), (7, .int (iI (lead (f 2) (f 3) (g 12) la ((g 20) ((400 * a) + k))))), (8, .int (iI k)), (9, .int (iI ((g 20) ((400 * a) + k))))]) [1, 2, 3, 4, 5, 6, 0, 7, 8] rfl (Nat.le_of_ble_eq_true rfl) ?_
                            refine g_iinc C dX3_loose_335 7 rfl (lv' := [(0, .ref (h 36)), (1, .int (iI a)), (2, .int (iI b)), (3, .int (iI ((g 18) a))), (4, .int (iI cl)), (6, .int (iI nv)), (7, .int (iI (lead (f 2) (f 3) (g 12) la ((g 20) ((400 * a) + k))))), (8, .int (iI (k + 1))), (9, .int (iI ((g 20) ((400 * a) + k))))]) [1, 2, 3, 4, 5, 6, 7, 0, 8] rfl (Nat.le_of_ble_eq_true rfl) ?_
                            refine g_goto C (tgt := 268) dX3_loose_338 (by decide) ?_
                            refine g_lv [0, 1, 2, 3, 4, 5, 6, 7] rfl ?_
                            exact ih10 (k + 1) (lead (f 2) (f 3) (g 12) la ((g 20) ((400 * a) + k))) nv (by omega) (by rw [plc_s hk.1, hla]) hnv (by omega)
                          refine g_aload_n C dX3_loose_289 rfl 0 rfl ?_
                          refine gm_get27 C dX3_loose_290 ?_
                          refine g_iload C dX3_loose_293 7 rfl ?_
                          refine gm_ald27 C (v := o2 k) rfl dX3_loose_295 (by omega) ?_
                          refine g_if_ne C (tgt := 325) dX3_loose_296 (by decide) (by omega) (fun hc296_13 => ?_) (fun hc296_13 => ?_)
                          ·
                            exact J12 vv (by first | exact GL_s hls (fun q => by have := ho2 k hk.1 (by omega); have := q.1; omega) | exact GL_s hls (fun q => q.2 (by rw [← hla]; omega)))
                          ·
                            refine g_aload_n C dX3_loose_299 rfl 0 rfl ?_
                            refine g_iload C dX3_loose_300 6 rfl ?_
                            refine g_iload C dX3_loose_302 8 rfl ?_
                            refine kX3_X3_alongOf la ((g 20) ((400 * a) + k)) C hnp hpt (by omega) (by omega) ⟨Nat.le_of_ble_eq_true rfl, Nat.le_of_ble_eq_true rfl⟩ (Nat.le_of_ble_eq_true rfl) ⟨Nat.le_of_ble_eq_true rfl, Nat.le_of_ble_eq_true rfl⟩ (rv := alg (f 8) (g 14) (g 15) (g 16) la ((g 20) ((400 * a) + k))) rfl dX3_loose_304 ?_
                            have hal := alg_rg (np := f 8) (pf := g 14) (ps := g 15) (pk := g 16) (p := la) (m := g 20 (400 * a + k)) hnp.1
                            refine g_iconst C dX3_loose_307 ?_
                            refine g_icmp_eq C (tgt := 325) dX3_loose_308 (by decide) (by omega) (by omega) (fun hc308_14 => ?_) (fun hc308_14 => ?_)
                            ·
                              exact J12 vv (by first | exact GL_s hls (fun q => by have := ho2 k hk.1 (by omega); have := q.1; omega) | exact GL_s hls (fun q => q.2 (by rw [← hla]; omega)))
                            ·
                              refine g_iload C dX3_loose_311 5 rfl ?_
                              refine g_iconst C dX3_loose_313 ?_
                              refine g_iload C dX3_loose_314 6 rfl ?_
                              refine kX3_X3_foldOf la C (by omega) ⟨Nat.le_of_ble_eq_true rfl, Nat.le_of_ble_eq_true rfl⟩ (Nat.le_of_ble_eq_true rfl) ⟨Nat.le_of_ble_eq_true rfl, Nat.le_of_ble_eq_true rfl⟩ (rv := la / 2 / 6) rfl dX3_loose_316 ?_
                              refine g_ishl C dX3_loose_319 (z := shlI 1 (la / 2 / 6)) (iI_of _).symm ?_
                              refine g_iconst C dX3_loose_320 ?_
                              refine g_ixor C dX3_loose_321 (z := xorI (shlI 1 (la / 2 / 6)) (-1)) (iI_of _).symm ?_
                              refine g_iand C dX3_loose_322 (z := andI vv (xorI (shlI 1 (la / 2 / 6)) (-1))) (iI_of _).symm ?_
                              refine g_istore C dX3_loose_323 (lv' := [(0, .ref (h 36)), (1, .int (iI a)), (2, .int (iI b)), (3, .int (iI ((g 18) a))), (4, .int (iI cl)), (6, .int (iI (andI vv (xorI (shlI 1 (la / 2 / 6)) (-1))))), (7, .int (iI la)), (8, .int (iI k)), (9, .int (iI ((g 20) ((400 * a) + k))))]) [1, 2, 3, 4, 5, 0, 6, 7, 8] rfl (Nat.le_of_ble_eq_true rfl) ?_
                              exact J12 (andI vv (xorI (shlI 1 (la / 2 / 6)) (-1))) (GL_c' hls hk.1 ⟨by omega, by rw [← hla]; omega⟩ (by rw [hla]) (by omega))
                    exact L10 _ 0 ((g 19) a) ((shlI 1 (f 2)) - 1) (by omega) rfl (GL_0 (LSok.ful hF)) (Nat.lt_succ_self _)
                  refine g_iconst C dX3_loose_166 ?_
                  refine g_istore C dX3_loose_167 (lv' := [(0, .ref (h 36)), (1, .int (iI a)), (2, .int (iI b)), (3, .int (iI ((g 18) a))), (4, .int (iI cl)), (5, .int (iI 1))]) [1, 2, 3, 4, 5, 0] rfl (Nat.le_of_ble_eq_true rfl) ?_
                  refine g_iconst C dX3_loose_169 ?_
                  refine g_istore C dX3_loose_170 (lv' := [(0, .ref (h 36)), (1, .int (iI a)), (2, .int (iI b)), (3, .int (iI ((g 18) a))), (4, .int (iI cl)), (5, .int (iI 1)), (6, .int (iI 1))]) [1, 2, 3, 4, 5, 6, 0] rfl (Nat.le_of_ble_eq_true rfl) ?_
                  have L15 : ∀ (n : Nat) (k : Int) (mo : Int) (y : Int → Int), (1 ≤ k ∧ k ≤ g 18 a + 1) → (mo = 0 ∨ mo = 1) → (∀ j, 0 ≤ j → j < g 18 a → offs (bP (plc (f 2) (f 3) (g 12) (g 19 a) (fun k => g 20 (400 * a + k)) (g 18 a) = g 19 a)) (g 18 a) (fun k => g 20 (400 * a + k)) b j = if mo = 0 then y j else coA (bP (plc (f 2) (f 3) (g 12) (g 19 a) (fun k => g 20 (400 * a + k)) (g 18 a) = g 19 a)) (g 18 a) (fun k => g 20 (400 * a + k)) (-1) (g 18 a + 1 - k).toNat (b - k) y j) → (g 18 a + 1 - k).toNat < n → GO p l e (rmD 4 0 0) s mm args below meth c 10 D A A 0 0 (MX below D A (pI fun z w => ∃ f' g', sm_loose f g a b z f' g' ∧ w = mW D h f' g') xN args s (0) (0)) (mW D h (up (up (up f 1 0) 25 (fle (g 11) (g 10) (f 2) (f 3) (g 12) (g 19 a) (fun k => g 20 (400 * a + k)) (g 18 a))) 26 (plc (f 2) (f 3) (g 12) (g 19 a) (fun k => g 20 (400 * a + k)) (g 18 a))) (ug (ug (ug (ug g 22 (fgo (f 8) (g 14) (g 15) (g 16) (f 2) (f 3) (g 12) (g 19 a) (fun k => g 20 (400 * a + k)) (g 18 a))) 23 (fho (f 2) (f 3) (g 12) (g 19 a) (fun k => g 20 (400 * a + k)) (g 18 a))) 24 (fti (f 2) (f 3) (g 12) (g 19 a) (fun k => g 20 (400 * a + k)) (g 18 a))) 27 y)) 172 [(0, .ref (h 36)), (1, .int (iI a)), (2, .int (iI b)), (3, .int (iI ((g 18) a))), (4, .int (iI cl)), (5, .int (iI mo)), (6, .int (iI k))] [] := by
                    intro n
                    induction n with
                    | zero => intro k mo y hk hmo hco hm; exact absurd hm (Nat.not_lt_zero _)
                    | succ n ih15 =>
                      intro k mo y hk hmo hco hm15
                      refine g_iload C dX3_loose_172 6 rfl ?_
                      refine g_iload_n C dX3_loose_174 rfl 3 rfl ?_
                      refine g_icmp_gt C (tgt := 247) dX3_loose_175 (by decide) (by omega) (by omega) (fun hc175_16 => ?_) (fun hc175_16 => ?_)
                      ·
                        refine g_lv [0, 1, 2, 3, 4] rfl ?_
                        exact J9 y (co_stop hco (by rw [← hcl]; omega))
                      ·
                        refine g_iload C dX3_loose_178 5 rfl ?_
                        refine g_if_eq C (tgt := 247) dX3_loose_180 (by decide) (by omega) (fun hc180_17 => ?_) (fun hc180_17 => ?_)
                        ·
                          refine g_lv [0, 1, 2, 3, 4] rfl ?_
                          exact J9 y (co_stop hco (by rw [← hcl]; omega))
                        ·
                          refine g_iload_n C dX3_loose_183 rfl 2 rfl ?_
                          refine g_iload C dX3_loose_184 6 rfl ?_
                          refine g_isub C dX3_loose_186 ?_
                          refine g_istore C dX3_loose_187 (lv' := [(0, .ref (h 36)), (1, .int (iI a)), (2, .int (iI b)), (3, .int (iI ((g 18) a))), (4, .int (iI cl)), (5, .int (iI mo)), (6, .int (iI k)), (7, .int (iI (b - k)))]) [1, 2, 3, 4, 5, 6, 7, 0] rfl (Nat.le_of_ble_eq_true rfl) ?_
                          refine g_iload C dX3_loose_189 7 rfl ?_
                          refine g_if_ge C (tgt := 202) dX3_loose_191 (by decide) (by omega) (fun hc191_18 => ?_) (fun hc191_18 => ?_)
                          ·
                            have hem := emod_in (a := b - k) (n := g 18 a) (by omega)
                            have hmw : (0 ≤ g 20 (400 * a + (b - k) % g 18 a) ∧ g 20 (400 * a + (b - k) % g 18 a) < 8) := (hPLa.2.2 _ hem.1 hem.2).1
                            have hea := emod_an (b - k) (g 18 a)
                            have hmw2 := hmw
                            rw [← hea] at hmw2 hem
                            refine g_aload_n C dX3_loose_202 rfl 0 rfl ?_
                            refine gm_get27 C dX3_loose_203 ?_
                            refine g_iload C dX3_loose_206 7 rfl ?_
                            refine g_iload_n C dX3_loose_208 rfl 3 rfl ?_
                            refine g_iadd C dX3_loose_209 ?_
                            refine g_iload_n C dX3_loose_210 rfl 3 rfl ?_
                            refine g_irem C dX3_loose_211 (by omega) (by omega) ?_
                            refine g_iconst C dX3_loose_212 ?_
                            refine gm_ast27 C (g' := (ug (ug (ug (ug g 22 (fgo (f 8) (g 14) (g 15) (g 16) (f 2) (f 3) (g 12) (g 19 a) (fun k => g 20 (400 * a + k)) (g 18 a))) 23 (fho (f 2) (f 3) (g 12) (g 19 a) (fun k => g 20 (400 * a + k)) (g 18 a))) 24 (fti (f 2) (f 3) (g 12) (g 19 a) (fun k => g 20 (400 * a + k)) (g 18 a))) 27 (uI y (((b - k) + ((g 18) a)) % ((g 18) a)) 1))) rfl dX3_loose_213 (by omega) rfl ?_
                            have J19 : ∀ (nm : Int), ((nm = 0 ∧ g 20 (400 * a + (b - k) % g 18 a) = 0) ∨ (nm = 1 ∧ g 20 (400 * a + (b - k) % g 18 a) ≠ 0)) → GO p l e (rmD 4 0 0) s mm args below meth c 10 D A A 0 0 (MX below D A (pI fun z w => ∃ f' g', sm_loose f g a b z f' g' ∧ w = mW D h f' g') xN args s (0) (0)) (mW D h (up (up (up f 1 0) 25 (fle (g 11) (g 10) (f 2) (f 3) (g 12) (g 19 a) (fun k => g 20 (400 * a + k)) (g 18 a))) 26 (plc (f 2) (f 3) (g 12) (g 19 a) (fun k => g 20 (400 * a + k)) (g 18 a))) (ug (ug (ug (ug g 22 (fgo (f 8) (g 14) (g 15) (g 16) (f 2) (f 3) (g 12) (g 19 a) (fun k => g 20 (400 * a + k)) (g 18 a))) 23 (fho (f 2) (f 3) (g 12) (g 19 a) (fun k => g 20 (400 * a + k)) (g 18 a))) 24 (fti (f 2) (f 3) (g 12) (g 19 a) (fun k => g 20 (400 * a + k)) (g 18 a))) 27 (uI y (((b - k) + ((g 18) a)) % ((g 18) a)) 1))) 239 [(0, .ref (h 36)), (1, .int (iI a)), (2, .int (iI b)), (3, .int (iI ((g 18) a))), (4, .int (iI cl)), (5, .int (iI mo)), (6, .int (iI k)), (7, .int (iI (b - k)))] [.int (iI nm)] := by
                              intro nm hnm9
                              refine g_istore C dX3_loose_239 (lv' := [(0, .ref (h 36)), (1, .int (iI a)), (2, .int (iI b)), (3, .int (iI ((g 18) a))), (4, .int (iI cl)), (5, .int (iI nm)), (6, .int (iI k)), (7, .int (iI (b - k)))]) [1, 2, 3, 4, 5, 0, 6, 7] rfl (Nat.le_of_ble_eq_true rfl) ?_
                              refine g_iinc C dX3_loose_241 6 rfl (lv' := [(0, .ref (h 36)), (1, .int (iI a)), (2, .int (iI b)), (3, .int (iI ((g 18) a))), (4, .int (iI cl)), (5, .int (iI nm)), (6, .int (iI (k + 1))), (7, .int (iI (b - k)))]) [1, 2, 3, 4, 5, 6, 0, 7] rfl (Nat.le_of_ble_eq_true rfl) ?_
                              refine g_goto C (tgt := 172) dX3_loose_244 (by decide) ?_
                              refine g_lv [0, 1, 2, 3, 4, 5, 6] rfl ?_
                              exact ih15 (k + 1) nm (uI y (((b - k) + ((g 18) a)) % ((g 18) a)) 1) (by omega) (by omega) (by rw [hea]; exact co_next hco (by omega) (by omega) (by omega) (by rw [← hcl]; omega) hnm9) (by omega)
                            refine g_aload_n C dX3_loose_214 rfl 0 rfl ?_
                            refine gm_get20 C dX3_loose_215 ?_
                            refine g_sipush C dX3_loose_218 (z := 400) rfl ?_
                            refine g_iload_n C dX3_loose_221 rfl 1 rfl ?_
                            refine g_imul C dX3_loose_222 ?_
                            refine g_iload C dX3_loose_223 7 rfl ?_
                            refine g_iload_n C dX3_loose_225 rfl 3 rfl ?_
                            refine g_iadd C dX3_loose_226 ?_
                            refine g_iload_n C dX3_loose_227 rfl 3 rfl ?_
                            refine g_irem C dX3_loose_228 (by omega) (by omega) ?_
                            refine g_iadd C dX3_loose_229 ?_
                            refine gm_ald20 C (v := (g 20) ((400 * a) + (((b - k) + ((g 18) a)) % ((g 18) a)))) rfl dX3_loose_230 (by omega) ?_
                            refine g_if_eq C (tgt := 238) dX3_loose_231 (by decide) (by omega) (fun hc231_20 => ?_) (fun hc231_20 => ?_)
                            ·
                              refine g_iconst C dX3_loose_238 ?_
                              exact J19 0 (by rw [← hea]; omega)
                            ·
                              refine g_iconst C dX3_loose_234 ?_
                              refine g_goto C (tgt := 239) dX3_loose_235 (by decide) ?_
                              exact J19 1 (by rw [← hea]; omega)
                          ·
                            refine g_iload C dX3_loose_194 4 rfl ?_
                            refine g_if_ne C (tgt := 202) dX3_loose_196 (by decide) (by omega) (fun hc196_21 => ?_) (fun hc196_21 => ?_)
                            ·
                              have hem := emod_in (a := b - k) (n := g 18 a) (by omega)
                              have hmw : (0 ≤ g 20 (400 * a + (b - k) % g 18 a) ∧ g 20 (400 * a + (b - k) % g 18 a) < 8) := (hPLa.2.2 _ hem.1 hem.2).1
                              have hea := emod_an (b - k) (g 18 a)
                              have hmw2 := hmw
                              rw [← hea] at hmw2 hem
                              refine g_aload_n C dX3_loose_202 rfl 0 rfl ?_
                              refine gm_get27 C dX3_loose_203 ?_
                              refine g_iload C dX3_loose_206 7 rfl ?_
                              refine g_iload_n C dX3_loose_208 rfl 3 rfl ?_
                              refine g_iadd C dX3_loose_209 ?_
                              refine g_iload_n C dX3_loose_210 rfl 3 rfl ?_
                              refine g_irem C dX3_loose_211 (by omega) (by omega) ?_
                              refine g_iconst C dX3_loose_212 ?_
                              refine gm_ast27 C (g' := (ug (ug (ug (ug g 22 (fgo (f 8) (g 14) (g 15) (g 16) (f 2) (f 3) (g 12) (g 19 a) (fun k => g 20 (400 * a + k)) (g 18 a))) 23 (fho (f 2) (f 3) (g 12) (g 19 a) (fun k => g 20 (400 * a + k)) (g 18 a))) 24 (fti (f 2) (f 3) (g 12) (g 19 a) (fun k => g 20 (400 * a + k)) (g 18 a))) 27 (uI y (((b - k) + ((g 18) a)) % ((g 18) a)) 1))) rfl dX3_loose_213 (by omega) rfl ?_
                              have J22 : ∀ (nm : Int), ((nm = 0 ∧ g 20 (400 * a + (b - k) % g 18 a) = 0) ∨ (nm = 1 ∧ g 20 (400 * a + (b - k) % g 18 a) ≠ 0)) → GO p l e (rmD 4 0 0) s mm args below meth c 10 D A A 0 0 (MX below D A (pI fun z w => ∃ f' g', sm_loose f g a b z f' g' ∧ w = mW D h f' g') xN args s (0) (0)) (mW D h (up (up (up f 1 0) 25 (fle (g 11) (g 10) (f 2) (f 3) (g 12) (g 19 a) (fun k => g 20 (400 * a + k)) (g 18 a))) 26 (plc (f 2) (f 3) (g 12) (g 19 a) (fun k => g 20 (400 * a + k)) (g 18 a))) (ug (ug (ug (ug g 22 (fgo (f 8) (g 14) (g 15) (g 16) (f 2) (f 3) (g 12) (g 19 a) (fun k => g 20 (400 * a + k)) (g 18 a))) 23 (fho (f 2) (f 3) (g 12) (g 19 a) (fun k => g 20 (400 * a + k)) (g 18 a))) 24 (fti (f 2) (f 3) (g 12) (g 19 a) (fun k => g 20 (400 * a + k)) (g 18 a))) 27 (uI y (((b - k) + ((g 18) a)) % ((g 18) a)) 1))) 239 [(0, .ref (h 36)), (1, .int (iI a)), (2, .int (iI b)), (3, .int (iI ((g 18) a))), (4, .int (iI cl)), (5, .int (iI mo)), (6, .int (iI k)), (7, .int (iI (b - k)))] [.int (iI nm)] := by
                                intro nm hnm9
                                refine g_istore C dX3_loose_239 (lv' := [(0, .ref (h 36)), (1, .int (iI a)), (2, .int (iI b)), (3, .int (iI ((g 18) a))), (4, .int (iI cl)), (5, .int (iI nm)), (6, .int (iI k)), (7, .int (iI (b - k)))]) [1, 2, 3, 4, 5, 0, 6, 7] rfl (Nat.le_of_ble_eq_true rfl) ?_
                                refine g_iinc C dX3_loose_241 6 rfl (lv' := [(0, .ref (h 36)), (1, .int (iI a)), (2, .int (iI b)), (3, .int (iI ((g 18) a))), (4, .int (iI cl)), (5, .int (iI nm)), (6, .int (iI (k + 1))), (7, .int (iI (b - k)))]) [1, 2, 3, 4, 5, 6, 0, 7] rfl (Nat.le_of_ble_eq_true rfl) ?_
                                refine g_goto C (tgt := 172) dX3_loose_244 (by decide) ?_
                                refine g_lv [0, 1, 2, 3, 4, 5, 6] rfl ?_
                                exact ih15 (k + 1) nm (uI y (((b - k) + ((g 18) a)) % ((g 18) a)) 1) (by omega) (by omega) (by rw [hea]; exact co_next hco (by omega) (by omega) (by omega) (by rw [← hcl]; omega) hnm9) (by omega)
                              refine g_aload_n C dX3_loose_214 rfl 0 rfl ?_
                              refine gm_get20 C dX3_loose_215 ?_
                              refine g_sipush C dX3_loose_218 (z := 400) rfl ?_
                              refine g_iload_n C dX3_loose_221 rfl 1 rfl ?_
                              refine g_imul C dX3_loose_222 ?_
                              refine g_iload C dX3_loose_223 7 rfl ?_
                              refine g_iload_n C dX3_loose_225 rfl 3 rfl ?_
                              refine g_iadd C dX3_loose_226 ?_
                              refine g_iload_n C dX3_loose_227 rfl 3 rfl ?_
                              refine g_irem C dX3_loose_228 (by omega) (by omega) ?_
                              refine g_iadd C dX3_loose_229 ?_
                              refine gm_ald20 C (v := (g 20) ((400 * a) + (((b - k) + ((g 18) a)) % ((g 18) a)))) rfl dX3_loose_230 (by omega) ?_
                              refine g_if_eq C (tgt := 238) dX3_loose_231 (by decide) (by omega) (fun hc231_23 => ?_) (fun hc231_23 => ?_)
                              ·
                                refine g_iconst C dX3_loose_238 ?_
                                exact J22 0 (by rw [← hea]; omega)
                              ·
                                refine g_iconst C dX3_loose_234 ?_
                                refine g_goto C (tgt := 239) dX3_loose_235 (by decide) ?_
                                exact J22 1 (by rw [← hea]; omega)
                            ·
                              refine g_goto C (tgt := 247) dX3_loose_199 (by decide) ?_
                              refine g_lv [0, 1, 2, 3, 4] rfl ?_
                              exact J9 y (co_stop hco (by rw [← hcl]; omega))
                  exact L15 _ 1 1 o1 (by omega) (by omega) (fun j h0 h1 => by rw [if_neg (by decide), show g 18 a + 1 - 1 = g 18 a by omega]; exact coA_o _ _ _ _ (fun j h0 h1 => (ho1 j h0 h1).symm) j h0 h1) (Nat.lt_succ_self _)
                refine g_iconst C dX3_loose_88 ?_
                refine g_istore C dX3_loose_89 (lv' := [(0, .ref (h 36)), (1, .int (iI a)), (2, .int (iI b)), (3, .int (iI ((g 18) a))), (4, .int (iI cl)), (5, .int (iI 1))]) [1, 2, 3, 4, 5, 0] rfl (Nat.le_of_ble_eq_true rfl) ?_
                refine g_iconst C dX3_loose_91 ?_
                refine g_istore C dX3_loose_92 (lv' := [(0, .ref (h 36)), (1, .int (iI a)), (2, .int (iI b)), (3, .int (iI ((g 18) a))), (4, .int (iI cl)), (5, .int (iI 1)), (6, .int (iI 0))]) [1, 2, 3, 4, 5, 6, 0] rfl (Nat.le_of_ble_eq_true rfl) ?_
                have L24 : ∀ (n : Nat) (k : Int) (mo : Int) (y : Int → Int), (0 ≤ k ∧ k ≤ g 18 a) → (mo = 0 ∨ mo = 1) → (∀ j, 0 ≤ j → j < g 18 a → coA (bP (plc (f 2) (f 3) (g 12) (g 19 a) (fun k => g 20 (400 * a + k)) (g 18 a) = g 19 a)) (g 18 a) (fun k => g 20 (400 * a + k)) 1 (g 18 a).toNat b (fun _ => 0) j = if mo = 0 then y j else coA (bP (plc (f 2) (f 3) (g 12) (g 19 a) (fun k => g 20 (400 * a + k)) (g 18 a) = g 19 a)) (g 18 a) (fun k => g 20 (400 * a + k)) 1 (g 18 a - k).toNat (b + k) y j) → (g 18 a - k).toNat < n → GO p l e (rmD 4 0 0) s mm args below meth c 10 D A A 0 0 (MX below D A (pI fun z w => ∃ f' g', sm_loose f g a b z f' g' ∧ w = mW D h f' g') xN args s (0) (0)) (mW D h (up (up (up f 1 0) 25 (fle (g 11) (g 10) (f 2) (f 3) (g 12) (g 19 a) (fun k => g 20 (400 * a + k)) (g 18 a))) 26 (plc (f 2) (f 3) (g 12) (g 19 a) (fun k => g 20 (400 * a + k)) (g 18 a))) (ug (ug (ug (ug g 22 (fgo (f 8) (g 14) (g 15) (g 16) (f 2) (f 3) (g 12) (g 19 a) (fun k => g 20 (400 * a + k)) (g 18 a))) 23 (fho (f 2) (f 3) (g 12) (g 19 a) (fun k => g 20 (400 * a + k)) (g 18 a))) 24 (fti (f 2) (f 3) (g 12) (g 19 a) (fun k => g 20 (400 * a + k)) (g 18 a))) 27 y)) 94 [(0, .ref (h 36)), (1, .int (iI a)), (2, .int (iI b)), (3, .int (iI ((g 18) a))), (4, .int (iI cl)), (5, .int (iI mo)), (6, .int (iI k))] [] := by
                  intro n
                  induction n with
                  | zero => intro k mo y hk hmo hco hm; exact absurd hm (Nat.not_lt_zero _)
                  | succ n ih24 =>
                    intro k mo y hk hmo hco hm24
                    refine g_iload C dX3_loose_94 6 rfl ?_
                    refine g_iload_n C dX3_loose_96 rfl 3 rfl ?_
                    refine g_icmp_ge C (tgt := 166) dX3_loose_97 (by decide) (by omega) (by omega) (fun hc97_25 => ?_) (fun hc97_25 => ?_)
                    ·
                      refine g_lv [0, 1, 2, 3, 4] rfl ?_
                      exact J8 y (co_stop hco (by rw [← hcl]; omega))
                    ·
                      refine g_iload C dX3_loose_100 5 rfl ?_
                      refine g_if_eq C (tgt := 166) dX3_loose_102 (by decide) (by omega) (fun hc102_26 => ?_) (fun hc102_26 => ?_)
                      ·
                        refine g_lv [0, 1, 2, 3, 4] rfl ?_
                        exact J8 y (co_stop hco (by rw [← hcl]; omega))
                      ·
                        refine g_iload_n C dX3_loose_105 rfl 2 rfl ?_
                        refine g_iload C dX3_loose_106 6 rfl ?_
                        refine g_iadd C dX3_loose_108 ?_
                        refine g_istore C dX3_loose_109 (lv' := [(0, .ref (h 36)), (1, .int (iI a)), (2, .int (iI b)), (3, .int (iI ((g 18) a))), (4, .int (iI cl)), (5, .int (iI mo)), (6, .int (iI k)), (7, .int (iI (b + k)))]) [1, 2, 3, 4, 5, 6, 7, 0] rfl (Nat.le_of_ble_eq_true rfl) ?_
                        refine g_iload C dX3_loose_111 7 rfl ?_
                        refine g_iload_n C dX3_loose_113 rfl 3 rfl ?_
                        refine g_icmp_lt C (tgt := 125) dX3_loose_114 (by decide) (by omega) (by omega) (fun hc114_27 => ?_) (fun hc114_27 => ?_)
                        ·
                          have hem := emod_in (a := b + k) (n := g 18 a) (by omega)
                          have hmw : (0 ≤ g 20 (400 * a + (b + k) % g 18 a) ∧ g 20 (400 * a + (b + k) % g 18 a) < 8) := (hPLa.2.2 _ hem.1 hem.2).1
                          refine g_aload_n C dX3_loose_125 rfl 0 rfl ?_
                          refine gm_get27 C dX3_loose_126 ?_
                          refine g_iload C dX3_loose_129 7 rfl ?_
                          refine g_iload_n C dX3_loose_131 rfl 3 rfl ?_
                          refine g_irem C dX3_loose_132 (by omega) (by omega) ?_
                          refine g_iconst C dX3_loose_133 ?_
                          refine gm_ast27 C (g' := (ug (ug (ug (ug g 22 (fgo (f 8) (g 14) (g 15) (g 16) (f 2) (f 3) (g 12) (g 19 a) (fun k => g 20 (400 * a + k)) (g 18 a))) 23 (fho (f 2) (f 3) (g 12) (g 19 a) (fun k => g 20 (400 * a + k)) (g 18 a))) 24 (fti (f 2) (f 3) (g 12) (g 19 a) (fun k => g 20 (400 * a + k)) (g 18 a))) 27 (uI y ((b + k) % ((g 18) a)) 1))) rfl dX3_loose_134 (by omega) rfl ?_
                          have J28 : ∀ (nm : Int), ((nm = 0 ∧ g 20 (400 * a + (b + k) % g 18 a) = 0) ∨ (nm = 1 ∧ g 20 (400 * a + (b + k) % g 18 a) ≠ 0)) → GO p l e (rmD 4 0 0) s mm args below meth c 10 D A A 0 0 (MX below D A (pI fun z w => ∃ f' g', sm_loose f g a b z f' g' ∧ w = mW D h f' g') xN args s (0) (0)) (mW D h (up (up (up f 1 0) 25 (fle (g 11) (g 10) (f 2) (f 3) (g 12) (g 19 a) (fun k => g 20 (400 * a + k)) (g 18 a))) 26 (plc (f 2) (f 3) (g 12) (g 19 a) (fun k => g 20 (400 * a + k)) (g 18 a))) (ug (ug (ug (ug g 22 (fgo (f 8) (g 14) (g 15) (g 16) (f 2) (f 3) (g 12) (g 19 a) (fun k => g 20 (400 * a + k)) (g 18 a))) 23 (fho (f 2) (f 3) (g 12) (g 19 a) (fun k => g 20 (400 * a + k)) (g 18 a))) 24 (fti (f 2) (f 3) (g 12) (g 19 a) (fun k => g 20 (400 * a + k)) (g 18 a))) 27 (uI y ((b + k) % ((g 18) a)) 1))) 158 [(0, .ref (h 36)), (1, .int (iI a)), (2, .int (iI b)), (3, .int (iI ((g 18) a))), (4, .int (iI cl)), (5, .int (iI mo)), (6, .int (iI k)), (7, .int (iI (b + k)))] [.int (iI nm)] := by
                            intro nm hnm9
                            refine g_istore C dX3_loose_158 (lv' := [(0, .ref (h 36)), (1, .int (iI a)), (2, .int (iI b)), (3, .int (iI ((g 18) a))), (4, .int (iI cl)), (5, .int (iI nm)), (6, .int (iI k)), (7, .int (iI (b + k)))]) [1, 2, 3, 4, 5, 0, 6, 7] rfl (Nat.le_of_ble_eq_true rfl) ?_
                            refine g_iinc C dX3_loose_160 6 rfl (lv' := [(0, .ref (h 36)), (1, .int (iI a)), (2, .int (iI b)), (3, .int (iI ((g 18) a))), (4, .int (iI cl)), (5, .int (iI nm)), (6, .int (iI (k + 1))), (7, .int (iI (b + k)))]) [1, 2, 3, 4, 5, 6, 0, 7] rfl (Nat.le_of_ble_eq_true rfl) ?_
                            refine g_goto C (tgt := 94) dX3_loose_163 (by decide) ?_
                            refine g_lv [0, 1, 2, 3, 4, 5, 6] rfl ?_
                            exact ih24 (k + 1) nm (uI y ((b + k) % ((g 18) a)) 1) (by omega) (by omega) (co_next hco (by omega) (by omega) (by omega) (by rw [← hcl]; omega) hnm9) (by omega)
                          refine g_aload_n C dX3_loose_135 rfl 0 rfl ?_
                          refine gm_get20 C dX3_loose_136 ?_
                          refine g_sipush C dX3_loose_139 (z := 400) rfl ?_
                          refine g_iload_n C dX3_loose_142 rfl 1 rfl ?_
                          refine g_imul C dX3_loose_143 ?_
                          refine g_iload C dX3_loose_144 7 rfl ?_
                          refine g_iload_n C dX3_loose_146 rfl 3 rfl ?_
                          refine g_irem C dX3_loose_147 (by omega) (by omega) ?_
                          refine g_iadd C dX3_loose_148 ?_
                          refine gm_ald20 C (v := (g 20) ((400 * a) + ((b + k) % ((g 18) a)))) rfl dX3_loose_149 (by omega) ?_
                          refine g_if_eq C (tgt := 157) dX3_loose_150 (by decide) (by omega) (fun hc150_29 => ?_) (fun hc150_29 => ?_)
                          ·
                            refine g_iconst C dX3_loose_157 ?_
                            exact J28 0 (by omega)
                          ·
                            refine g_iconst C dX3_loose_153 ?_
                            refine g_goto C (tgt := 158) dX3_loose_154 (by decide) ?_
                            exact J28 1 (by omega)
                        ·
                          refine g_iload C dX3_loose_117 4 rfl ?_
                          refine g_if_ne C (tgt := 125) dX3_loose_119 (by decide) (by omega) (fun hc119_30 => ?_) (fun hc119_30 => ?_)
                          ·
                            have hem := emod_in (a := b + k) (n := g 18 a) (by omega)
                            have hmw : (0 ≤ g 20 (400 * a + (b + k) % g 18 a) ∧ g 20 (400 * a + (b + k) % g 18 a) < 8) := (hPLa.2.2 _ hem.1 hem.2).1
                            refine g_aload_n C dX3_loose_125 rfl 0 rfl ?_
                            refine gm_get27 C dX3_loose_126 ?_
                            refine g_iload C dX3_loose_129 7 rfl ?_
                            refine g_iload_n C dX3_loose_131 rfl 3 rfl ?_
                            refine g_irem C dX3_loose_132 (by omega) (by omega) ?_
                            refine g_iconst C dX3_loose_133 ?_
                            refine gm_ast27 C (g' := (ug (ug (ug (ug g 22 (fgo (f 8) (g 14) (g 15) (g 16) (f 2) (f 3) (g 12) (g 19 a) (fun k => g 20 (400 * a + k)) (g 18 a))) 23 (fho (f 2) (f 3) (g 12) (g 19 a) (fun k => g 20 (400 * a + k)) (g 18 a))) 24 (fti (f 2) (f 3) (g 12) (g 19 a) (fun k => g 20 (400 * a + k)) (g 18 a))) 27 (uI y ((b + k) % ((g 18) a)) 1))) rfl dX3_loose_134 (by omega) rfl ?_
                            have J31 : ∀ (nm : Int), ((nm = 0 ∧ g 20 (400 * a + (b + k) % g 18 a) = 0) ∨ (nm = 1 ∧ g 20 (400 * a + (b + k) % g 18 a) ≠ 0)) → GO p l e (rmD 4 0 0) s mm args below meth c 10 D A A 0 0 (MX below D A (pI fun z w => ∃ f' g', sm_loose f g a b z f' g' ∧ w = mW D h f' g') xN args s (0) (0)) (mW D h (up (up (up f 1 0) 25 (fle (g 11) (g 10) (f 2) (f 3) (g 12) (g 19 a) (fun k => g 20 (400 * a + k)) (g 18 a))) 26 (plc (f 2) (f 3) (g 12) (g 19 a) (fun k => g 20 (400 * a + k)) (g 18 a))) (ug (ug (ug (ug g 22 (fgo (f 8) (g 14) (g 15) (g 16) (f 2) (f 3) (g 12) (g 19 a) (fun k => g 20 (400 * a + k)) (g 18 a))) 23 (fho (f 2) (f 3) (g 12) (g 19 a) (fun k => g 20 (400 * a + k)) (g 18 a))) 24 (fti (f 2) (f 3) (g 12) (g 19 a) (fun k => g 20 (400 * a + k)) (g 18 a))) 27 (uI y ((b + k) % ((g 18) a)) 1))) 158 [(0, .ref (h 36)), (1, .int (iI a)), (2, .int (iI b)), (3, .int (iI ((g 18) a))), (4, .int (iI cl)), (5, .int (iI mo)), (6, .int (iI k)), (7, .int (iI (b + k)))] [.int (iI nm)] := by
                              intro nm hnm9
                              refine g_istore C dX3_loose_158 (lv' := [(0, .ref (h 36)), (1, .int (iI a)), (2, .int (iI b)), (3, .int (iI ((g 18) a))), (4, .int (iI cl)), (5, .int (iI nm)), (6, .int (iI k)), (7, .int (iI (b + k)))]) [1, 2, 3, 4, 5, 0, 6, 7] rfl (Nat.le_of_ble_eq_true rfl) ?_
                              refine g_iinc C dX3_loose_160 6 rfl (lv' := [(0, .ref (h 36)), (1, .int (iI a)), (2, .int (iI b)), (3, .int (iI ((g 18) a))), (4, .int (iI cl)), (5, .int (iI nm)), (6, .int (iI (k + 1))), (7, .int (iI (b + k)))]) [1, 2, 3, 4, 5, 6, 0, 7] rfl (Nat.le_of_ble_eq_true rfl) ?_
                              refine g_goto C (tgt := 94) dX3_loose_163 (by decide) ?_
                              refine g_lv [0, 1, 2, 3, 4, 5, 6] rfl ?_
                              exact ih24 (k + 1) nm (uI y ((b + k) % ((g 18) a)) 1) (by omega) (by omega) (co_next hco (by omega) (by omega) (by omega) (by rw [← hcl]; omega) hnm9) (by omega)
                            refine g_aload_n C dX3_loose_135 rfl 0 rfl ?_
                            refine gm_get20 C dX3_loose_136 ?_
                            refine g_sipush C dX3_loose_139 (z := 400) rfl ?_
                            refine g_iload_n C dX3_loose_142 rfl 1 rfl ?_
                            refine g_imul C dX3_loose_143 ?_
                            refine g_iload C dX3_loose_144 7 rfl ?_
                            refine g_iload_n C dX3_loose_146 rfl 3 rfl ?_
                            refine g_irem C dX3_loose_147 (by omega) (by omega) ?_
                            refine g_iadd C dX3_loose_148 ?_
                            refine gm_ald20 C (v := (g 20) ((400 * a) + ((b + k) % ((g 18) a)))) rfl dX3_loose_149 (by omega) ?_
                            refine g_if_eq C (tgt := 157) dX3_loose_150 (by decide) (by omega) (fun hc150_32 => ?_) (fun hc150_32 => ?_)
                            ·
                              refine g_iconst C dX3_loose_157 ?_
                              exact J31 0 (by omega)
                            ·
                              refine g_iconst C dX3_loose_153 ?_
                              refine g_goto C (tgt := 158) dX3_loose_154 (by decide) ?_
                              exact J31 1 (by omega)
                          ·
                            refine g_goto C (tgt := 166) dX3_loose_122 (by decide) ?_
                            refine g_lv [0, 1, 2, 3, 4] rfl ?_
                            exact J8 y (co_stop hco (by rw [← hcl]; omega))
                exact L24 _ 0 1 y (by omega) (by omega) (fun j h0 h1 => by rw [if_neg (by decide), Int.sub_zero, Int.add_zero]; exact coA_o _ _ _ _ (fun j h0 h1 => (hz j h0 (by omega)).symm) j h0 h1) (Nat.lt_succ_self _)
              ·
                refine g_aload_n C dX3_loose_74 rfl 0 rfl ?_
                refine gm_get27 C dX3_loose_75 ?_
                refine g_iload C dX3_loose_78 5 rfl ?_
                refine g_iconst C dX3_loose_80 ?_
                refine gm_ast27 C (g' := (ug (ug (ug (ug g 22 (fgo (f 8) (g 14) (g 15) (g 16) (f 2) (f 3) (g 12) (g 19 a) (fun k => g 20 (400 * a + k)) (g 18 a))) 23 (fho (f 2) (f 3) (g 12) (g 19 a) (fun k => g 20 (400 * a + k)) (g 18 a))) 24 (fti (f 2) (f 3) (g 12) (g 19 a) (fun k => g 20 (400 * a + k)) (g 18 a))) 27 (uI y k 0))) rfl dX3_loose_81 (by omega) rfl ?_
                refine g_iinc C dX3_loose_82 5 rfl (lv' := [(0, .ref (h 36)), (1, .int (iI a)), (2, .int (iI b)), (3, .int (iI ((g 18) a))), (4, .int (iI cl)), (5, .int (iI (k + 1)))]) [1, 2, 3, 4, 5, 0] rfl (Nat.le_of_ble_eq_true rfl) ?_
                refine g_goto C (tgt := 68) dX3_loose_85 (by decide) ?_
                exact ih6 (k + 1) (uI y k 0) (by omega) (uI_all (P := fun j y => y = 0) hz rfl) (by omega)
          exact L6 _ 0 (g 27) (by omega) (fun j h0 h1 => absurd h1 (by omega)) (Nat.lt_succ_self _)
        refine g_aload_n C dX3_loose_45 rfl 0 rfl ?_
        refine gm_get26 C (v := plc (f 2) (f 3) (g 12) (g 19 a) (fun k => g 20 (400 * a + k)) (g 18 a)) rfl dX3_loose_46 ?_
        refine g_aload_n C dX3_loose_49 rfl 0 rfl ?_
        refine gm_get19 C dX3_loose_50 ?_
        refine g_iload_n C dX3_loose_53 rfl 1 rfl ?_
        refine gm_ald19 C (v := (g 19) a) rfl dX3_loose_54 (by omega) ?_
        refine g_icmp_ne C (tgt := 62) dX3_loose_55 (by decide) (by omega) (by omega) (fun hc55_33 => ?_) (fun hc55_33 => ?_)
        ·
          refine g_iconst C dX3_loose_62 ?_
          exact J5 0 ((bP_f (by omega)).symm)
        ·
          refine g_iconst C dX3_loose_58 ?_
          refine g_goto C (tgt := 63) dX3_loose_59 (by decide) ?_
          exact J5 1 ((bP_t (by omega)).symm)
      ·
        refine g_aload_n C dX3_loose_27 rfl 0 rfl ?_
        refine g_iconst C dX3_loose_28 ?_
        refine kX3_X3_fail 1 C  ⟨Nat.le_of_ble_eq_true rfl, Nat.le_of_ble_eq_true rfl⟩ (Nat.le_of_ble_eq_true rfl) ⟨Nat.le_of_ble_eq_true rfl, Nat.le_of_ble_eq_true rfl⟩ dX3_loose_29 ?_
        refine g_ws (ws' := mW D h (up f 1 1) g) rfl ?_
        exact g_iret C dX3_loose_32 rfl (Nat.le_of_ble_eq_true rfl) (Nat.le_of_ble_eq_true rfl) ⟨_, rfl, _, _, (Or.inl ⟨by omega, rfl, rfl, rfl⟩), rfl⟩

end MC6
