/-! ===== the class's search and the model's test of marks agree ===== -/
set_option maxHeartbeats 2000000 in
theorem bit_add {b j m : Nat} (hb : b < 10) (hj : j < 10) (h : (m / 2 ^ b) % 2 = 0) : ((m + 2 ^ b) / 2 ^ j) % 2 = 1 ↔ ((m / 2 ^ j) % 2 = 1 ∨ j = b) := by
  by_cases e : j = b
  · subst e
    refine ⟨fun _ => Or.inr rfl, fun _ => ?_⟩
    rcases (show j = 0 ∨ j = 1 ∨ j = 2 ∨ j = 3 ∨ j = 4 ∨ j = 5 ∨ j = 6 ∨ j = 7 ∨ j = 8 ∨ j = 9 by omega) with rfl | rfl | rfl | rfl | rfl | rfl | rfl | rfl | rfl | rfl <;> simp only [Nat.reducePow] at h ⊢ <;> omega
  · have key : ((m + 2 ^ b) / 2 ^ j) % 2 = (m / 2 ^ j) % 2 := by
      rcases (show b = 0 ∨ b = 1 ∨ b = 2 ∨ b = 3 ∨ b = 4 ∨ b = 5 ∨ b = 6 ∨ b = 7 ∨ b = 8 ∨ b = 9 by omega) with rfl | rfl | rfl | rfl | rfl | rfl | rfl | rfl | rfl | rfl <;> rcases (show j = 0 ∨ j = 1 ∨ j = 2 ∨ j = 3 ∨ j = 4 ∨ j = 5 ∨ j = 6 ∨ j = 7 ∨ j = 8 ∨ j = 9 by omega) with rfl | rfl | rfl | rfl | rfl | rfl | rfl | rfl | rfl | rfl <;> first | exact absurd rfl e | (simp only [Nat.reducePow] at h ⊢; omega)
    rw [key]
    exact ⟨Or.inl, fun h9 => h9.elim id (fun q => absurd q e)⟩
theorem bit_full : ∀ (n : Fin 11) (b : Fin 10), b.val < n.val → ((2 ^ n.val - 1) / 2 ^ b.val) % 2 = 1 := by decide +kernel
theorem bit_all {n m : Nat} (hn : n ≤ 10) (hm : m < 2 ^ n) (h : ∀ b : Nat, b < n → (m / 2 ^ b) % 2 = 1) : m = 2 ^ n - 1 := by
  have h0 := h 0; have h1 := h 1; have h2 := h 2; have h3 := h 3; have h4 := h 4; have h5 := h 5; have h6 := h 6; have h7 := h 7; have h8 := h 8; have h9 := h 9
  rcases (show n = 0 ∨ n = 1 ∨ n = 2 ∨ n = 3 ∨ n = 4 ∨ n = 5 ∨ n = 6 ∨ n = 7 ∨ n = 8 ∨ n = 9 ∨ n = 10 by omega) with rfl | rfl | rfl | rfl | rfl | rfl | rfl | rfl | rfl | rfl | rfl <;> simp only [Nat.reducePow] at hm h0 h1 h2 h3 h4 h5 h6 h7 h8 h9 ⊢ <;> omega
noncomputable def rp (E : Int → Int → Prop) (x : Int) : Int := Classical.epsilon (fun y => Cn E x y)
theorem rp_sp (E : Int → Int → Prop) (x : Int) : Cn E x (rp E x) := Classical.epsilon_spec (p := fun y => Cn E x y) ⟨x, Cn.rf x⟩
theorem rp_eq {E : Int → Int → Prop} {x y : Int} : rp E x = rp E y ↔ Cn E x y := by
  constructor
  · intro h
    have h1 := rp_sp E x
    rw [h] at h1
    exact h1.tr (rp_sp E y).sy
  · intro h
    have e : (fun z => Cn E x z) = (fun z => Cn E y z) := funext fun z => propext ⟨fun q => h.sy.tr q, fun q => h.tr q⟩
    unfold rp
    rw [e]
theorem fndF_ex {pf ps pk : Int → Int} {f s w : Int} : ∀ (n : Nat) (i : Int), 0 ≤ i → (∃ j, i ≤ j ∧ j < i + n ∧ pf j = f ∧ ps j = s ∧ pk j = w) → fndF pf ps pk f s w n i ≠ -1
  | 0, i, hi, ⟨j, h1, h2, _⟩ => by omega
  | n + 1, i, hi, ⟨j, h1, h2, h3⟩ => by
    unfold fndF
    split
    · omega
    · rename_i q
      exact fndF_ex n (i + 1) (by omega) ⟨j, by by_cases e : j = i; (subst e; exact absurd h3 q); omega, by omega, h3⟩
section MEQ
variable {F S np bits : Int} {kd pf ps pk bt a b c ht th : Int → Int}
/-- the parts' list: each lies where it may, each that may lie is there, once -/
def PPr (F S : Int) (kd : Int → Int) (f s w : Int) : Prop := (0 ≤ f ∧ f < F) ∧ ((w = 0 ∧ 0 ≤ s ∧ s + 1 < S) ∨ (w = 1 ∧ (0 ≤ s ∧ s < S) ∧ kd s = 2) ∨ (w = 2 ∧ (0 ≤ s ∧ s + 1 < S) ∧ kd s = 3))
def PLs (F S : Int) (kd : Int → Int) (np : Int) (pf ps pk : Int → Int) : Prop := (∀ i, 0 ≤ i → i < np → PPr F S kd (pf i) (ps i) (pk i)) ∧ (∀ f s w, PPr F S kd f s w → ∃ i, 0 ≤ i ∧ i < np ∧ pf i = f ∧ ps i = s ∧ pk i = w) ∧ ∀ i j, 0 ≤ i → i < np → 0 ≤ j → j < np → pf i = pf j → ps i = ps j → pk i = pk j → i = j
theorem fnd_ok (h : PLs F S kd np pf ps pk) {e : Int} (h0 : 0 ≤ e) (h1 : e < np) : fnd np pf ps pk (pf e) (ps e) (pk e) = e := by
  unfold fnd
  have hne := fndF_ex (pf := pf) (ps := ps) (pk := pk) (f := pf e) (s := ps e) (w := pk e) np.toNat 0 (Int.le_refl _) ⟨e, h0, by omega, rfl, rfl, rfl⟩
  have hr := fndF_rg (pf := pf) (ps := ps) (pk := pk) (f := pf e) (s := ps e) (w := pk e) np.toNat 0 (Int.le_refl _)
  rcases hr.2.2 with q | ⟨q1, q2, q3, q4⟩
  · exact absurd q hne
  · exact h.2.2 _ _ q1 (by omega) h0 h1 q2 q3 q4
theorem fnd_tr (h : PLs F S kd np pf ps pk) {f s w : Int} (hp : PPr F S kd f s w) : ∃ e, (0 ≤ e ∧ e < np) ∧ fnd np pf ps pk f s w = e ∧ pf e = f ∧ ps e = s ∧ pk e = w := by
  obtain ⟨e, h0, h1, rfl, rfl, rfl⟩ := h.2.1 f s w hp
  exact ⟨e, ⟨h0, h1⟩, fnd_ok h h0 h1, rfl, rfl, rfl⟩
theorem alg_n {p m : Int} (h1 : 1 ≤ m) (h2 : m ≤ 5) : alg np pf ps pk p m = fnd np pf ps pk (p / 2 / 6) (if m = 2 ∨ m = 4 then p / 2 % 6 - 1 else p / 2 % 6) (if m < 3 then 0 else if m < 5 then 2 else 1) := by
  unfold alg; rw [if_neg (by omega)]
theorem alg_f {p m : Int} (h : m = 0 ∨ 5 < m) : alg np pf ps pk p m = -1 := by unfold alg; rw [if_pos h]
/-- a move by the tables: free within a heap, or along a part -/
theorem mv_kind (hF : 1 ≤ F ∧ F ≤ 5) (hS : 2 ≤ S ∧ S ≤ 6) (hP : PLs F S kd np pf ps pk) (hT : TSk F S kd ht th np pf ps pk 480 a b c) {k : Int} (h0 : 0 ≤ k) (h1 : k < 480) (hne : a k ≠ -1) :
    PIn F S (k / 8) ∧ PIn F S (a k) ∧ ((c k = -1 ∧ Cn (LkE F S kd) (k / 8 / 2) (a k / 2)) ∨ ((0 ≤ c k ∧ c k < np) ∧ ((k / 8 / 2 = nA pf ps (c k) ∧ a k / 2 = nB pf ps pk (c k)) ∨ (k / 8 / 2 = nB pf ps pk (c k) ∧ a k / 2 = nA pf ps (c k))))) := by
  obtain ⟨t1, t2, t3⟩ := hT k h0 h1
  rw [t1] at hne
  have hl := ldT_ne (F := F) (S := S) (kd := kd) (p := k / 8) (m := k % 8) hne
  rw [if_neg hne] at t3
  have e1 : a k = lead F S kd (k / 8) (k % 8) := t1.trans hl.2.1
  have hin : PIn F S (k / 8) := ⟨by omega, by omega, hl.1.1, hl.1.2⟩
  have hin2 := lead_in (kd := kd) (m := k % 8) hF hS hin hl.2.2
  rw [← e1] at hin2
  refine ⟨hin, hin2, ?_⟩
  have hm : k % 8 = 0 ∨ k % 8 = 1 ∨ k % 8 = 2 ∨ k % 8 = 3 ∨ k % 8 = 4 ∨ k % 8 = 5 ∨ k % 8 = 6 ∨ k % 8 = 7 := by omega
  have hl2 := hl.2.2
  have hin0 := hin
  unfold PIn at hin0
  generalize hp : k / 8 = p at *
  rcases hm with m | m | m | m | m | m | m | m
  · rw [m] at e1 t3
    rw [alg_f (Or.inl rfl)] at t3
    rw [lead_0] at e1
    refine Or.inl ⟨t3, ?_⟩
    have : a k / 2 = p / 2 := by split at e1 <;> omega
    rw [this]; exact Cn.rf _
  · rw [m] at e1 t3 hl2
    obtain ⟨q1, q2⟩ := leadn_1 hl2
    obtain ⟨e, e0, e2, e3, e4, e5⟩ := fnd_tr hP (f := p / 2 / 6) (s := p / 2 % 6) (w := 0) ⟨by omega, Or.inl ⟨rfl, by omega, by omega⟩⟩
    rw [alg_n (by decide) (by decide)] at t3
    have t4 : c k = e := t3.trans e2
    rw [t4]
    refine Or.inr ⟨e0, Or.inl ⟨?_, ?_⟩⟩
    · unfold nA; rw [e3, e4]; omega
    · unfold nB; rw [if_neg (by omega), e3, e4]; omega
  · rw [m] at e1 t3 hl2
    obtain ⟨q1, q2⟩ := leadn_2 hl2
    obtain ⟨e, e0, e2, e3, e4, e5⟩ := fnd_tr hP (f := p / 2 / 6) (s := p / 2 % 6 - 1) (w := 0) ⟨by omega, Or.inl ⟨rfl, by omega, by omega⟩⟩
    rw [alg_n (by decide) (by decide)] at t3
    have t4 : c k = e := t3.trans e2
    rw [t4]
    refine Or.inr ⟨e0, Or.inr ⟨?_, ?_⟩⟩
    · unfold nB; rw [if_neg (by omega), e3, e4]; omega
    · unfold nA; rw [e3, e4]; omega
  · rw [m] at e1 t3 hl2
    obtain ⟨q1, q2⟩ := leadn_3 hl2
    obtain ⟨e, e0, e2, e3, e4, e5⟩ := fnd_tr hP (f := p / 2 / 6) (s := p / 2 % 6) (w := 2) ⟨by omega, Or.inr (Or.inr ⟨rfl, by omega, q1.2.2⟩)⟩
    rw [alg_n (by decide) (by decide)] at t3
    have t4 : c k = e := t3.trans e2
    rw [t4]
    refine Or.inr ⟨e0, Or.inl ⟨?_, ?_⟩⟩
    · unfold nA; rw [e3, e4]; omega
    · unfold nB; rw [if_neg (by omega), e3, e4]; omega
  · rw [m] at e1 t3 hl2
    obtain ⟨q1, q2⟩ := leadn_4 hl2
    obtain ⟨e, e0, e2, e3, e4, e5⟩ := fnd_tr hP (f := p / 2 / 6) (s := p / 2 % 6 - 1) (w := 2) ⟨by omega, Or.inr (Or.inr ⟨rfl, by omega, q1.2.2⟩)⟩
    rw [alg_n (by decide) (by decide)] at t3
    have t4 : c k = e := t3.trans e2
    rw [t4]
    refine Or.inr ⟨e0, Or.inr ⟨?_, ?_⟩⟩
    · unfold nB; rw [if_neg (by omega), e3, e4]; omega
    · unfold nA; rw [e3, e4]; omega
  · rw [m] at e1 t3 hl2
    obtain ⟨q1, q2⟩ := leadn_5 hl2
    obtain ⟨e, e0, e2, e3, e4, e5⟩ := fnd_tr hP (f := p / 2 / 6) (s := p / 2 % 6) (w := 1) ⟨by omega, Or.inr (Or.inl ⟨rfl, by omega, q1.2⟩)⟩
    rw [alg_n (by decide) (by decide)] at t3
    have t4 : c k = e := t3.trans e2
    rw [t4]
    refine Or.inr ⟨e0, Or.inl ⟨?_, ?_⟩⟩
    · unfold nA; rw [e3, e4]; omega
    · unfold nB; rw [if_pos e5, e3, e4]; omega
  · rw [m] at e1 t3 hl2
    obtain ⟨q1, q2⟩ := leadn_6 hl2
    rw [alg_f (Or.inr (by decide))] at t3
    exact Or.inl ⟨t3, Cn.ed ⟨p / 2 / 6, p / 2 % 6, by omega, by omega, by omega, by omega, q1.2.1, by omega, by omega⟩⟩
  · rw [m] at e1 t3 hl2
    obtain ⟨q1, q2⟩ := leadn_7 hl2
    rw [alg_f (Or.inr (by decide))] at t3
    exact Or.inl ⟨t3, Cn.sy (Cn.ed ⟨p / 2 / 6 - 1, p / 2 % 6, by omega, by omega, by omega, by omega, q1.2.1, by omega, by omega⟩)⟩
/-- a move of the tables, by its place and number -/
theorem mv_at (hT : TSk F S kd ht th np pf ps pk 480 a b c) {p m : Int} (hp : PIn F S p) (hm : 0 ≤ m ∧ m < 8) (hl : lead F S kd p m ≠ -1) : (0 ≤ 8 * p + m ∧ 8 * p + m < 480) ∧ (8 * p + m) / 8 = p ∧ a (8 * p + m) = lead F S kd p m ∧ c (8 * p + m) = alg np pf ps pk p m := by
  unfold PIn at hp
  have e1 : (8 * p + m) / 8 = p := by omega
  have e2 : (8 * p + m) % 8 = m := by omega
  obtain ⟨t1, t2, t3⟩ := hT (8 * p + m) (by omega) (by omega)
  have e3 : LDc F S kd (8 * p + m) = lead F S kd p m := by unfold LDc ldT; rw [e1, e2, if_pos ⟨hp.2.2.1, hp.2.2.2⟩]
  rw [e3] at t1 t3
  rw [if_neg hl, e1, e2] at t3
  exact ⟨by omega, e1, t1, t3⟩
/-- along each part, both ways -/
theorem part_fw (hP : PLs F S kd np pf ps pk) (hF : 1 ≤ F ∧ F ≤ 5) (hS : 2 ≤ S ∧ S ≤ 6) (hT : TSk F S kd ht th np pf ps pk 480 a b c) {e : Int} (h0 : 0 ≤ e) (h1 : e < np) : (∃ k, (0 ≤ k ∧ k < 480) ∧ a k ≠ -1 ∧ c k = e ∧ k / 8 / 2 = nA pf ps e ∧ a k / 2 = nB pf ps pk e) ∧ ∃ k, (0 ≤ k ∧ k < 480) ∧ a k ≠ -1 ∧ c k = e ∧ k / 8 / 2 = nB pf ps pk e ∧ a k / 2 = nA pf ps e := by
  obtain ⟨p1, p2⟩ := hP.1 e h0 h1
  have hf := fnd_ok hP h0 h1
  rcases p2 with ⟨q1, q2, q3⟩ | ⟨q1, q2, q3⟩ | ⟨q1, q2, q3⟩
  · have x1 : lead F S kd (2 * (6 * pf e + ps e) + 1) 1 = 2 * (6 * pf e + ps e) + 3 := by rw [lead_1, if_pos (by omega)]; omega
    have x2 : lead F S kd (2 * (6 * pf e + ps e) + 3) 2 = 2 * (6 * pf e + ps e) + 1 := by rw [lead_2, if_pos (by omega)]; omega
    obtain ⟨y1, y2, y3, y4⟩ := mv_at hT (p := 2 * (6 * pf e + ps e) + 1) (m := 1) (by unfold PIn; omega) (by omega) (by omega)
    obtain ⟨z1, z2, z3, z4⟩ := mv_at hT (p := 2 * (6 * pf e + ps e) + 3) (m := 2) (by unfold PIn; omega) (by omega) (by omega)
    rw [alg_n (by decide) (by decide)] at y4 z4
    have y5 : c (8 * (2 * (6 * pf e + ps e) + 1) + 1) = e := by
      rw [y4]
      show fnd np pf ps pk ((2 * (6 * pf e + ps e) + 1) / 2 / 6) ((2 * (6 * pf e + ps e) + 1) / 2 % 6) 0 = e
      rw [show (2 * (6 * pf e + ps e) + 1) / 2 / 6 = pf e by omega, show (2 * (6 * pf e + ps e) + 1) / 2 % 6 = ps e by omega, ← q1]; exact hf
    have z5 : c (8 * (2 * (6 * pf e + ps e) + 3) + 2) = e := by
      rw [z4]
      show fnd np pf ps pk ((2 * (6 * pf e + ps e) + 3) / 2 / 6) ((2 * (6 * pf e + ps e) + 3) / 2 % 6 - 1) 0 = e
      rw [show (2 * (6 * pf e + ps e) + 3) / 2 / 6 = pf e by omega, show (2 * (6 * pf e + ps e) + 3) / 2 % 6 - 1 = ps e by omega, ← q1]; exact hf
    unfold nA nB
    rw [if_neg (by omega)]
    exact ⟨⟨_, y1, by omega, y5, by omega, by omega⟩, ⟨_, z1, by omega, z5, by omega, by omega⟩⟩
  · have x1 : lead F S kd (2 * (6 * pf e + ps e)) 5 = 2 * (6 * pf e + ps e) := by rw [lead_5, if_pos ⟨by omega, by rw [show 2 * (6 * pf e + ps e) / 2 % 6 = ps e by omega]; exact q3⟩]
    obtain ⟨y1, y2, y3, y4⟩ := mv_at hT (p := 2 * (6 * pf e + ps e)) (m := 5) (by unfold PIn; omega) (by omega) (by omega)
    rw [alg_n (by decide) (by decide)] at y4
    have y5 : c (8 * (2 * (6 * pf e + ps e)) + 5) = e := by
      rw [y4]
      show fnd np pf ps pk (2 * (6 * pf e + ps e) / 2 / 6) (2 * (6 * pf e + ps e) / 2 % 6) 1 = e
      rw [show 2 * (6 * pf e + ps e) / 2 / 6 = pf e by omega, show 2 * (6 * pf e + ps e) / 2 % 6 = ps e by omega, ← q1]; exact hf
    unfold nA nB
    rw [if_pos q1]
    exact ⟨⟨_, y1, by omega, y5, by omega, by omega⟩, ⟨_, y1, by omega, y5, by omega, by omega⟩⟩
  · have x1 : lead F S kd (2 * (6 * pf e + ps e)) 3 = 2 * (6 * pf e + ps e) + 2 := by rw [lead_3, if_pos ⟨by omega, by omega, by rw [show 2 * (6 * pf e + ps e) / 2 % 6 = ps e by omega]; exact q3⟩]
    have x2 : lead F S kd (2 * (6 * pf e + ps e) + 2) 4 = 2 * (6 * pf e + ps e) := by rw [lead_4, if_pos ⟨by omega, by omega, by rw [show (2 * (6 * pf e + ps e) + 2) / 2 % 6 - 1 = ps e by omega]; exact q3⟩]; omega
    obtain ⟨y1, y2, y3, y4⟩ := mv_at hT (p := 2 * (6 * pf e + ps e)) (m := 3) (by unfold PIn; omega) (by omega) (by omega)
    obtain ⟨z1, z2, z3, z4⟩ := mv_at hT (p := 2 * (6 * pf e + ps e) + 2) (m := 4) (by unfold PIn; omega) (by omega) (by omega)
    rw [alg_n (by decide) (by decide)] at y4 z4
    have y5 : c (8 * (2 * (6 * pf e + ps e)) + 3) = e := by
      rw [y4]
      show fnd np pf ps pk (2 * (6 * pf e + ps e) / 2 / 6) (2 * (6 * pf e + ps e) / 2 % 6) 2 = e
      rw [show 2 * (6 * pf e + ps e) / 2 / 6 = pf e by omega, show 2 * (6 * pf e + ps e) / 2 % 6 = ps e by omega, ← q1]; exact hf
    have z5 : c (8 * (2 * (6 * pf e + ps e) + 2) + 4) = e := by
      rw [z4]
      show fnd np pf ps pk ((2 * (6 * pf e + ps e) + 2) / 2 / 6) ((2 * (6 * pf e + ps e) + 2) / 2 % 6 - 1) 2 = e
      rw [show (2 * (6 * pf e + ps e) + 2) / 2 / 6 = pf e by omega, show (2 * (6 * pf e + ps e) + 2) / 2 % 6 - 1 = ps e by omega, ← q1]; exact hf
    unfold nA nB
    rw [if_neg (by omega)]
    exact ⟨⟨_, y1, by omega, y5, by omega, by omega⟩, ⟨_, z1, by omega, z5, by omega, by omega⟩⟩
end MEQ
