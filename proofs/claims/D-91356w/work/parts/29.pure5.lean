/-! ===== running truths; thread that comes off ===== -/
theorem bA_t {P : Int → Prop} {k : Int} (h : bP (∀ j, 0 ≤ j → j < k → P j) ≠ 0) (hk : P k) : 1 = bP (∀ j, 0 ≤ j → j < k + 1 → P j) := by
  have q := bP_1 h
  exact (bP_t (fun j h0 h1 => by
    by_cases e : j = k
    · subst e; exact hk
    · exact q j h0 (by omega))).symm
theorem bA_0 {P : Int → Prop} {k : Int} (h : bP (∀ j, 0 ≤ j → j < k → P j) = 0) : 0 = bP (∀ j, 0 ≤ j → j < k + 1 → P j) := by
  have q := bP_0 h
  exact (bP_f (fun z => q (fun j h0 h1 => z j h0 (by omega)))).symm
theorem bA_1 {P : Int → Prop} {k : Int} (h0 : 0 ≤ k) (hk : ¬ P k) : 0 = bP (∀ j, 0 ≤ j → j < k + 1 → P j) := (bP_f (fun z => hk (z k h0 (by omega)))).symm
theorem bA_i {P : Int → Prop} : 1 = bP (∀ j, 0 ≤ j → j < 0 → P j) := (bP_t (fun j h0 h1 => absurd h1 (by omega))).symm
theorem bN_t {P Q : Prop} {c : Int} (hc : c = bP P) (h1 : c ≠ 0) (h2 : bP Q ≠ 0) : 1 = bP (P ∧ Q) := (bP_t ⟨bP_1 (hc ▸ h1), bP_1 h2⟩).symm
theorem bN_0 {P Q : Prop} {c : Int} (hc : c = bP P) (h1 : c = 0) : 0 = bP (P ∧ Q) := (bP_f (fun q => bP_0 (hc ▸ h1) q.1)).symm
theorem bN_1 {P Q : Prop} (h2 : bP Q = 0) : 0 = bP (P ∧ Q) := (bP_f (fun q => bP_0 h2 q.2)).symm
/-- thread comes off from a place on, one way, up to the first hole; cl: the way is closed -/
def coA (cl n : Int) (mv : Int → Int) (by_ : Int) : Nat → Int → (Int → Int) → Int → Int
  | 0, _, o => o
  | c + 1, a, o => if cl = 0 ∧ (a < 0 ∨ n ≤ a) then o else if mv (a % n) = 0 then uI o (a % n) 1 else coA cl n mv by_ c (a + by_) (uI o (a % n) 1)
section COA
variable {cl n : Int} {mv : Int → Int} {by_ : Int}
theorem coA_e (c : Nat) (a : Int) (o : Int → Int) : coA cl n mv by_ (c + 1) a o = if cl = 0 ∧ (a < 0 ∨ n ≤ a) then o else if mv (a % n) = 0 then uI o (a % n) 1 else coA cl n mv by_ c (a + by_) (uI o (a % n) 1) := rfl
theorem coA_mod (hcl : cl ≠ 0) : ∀ (c : Nat) (a b : Int) (o : Int → Int), a % n = b % n → coA cl n mv by_ c a o = coA cl n mv by_ c b o
  | 0, _, _, _, _ => rfl
  | c + 1, a, b, o, e => by
    have e2 : (a + by_) % n = (b + by_) % n := by rw [Int.add_emod, e, ← Int.add_emod]
    have h1 : ¬ (cl = 0 ∧ (a < 0 ∨ n ≤ a)) := fun q => hcl q.1
    have h2 : ¬ (cl = 0 ∧ (b < 0 ∨ n ≤ b)) := fun q => hcl q.1
    rw [coA_e, coA_e, if_neg h1, if_neg h2, e, coA_mod hcl c (a + by_) (b + by_) (uI o (b % n) 1) e2]
theorem coA_x {c : Nat} {a : Int} {o : Int → Int} (h : cl = 0 ∧ (a < 0 ∨ n ≤ a)) : coA cl n mv by_ (c + 1) a o = o := by rw [coA_e, if_pos h]
theorem coA_h {c : Nat} {a : Int} {o : Int → Int} (h : ¬ (cl = 0 ∧ (a < 0 ∨ n ≤ a))) (hm : mv (a % n) = 0) : coA cl n mv by_ (c + 1) a o = uI o (a % n) 1 := by rw [coA_e, if_neg h, if_pos hm]
theorem coA_n {c : Nat} {a : Int} {o : Int → Int} (h : ¬ (cl = 0 ∧ (a < 0 ∨ n ≤ a))) (hm : mv (a % n) ≠ 0) : coA cl n mv by_ (c + 1) a o = coA cl n mv by_ c (a + by_) (uI o (a % n) 1) := by rw [coA_e, if_neg h, if_neg hm]
theorem coA_o : ∀ (c : Nat) (a : Int) (o o' : Int → Int), (∀ j, 0 ≤ j → j < n → o j = o' j) → ∀ j, 0 ≤ j → j < n → coA cl n mv by_ c a o j = coA cl n mv by_ c a o' j
  | 0, _, _, _, h => h
  | c + 1, a, o, o', h => by
    intro j h0 h1
    have hu : ∀ j, 0 ≤ j → j < n → uI o (a % n) 1 j = uI o' (a % n) 1 j := by
      intro j h0 h1
      unfold uI
      split
      · rfl
      · exact h j h0 h1
    rw [coA_e, coA_e]
    split
    · exact h j h0 h1
    · split
      · exact hu j h0 h1
      · exact coA_o c _ _ _ hu j h0 h1
end COA
/-- the moves that are off -/
def offs (cl n : Int) (mv : Int → Int) (i : Int) : Int → Int := coA cl n mv (-1) n.toNat (i - 1) (coA cl n mv 1 n.toNat i (fun _ => 0))
/-- the folds that keep no thread: by bits -/
def LSok (v : Int) (G : Int → Prop) : Prop := (0 ≤ v ∧ v < 32) ∧ ∀ i : Fin 5, ((v / 2 ^ i.val) % 2 = 1 ↔ G (i.val : Int))
theorem LSok.clr {v f : Int} {G : Int → Prop} (h : LSok v G) (hf : 0 ≤ f ∧ f < 5) : LSok (clr v f) (fun i => G i ∧ i ≠ f) := by
  obtain ⟨h1, h2⟩ := h
  obtain ⟨a, ha⟩ := iI_nat (N := 32) (p := v) h1
  obtain ⟨b, hb⟩ := iI_nat (N := 5) (p := f) hf
  subst ha hb
  obtain ⟨q1, q2, q3⟩ := clr_ok a b
  refine ⟨⟨q1, q2⟩, fun i => ?_⟩
  rw [q3 i, h2 i]
  constructor
  · rintro ⟨z1, z2⟩; exact ⟨z1, fun e => z2 (by omega)⟩
  · rintro ⟨z1, z2⟩; exact ⟨z1, fun e => z2 (by omega)⟩
theorem LSok.cg {v : Int} {G G' : Int → Prop} (h : LSok v G) (e : ∀ i, 0 ≤ i → i < 5 → (G i ↔ G' i)) : LSok v G' := ⟨h.1, fun i => (h.2 i).trans (e _ (by omega) (by omega))⟩
theorem LSok.un {v w : Int} {G : Int → Prop} (h : LSok v G) (k : LSok w G) : v = w := by
  have e : ∀ i : Fin 5, ((v / 2 ^ i.val) % 2 = 1 ↔ (w / 2 ^ i.val) % 2 = 1) := fun i => (h.2 i).trans (k.2 i).symm
  have e0 : (v / 1) % 2 = 1 ↔ (w / 1) % 2 = 1 := e 0
  have e1 : (v / 2) % 2 = 1 ↔ (w / 2) % 2 = 1 := e 1
  have e2 : (v / 4) % 2 = 1 ↔ (w / 4) % 2 = 1 := e 2
  have e3 : (v / 8) % 2 = 1 ↔ (w / 8) % 2 = 1 := e 3
  have e4 : (v / 16) % 2 = 1 ↔ (w / 16) % 2 = 1 := e 4
  have h1 := h.1
  have k1 := k.1
  omega
theorem LSok.ful {F : Int} (h : 1 ≤ F ∧ F ≤ 5) : LSok (shlI 1 F - 1) (fun i => i < F) := by
  rcases (show F = 1 ∨ F = 2 ∨ F = 3 ∨ F = 4 ∨ F = 5 by omega) with rfl | rfl | rfl | rfl | rfl
  all_goals exact ⟨by decide +kernel, by decide +kernel⟩
theorem co_next {Z y mv : Int → Int} {cl n a a' by_ mo mo' : Int} {c c' : Nat} (hz : ∀ j, 0 ≤ j → j < n → Z j = if mo = 0 then y j else coA cl n mv by_ c a y j) (hmo : mo ≠ 0) (hc : c = c' + 1) (ha : a' = a + by_) (hb : ¬ (cl = 0 ∧ (a < 0 ∨ n ≤ a))) (hm : (mo' = 0 ∧ mv (a % n) = 0) ∨ (mo' = 1 ∧ mv (a % n) ≠ 0)) : ∀ j, 0 ≤ j → j < n → Z j = if mo' = 0 then uI y (a % n) 1 j else coA cl n mv by_ c' a' (uI y (a % n) 1) j := by
  intro j h0 h1
  rw [hz j h0 h1, if_neg hmo, hc, ha]
  rcases hm with ⟨m1, m2⟩ | ⟨m1, m2⟩
  · rw [if_pos m1, coA_h hb m2]
  · rw [if_neg (by omega), coA_n hb m2]
theorem co_stop {Z y mv : Int → Int} {cl n a by_ mo : Int} {c : Nat} (hz : ∀ j, 0 ≤ j → j < n → Z j = if mo = 0 then y j else coA cl n mv by_ c a y j) (h : mo = 0 ∨ c = 0 ∨ (cl = 0 ∧ (a < 0 ∨ n ≤ a))) : ∀ j, 0 ≤ j → j < n → y j = Z j := by
  intro j h0 h1
  rw [hz j h0 h1]
  by_cases e : mo = 0
  · rw [if_pos e]
  · rw [if_neg e]
    rcases h with h | h | h
    · exact absurd h e
    · subst h; rfl
    · cases c with
      | zero => rfl
      | succ c => rw [coA_x h]
def GL (F : Int) (P : Int → Prop) (fo : Int → Int) (k f : Int) : Prop := f < F ∧ ¬ ∃ j, 0 ≤ j ∧ j < k ∧ P j ∧ fo j = f
theorem GL_0 {v F : Int} {P : Int → Prop} {fo : Int → Int} (h : LSok v (fun i => i < F)) : LSok v (GL F P fo 0) := h.cg (fun i _ _ => ⟨fun q => ⟨q, fun ⟨j, h0, h1, _⟩ => absurd h1 (by omega)⟩, fun q => q.1⟩)
theorem GL_s {v F k : Int} {P : Int → Prop} {fo : Int → Int} (h : LSok v (GL F P fo k)) (hk : ¬ P k) : LSok v (GL F P fo (k + 1)) := h.cg (fun i _ _ => ⟨fun q => ⟨q.1, fun ⟨j, h0, h1, h2, h3⟩ => by
    by_cases e : j = k
    · subst e; exact hk h2
    · exact q.2 ⟨j, h0, by omega, h2, h3⟩⟩, fun q => ⟨q.1, fun ⟨j, h0, h1, h2⟩ => q.2 ⟨j, h0, by omega, h2⟩⟩⟩)
theorem GL_c {v F k : Int} {P : Int → Prop} {fo : Int → Int} (h : LSok v (GL F P fo k)) (h0 : 0 ≤ k) (hk : P k) (hf : 0 ≤ fo k ∧ fo k < 5) : LSok (clr v (fo k)) (GL F P fo (k + 1)) := (h.clr hf).cg (fun i _ _ => ⟨fun q => ⟨q.1.1, fun ⟨j, j0, j1, j2, j3⟩ => by
    by_cases e : j = k
    · subst e; exact q.2 j3.symm
    · exact q.1.2 ⟨j, j0, by omega, j2, j3⟩⟩, fun q => ⟨⟨q.1, fun ⟨j, j0, j1, j2⟩ => q.2 ⟨j, j0, by omega, j2⟩⟩, fun e => q.2 ⟨k, h0, by omega, hk, e.symm⟩⟩⟩)
theorem emod_in {a n : Int} (h : 0 < n) : 0 ≤ a % n ∧ a % n < n := ⟨Int.emod_nonneg a (by omega), Int.emod_lt_of_pos a h⟩
theorem emod_an (a n : Int) : (a + n) % n = a % n := by simp
theorem sumN_c {f g : Nat → Int} : ∀ n, (∀ i, i < n → f i = g i) → sumN f n = sumN g n
  | 0, _ => rfl
  | n + 1, h => by
    show sumN f n + f n = sumN g n + g n
    rw [sumN_c n (fun i hi => h i (by omega)), h n (by omega)]
/-- how a book swells at a station -/
def fswS (th : Int → Int) (k : Int) : Int := sumN (fun i => th (i : Int)) k.toNat
def fswP (T st_ : Int) (ps pk go : Int → Int) (k : Int) : Int := sumN (fun i => if pk (i : Int) = 0 ∧ (ps (i : Int) = st_ ∨ ps (i : Int) + 1 = st_) then T * go (i : Int) else 0) k.toNat
theorem fswS_s {th : Int → Int} {k : Int} (h : 0 ≤ k) : fswS th (k + 1) = fswS th k + th k := by
  unfold fswS; rw [sumN_t _ h, Int.toNat_of_nonneg h]
theorem fswP_y {T st_ : Int} {ps pk go : Int → Int} {k : Int} (h : 0 ≤ k) (q : pk k = 0 ∧ (ps k = st_ ∨ ps k + 1 = st_)) : fswP T st_ ps pk go (k + 1) = fswP T st_ ps pk go k + T * go k := by
  unfold fswP; rw [sumN_t _ h, Int.toNat_of_nonneg h, if_pos q]
theorem fswP_n {T st_ : Int} {ps pk go : Int → Int} {k : Int} (h : 0 ≤ k) (q : ¬ (pk k = 0 ∧ (ps k = st_ ∨ ps k + 1 = st_))) : fswP T st_ ps pk go (k + 1) = fswP T st_ ps pk go k := by
  unfold fswP; rw [sumN_t _ h, Int.toNat_of_nonneg h, if_neg q, Int.add_zero]
theorem GL_c' {v F k f : Int} {P : Int → Prop} {fo : Int → Int} (h : LSok v (GL F P fo k)) (h0 : 0 ≤ k) (hk : P k) (hf : fo k = f) (hf2 : 0 ≤ f ∧ f < 5) : LSok (clr v f) (GL F P fo (k + 1)) := by
  subst hf
  exact GL_c h h0 hk hf2
theorem coA_rg {cl n : Int} {mv : Int → Int} {by_ : Int} : ∀ (c : Nat) (a : Int) (o : Int → Int), (∀ j, 0 ≤ o j ∧ o j ≤ 1) → ∀ j, 0 ≤ coA cl n mv by_ c a o j ∧ coA cl n mv by_ c a o j ≤ 1
  | 0, _, _, h => h
  | c + 1, a, o, h => by
    have hu : ∀ j, 0 ≤ uI o (a % n) 1 j ∧ uI o (a % n) 1 j ≤ 1 := by
      intro j
      unfold uI
      split
      · omega
      · exact h j
    intro j
    rw [coA_e]
    split
    · exact h j
    · split
      · exact hu j
      · exact coA_rg c _ _ hu j
theorem offs_rg (cl n : Int) (mv : Int → Int) (i j : Int) : 0 ≤ offs cl n mv i j ∧ offs cl n mv i j ≤ 1 := coA_rg _ _ _ (coA_rg _ _ _ (fun _ => by omega)) j
