/-! ===== marks: what hangs together, told by labels ===== -/
/-- x and y are joined by steps of E -/
def Cn (E : Int → Int → Prop) (x y : Int) : Prop := ∀ R : Int → Int → Prop, (∀ a, R a a) → (∀ a b, R a b → R b a) → (∀ a b c, R a b → R b c → R a c) → (∀ a b, E a b → R a b) → R x y
theorem Cn.rf {E : Int → Int → Prop} (x : Int) : Cn E x x := fun _ h1 _ _ _ => h1 x
theorem Cn.sy {E : Int → Int → Prop} {x y : Int} (h : Cn E x y) : Cn E y x := fun R h1 h2 h3 h4 => h2 _ _ (h R h1 h2 h3 h4)
theorem Cn.tr {E : Int → Int → Prop} {x y z : Int} (h : Cn E x y) (k : Cn E y z) : Cn E x z := fun R h1 h2 h3 h4 => h3 _ _ _ (h R h1 h2 h3 h4) (k R h1 h2 h3 h4)
theorem Cn.ed {E : Int → Int → Prop} {x y : Int} (h : E x y) : Cn E x y := fun _ _ _ _ h4 => h4 _ _ h
theorem Cn.mono {E E' : Int → Int → Prop} {x y : Int} (hE : ∀ a b, E a b → Cn E' a b) (h : Cn E x y) : Cn E' x y := h (Cn E') (fun a => Cn.rf a) (fun _ _ q => q.sy) (fun _ _ _ q r => q.tr r) hE
theorem Cn.cg {E E' : Int → Int → Prop} {x y : Int} (hE : ∀ a b, E a b ↔ E' a b) : Cn E x y ↔ Cn E' x y := ⟨Cn.mono (fun a b q => Cn.ed ((hE a b).mp q)), Cn.mono (fun a b q => Cn.ed ((hE a b).mpr q))⟩
def In30 (x : Int) : Prop := 0 ≤ x ∧ x < 30
/-- labels tell what hangs together -/
def GI (E : Int → Int → Prop) (G : Int → Int) : Prop := (∀ a b, E a b → In30 a ∧ In30 b) ∧ (∀ x, In30 x → In30 (G x)) ∧ ∀ x y, In30 x → In30 y → (G x = G y ↔ Cn E x y)
def jn (G : Int → Int) (a b k : Int) : Int := if G k = G b then G a else G k
theorem Cn_none {E : Int → Int → Prop} (h : ∀ a b, ¬ E a b) {x y : Int} (q : Cn E x y) : x = y := q (fun a b => a = b) (fun _ => rfl) (fun _ _ e => e.symm) (fun _ _ _ e f => e.trans f) (fun a b e => absurd e (h a b))
theorem GI_0 {E : Int → Int → Prop} {G : Int → Int} (h : ∀ a b, ¬ E a b) (hG : ∀ x, In30 x → G x = x) : GI E G := ⟨fun a b e => absurd e (h a b), fun x hx => by rw [hG x hx]; exact hx, fun x y hx hy => ⟨fun e => by rw [hG x hx, hG y hy] at e; rw [e]; exact Cn.rf _, fun e => by rw [Cn_none h e]⟩⟩
theorem GI_cg {E E' : Int → Int → Prop} {G : Int → Int} (h : GI E G) (hE : ∀ a b, E a b ↔ E' a b) : GI E' G := ⟨fun a b e => h.1 a b ((hE a b).mpr e), h.2.1, fun x y hx hy => (h.2.2 x y hx hy).trans (Cn.cg hE)⟩
theorem GI_al {E : Int → Int → Prop} {G G' : Int → Int} (h : GI E G) (hG : ∀ x, In30 x → G' x = G x) : GI E G' := ⟨h.1, fun x hx => by rw [hG x hx]; exact h.2.1 x hx, fun x y hx hy => by rw [hG x hx, hG y hy]; exact h.2.2 x y hx hy⟩
/-- a step more -/
theorem GI_j {E E' : Int → Int → Prop} {G : Int → Int} {a b : Int} (h : GI E G) (ha : In30 a) (hb : In30 b) (hE : ∀ x y, E' x y ↔ (E x y ∨ (x = a ∧ y = b))) : GI E' (jn G a b) := by
  obtain ⟨h1, h2, h3⟩ := h
  have up : ∀ x y, Cn E x y → Cn E' x y := fun x y q => q.mono (fun u v e => Cn.ed ((hE u v).mpr (Or.inl e)))
  have ab : Cn E' a b := Cn.ed ((hE a b).mpr (Or.inr ⟨rfl, rfl⟩))
  refine ⟨fun x y e => ?_, fun x hx => ?_, fun x y hx hy => ⟨fun e => ?_, fun e => ?_⟩⟩
  · rcases (hE x y).mp e with e | ⟨rfl, rfl⟩
    · exact h1 x y e
    · exact ⟨ha, hb⟩
  · unfold jn
    split
    · exact h2 a ha
    · exact h2 x hx
  · unfold jn at e
    by_cases qx : G x = G b <;> by_cases qy : G y = G b
    · exact up _ _ ((h3 x y hx hy).mp (qx.trans qy.symm))
    · rw [if_pos qx, if_neg qy] at e
      exact (up _ _ ((h3 x b hx hb).mp qx)).tr (ab.sy.tr (up _ _ ((h3 a y ha hy).mp e)))
    · rw [if_neg qx, if_pos qy] at e
      exact (up _ _ ((h3 x a hx ha).mp e)).tr (ab.tr (up _ _ ((h3 b y hb hy).mp qy.symm)))
    · rw [if_neg qx, if_neg qy] at e
      exact up _ _ ((h3 x y hx hy).mp e)
  · have key : (In30 x ∧ In30 y ∧ jn G a b x = jn G a b y) ∨ x = y := e (fun u v => (In30 u ∧ In30 v ∧ jn G a b u = jn G a b v) ∨ u = v) (fun _ => Or.inr rfl) (fun u v q => by
        rcases q with ⟨q1, q2, q3⟩ | q
        · exact Or.inl ⟨q2, q1, q3.symm⟩
        · exact Or.inr q.symm) (fun u v w q r => by
        rcases q with ⟨q1, q2, q3⟩ | rfl
        · rcases r with ⟨r1, r2, r3⟩ | rfl
          · exact Or.inl ⟨q1, r2, q3.trans r3⟩
          · exact Or.inl ⟨q1, q2, q3⟩
        · exact r) (fun u v q => by
        left
        rcases (hE u v).mp q with q | ⟨rfl, rfl⟩
        · obtain ⟨q1, q2⟩ := h1 u v q
          have q3 := (h3 u v q1 q2).mpr (Cn.ed q)
          refine ⟨q1, q2, ?_⟩
          unfold jn
          rw [q3]
        · refine ⟨ha, hb, ?_⟩
          unfold jn
          by_cases z : G u = G v
          · rw [if_pos z, if_pos rfl]
          · rw [if_neg z, if_pos rfl])
    rcases key with ⟨-, -, k⟩ | k
    · exact k
    · rw [k]
/-- a step to itself changes nothing -/
theorem GI_l {E E' : Int → Int → Prop} {G : Int → Int} {a : Int} (h : GI E G) (ha : In30 a) (hE : ∀ x y, E' x y ↔ (E x y ∨ (x = a ∧ y = a))) : GI E' G := by
  have e : ∀ x, jn G a a x = G x := by
    intro x
    unfold jn
    split
    · rename_i q; exact q.symm
    · rfl
  exact GI_al (GI_j h ha ha hE) (fun x _ => (e x).symm)
/-! the marks -/
def mkb (bits p : Int) : Int := andI (shrI bits p) 1
theorem mkb_rg (bits p : Int) : 0 ≤ mkb bits p ∧ mkb bits p ≤ 1 := andI_1 _
def nA (pf ps : Int → Int) (p : Int) : Int := 6 * pf p + ps p
def nB (pf ps pk : Int → Int) (p : Int) : Int := if pk p = 1 then 6 * pf p + ps p else 6 * pf p + ps p + 1
def mks (np bits p : Int) : Prop := (0 ≤ p ∧ p < np ∧ p < 31) ∧ mkb bits p = 1
def LkE (F S : Int) (kd : Int → Int) (x y : Int) : Prop := ∃ f s, 0 ≤ f ∧ f + 1 < F ∧ 0 ≤ s ∧ s < S ∧ kd s = 1 ∧ x = 6 * f + s ∧ y = 6 * (f + 1) + s
def LkP (S : Int) (kd : Int → Int) (i k x y : Int) : Prop := ∃ f s, 0 ≤ f ∧ 0 ≤ s ∧ s < S ∧ kd s = 1 ∧ (f < i ∨ (f = i ∧ s < k)) ∧ x = 6 * f + s ∧ y = 6 * (f + 1) + s
def MkE (np : Int) (pf ps pk : Int → Int) (bits K x y : Int) : Prop := ∃ p, mks np bits p ∧ p < K ∧ x = nA pf ps p ∧ y = nB pf ps pk p
def mcn (bits K : Int) : Int := sumN (fun i => mkb bits (i : Int)) K.toNat
theorem mcn_s {bits k : Int} (h : 0 ≤ k) : mcn bits (k + 1) = mcn bits k + mkb bits k := by unfold mcn; rw [sumN_t _ h, Int.toNat_of_nonneg h]
theorem mcn_rg {bits k : Int} (h : 0 ≤ k) : 0 ≤ mcn bits k ∧ mcn bits k ≤ k := by
  have := sumN_rg (f := fun i => mkb bits (i : Int)) (n := k.toNat) (M := 1) (fun i _ => mkb_rg bits i) k.toNat (Nat.le_refl _)
  unfold mcn; omega
def m31 (np : Int) : Int := if np < 31 then np else 31
/-- the ends that have the label k -/
def enS (pf ps pk : Int → Int) (bits : Int) (G : Int → Int) (K k : Int) : Int := sumN (fun i => if mkb bits (i : Int) = 1 then bI (decide (G (nA pf ps i) = k)) + bI (decide (G (nB pf ps pk i) = k)) else 0) K.toNat
section ENS
variable {pf ps pk : Int → Int} {bits : Int} {G : Int → Int} {K k : Int}
theorem enS_y (h : 0 ≤ K) (hm : mkb bits K = 1) : enS pf ps pk bits G (K + 1) k = enS pf ps pk bits G K k + (bI (decide (G (nA pf ps K) = k)) + bI (decide (G (nB pf ps pk K) = k))) := by
  unfold enS; rw [sumN_t _ h, Int.toNat_of_nonneg h, if_pos hm]
theorem enS_n (h : 0 ≤ K) (hm : mkb bits K ≠ 1) : enS pf ps pk bits G (K + 1) k = enS pf ps pk bits G K k := by
  unfold enS; rw [sumN_t _ h, Int.toNat_of_nonneg h, if_neg hm, Int.add_zero]
theorem enS_rg (h : 0 ≤ K) : 0 ≤ enS pf ps pk bits G K k ∧ enS pf ps pk bits G K k ≤ 2 * K := by
  have := sumN_rg (f := fun i => if mkb bits (i : Int) = 1 then bI (decide (G (nA pf ps i) = k)) + bI (decide (G (nB pf ps pk i) = k)) else 0) (n := K.toNat) (M := 2) (fun i _ => by
    have h1 := bI_rg (decide (G (nA pf ps i) = k))
    have h2 := bI_rg (decide (G (nB pf ps pk i) = k))
    show 0 ≤ (if mkb bits (i : Int) = 1 then _ else _) ∧ (if mkb bits (i : Int) = 1 then _ else _) ≤ _
    split <;> omega) K.toNat (Nat.le_refl _)
  unfold enS; omega
theorem inc2 {y : Int → Int} {e : Int → Int} {u v : Int} (h : ∀ j, 0 ≤ j → j < 30 → y j = e j) (hu : In30 u) (hv : In30 v) : ∀ j, 0 ≤ j → j < 30 → uI (uI y u (y u + 1)) v (uI y u (y u + 1) v + 1) j = e j + (bI (decide (u = j)) + bI (decide (v = j))) := by
  intro j h0 h1
  by_cases e1 : v = j
  · rw [bI_d e1, ← e1, uI_s]
    by_cases e2 : u = v
    · rw [bI_d e2, e2, uI_s, h v hv.1 hv.2]; omega
    · rw [bI_dn e2, uI_n (fun z => e2 z.symm), h v hv.1 hv.2]; omega
  · rw [bI_dn e1, uI_n (fun z => e1 z.symm)]
    by_cases e2 : u = j
    · rw [bI_d e2, ← e2, uI_s, h u hu.1 hu.2]; omega
    · rw [bI_dn e2, uI_n (fun z => e2 z.symm), h j h0 h1]; omega
end ENS
/-- the ends in x's heap -/
noncomputable def enH (pf ps pk : Int → Int) (bits : Int) (E : Int → Int → Prop) (K x : Int) : Int := sumN (fun i => if mkb bits (i : Int) = 1 then bP (Cn E (nA pf ps i) x) + bP (Cn E (nB pf ps pk i) x) else 0) K.toNat
/-- one thread can go along the marks: few, ends even in each heap, all in one piece -/
def MKS (F S : Int) (kd : Int → Int) (np : Int) (pf ps pk : Int → Int) (bits : Int) : Prop :=
  mcn bits (m31 np) ≤ 10 ∧ (∀ x, In30 x → enH pf ps pk bits (LkE F S kd) (m31 np) x % 2 = 0) ∧
  ∀ p q, mks np bits p → mks np bits q → Cn (fun x y => LkE F S kd x y ∨ MkE np pf ps pk bits 31 x y) (nA pf ps p) (nA pf ps q)
theorem enS_H {pf ps pk : Int → Int} {bits : Int} {E : Int → Int → Prop} {G : Int → Int} {K x : Int} (hG : GI E G) (hx : In30 x) (hn : ∀ i, 0 ≤ i → i < K → In30 (nA pf ps i) ∧ In30 (nB pf ps pk i)) : enS pf ps pk bits G K (G x) = enH pf ps pk bits E K x := by
  unfold enS enH
  refine sumN_c _ (fun i hi => ?_)
  obtain ⟨h1, h2⟩ := hn i (by omega) (by omega)
  show (if _ then _ else _) = (if _ then _ else _)
  rw [bP_d, bP_d, bP_c (hG.2.2 _ _ h1 hx), bP_c (hG.2.2 _ _ h2 hx)]
/-- a label that no node has, has no ends -/
theorem enS_no {pf ps pk : Int → Int} {bits : Int} {G : Int → Int} {K k : Int} (hn : ∀ i, 0 ≤ i → i < K → In30 (nA pf ps i) ∧ In30 (nB pf ps pk i)) (h : ∀ x, In30 x → G x ≠ k) : enS pf ps pk bits G K k = 0 := by
  unfold enS
  have : ∀ n : Nat, (n : Int) ≤ K → sumN (fun i => if mkb bits (i : Int) = 1 then bI (decide (G (nA pf ps i) = k)) + bI (decide (G (nB pf ps pk i) = k)) else 0) n = 0 := by
    intro n
    induction n with
    | zero => intro _; rfl
    | succ n ih =>
      intro hn2
      obtain ⟨h1, h2⟩ := hn n (by omega) (by omega)
      show sumN _ n + (if mkb bits (n : Int) = 1 then bI (decide (G (nA pf ps n) = k)) + bI (decide (G (nB pf ps pk n) = k)) else 0) = 0
      rw [ih (by omega), bI_dn (h _ h1), bI_dn (h _ h2)]
      split <;> rfl
  by_cases q : 0 ≤ K
  · exact this K.toNat (by omega)
  · rw [show K.toNat = 0 by omega]; rfl
/-- no odd label, no odd heap -/
theorem EV_iff {pf ps pk : Int → Int} {bits : Int} {E : Int → Int → Prop} {G : Int → Int} {K : Int} (hG : GI E G) (hn : ∀ i, 0 ≤ i → i < K → In30 (nA pf ps i) ∧ In30 (nB pf ps pk i)) : (∀ k, 0 ≤ k → k < 30 → enS pf ps pk bits G K k % 2 ≠ 1) ↔ ∀ x, In30 x → enH pf ps pk bits E K x % 2 = 0 := by
  constructor
  · intro h x hx
    have h1 := hG.2.1 x hx
    have h2 := h (G x) h1.1 h1.2
    rw [enS_H hG hx hn] at h2
    omega
  · intro h k h0 h1
    by_cases q : ∃ x, In30 x ∧ G x = k
    · obtain ⟨x, hx, rfl⟩ := q
      rw [enS_H hG hx hn]
      have := h x hx
      omega
    · rw [enS_no hn (fun x hx e => q ⟨x, hx, e⟩)]
      decide
theorem LkP_0 {S : Int} {kd : Int → Int} : ∀ a b, ¬ LkP S kd 0 0 a b := fun a b ⟨f, s, h1, h2, h3, h4, h5, _⟩ => by omega
theorem LkP_n {S : Int} {kd : Int → Int} {i : Int} (a b : Int) : LkP S kd i S a b ↔ LkP S kd (i + 1) 0 a b := by
  constructor
  · rintro ⟨f, s, h1, h2, h3, h4, h5, h6⟩; exact ⟨f, s, h1, h2, h3, h4, by omega, h6⟩
  · rintro ⟨f, s, h1, h2, h3, h4, h5, h6⟩; exact ⟨f, s, h1, h2, h3, h4, by omega, h6⟩
theorem LkP_y {S : Int} {kd : Int → Int} {i k : Int} (hi : 0 ≤ i) (hk : 0 ≤ k) (hS : k < S) (hy : kd k = 1) (x y : Int) : LkP S kd i (k + 1) x y ↔ (LkP S kd i k x y ∨ (x = 6 * i + k ∧ y = 6 * (i + 1) + k)) := by
  constructor
  · rintro ⟨f, s, h1, h2, h3, h4, h5, h6⟩
    by_cases e : f = i ∧ s = k
    · obtain ⟨rfl, rfl⟩ := e; exact Or.inr h6
    · exact Or.inl ⟨f, s, h1, h2, h3, h4, by omega, h6⟩
  · rintro (⟨f, s, h1, h2, h3, h4, h5, h6⟩ | ⟨rfl, rfl⟩)
    · exact ⟨f, s, h1, h2, h3, h4, by omega, h6⟩
    · exact ⟨i, k, hi, hk, hS, hy, by omega, rfl, rfl⟩
theorem LkP_x {S : Int} {kd : Int → Int} {i k : Int} (hy : kd k ≠ 1) (x y : Int) : LkP S kd i k x y ↔ LkP S kd i (k + 1) x y := by
  constructor
  · rintro ⟨f, s, h1, h2, h3, h4, h5, h6⟩; exact ⟨f, s, h1, h2, h3, h4, by omega, h6⟩
  · rintro ⟨f, s, h1, h2, h3, h4, h5, h6⟩
    refine ⟨f, s, h1, h2, h3, h4, ?_, h6⟩
    by_cases e : s = k
    · subst e; exact absurd h4 hy
    · omega
theorem LkP_E {F S : Int} {kd : Int → Int} (hF : 1 ≤ F) (x y : Int) : LkP S kd (F - 1) 0 x y ↔ LkE F S kd x y := by
  constructor
  · rintro ⟨f, s, h1, h2, h3, h4, h5, h6⟩; exact ⟨f, s, h1, by omega, h2, h3, h4, h6⟩
  · rintro ⟨f, s, h1, h2, h3, h4, h5, h6⟩; exact ⟨f, s, h1, h3, h4, h5, by omega, h6⟩
section MKE
variable {np : Int} {pf ps pk : Int → Int} {bits K : Int} {L : Int → Int → Prop}
theorem MkE_0 (x y : Int) : L x y ↔ (L x y ∨ MkE np pf ps pk bits 0 x y) := ⟨Or.inl, fun h => h.elim id (fun ⟨p, h1, h2, _⟩ => absurd h2 (by have := h1.1.1; omega))⟩
theorem MkE_n (h : ¬ mks np bits K) (x y : Int) : (L x y ∨ MkE np pf ps pk bits K x y) ↔ (L x y ∨ MkE np pf ps pk bits (K + 1) x y) := by
  constructor
  · rintro (q | ⟨p, h1, h2, h3⟩)
    · exact Or.inl q
    · exact Or.inr ⟨p, h1, by omega, h3⟩
  · rintro (q | ⟨p, h1, h2, h3⟩)
    · exact Or.inl q
    · by_cases e : p = K
      · subst e; exact absurd h1 h
      · exact Or.inr ⟨p, h1, by omega, h3⟩
theorem MkE_y (h : mks np bits K) (x y : Int) : (L x y ∨ MkE np pf ps pk bits (K + 1) x y) ↔ ((L x y ∨ MkE np pf ps pk bits K x y) ∨ (x = nA pf ps K ∧ y = nB pf ps pk K)) := by
  constructor
  · rintro (q | ⟨p, h1, h2, h3⟩)
    · exact Or.inl (Or.inl q)
    · by_cases e : p = K
      · subst e; exact Or.inr h3
      · exact Or.inl (Or.inr ⟨p, h1, by omega, h3⟩)
  · rintro ((q | ⟨p, h1, h2, h3⟩) | ⟨h3, h4⟩)
    · exact Or.inl q
    · exact Or.inr ⟨p, h1, by omega, h3⟩
    · exact Or.inr ⟨K, h, by omega, h3, h4⟩
theorem MkE_31 (h : m31 np ≤ K) (x y : Int) : (L x y ∨ MkE np pf ps pk bits K x y) ↔ (L x y ∨ MkE np pf ps pk bits 31 x y) := by
  have key : ∀ p, mks np bits p → p < K := fun p hp => by have := hp.1; unfold m31 at h; split at h <;> omega
  constructor
  · rintro (q | ⟨p, h1, h2, h3⟩)
    · exact Or.inl q
    · exact Or.inr ⟨p, h1, h1.1.2.2, h3⟩
  · rintro (q | ⟨p, h1, h2, h3⟩)
    · exact Or.inl q
    · exact Or.inr ⟨p, h1, key p h1, h3⟩
end MKE
