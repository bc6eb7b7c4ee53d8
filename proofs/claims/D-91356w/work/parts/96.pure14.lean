/-! ===== Euler: a closed trail through all edges ===== -/
def ix (x z : Int) : Int := if x = z then 1 else 0
theorem ix_rg (x z : Int) : 0 ≤ ix x z ∧ ix x z ≤ 1 := by unfold ix; split <;> omega
theorem ix_s (x : Int) : ix x x = 1 := if_pos rfl
theorem ix_n {x z : Int} (h : x ≠ z) : ix x z = 0 := if_neg h
def sumS (f : Nat → Int) (S : Nat → Bool) (N : Nat) : Int := sumN (fun i => if S i = true then f i else 0) N
theorem sumS_s (f : Nat → Int) (S : Nat → Bool) (N : Nat) : sumS f S (N + 1) = sumS f S N + (if S N = true then f N else 0) := rfl
def lsum (f : Nat → Int) : List Nat → Int
  | [] => 0
  | e :: T => f e + lsum f T
theorem sumS_cg {f : Nat → Int} {S S' : Nat → Bool} {N : Nat} (h : ∀ i, i < N → S i = S' i) : sumS f S N = sumS f S' N := sumN_c N (fun i hi => by rw [h i hi])
theorem sumS_ins {f : Nat → Int} {S : Nat → Bool} {e : Nat} (hS : S e = false) : ∀ N : Nat, sumS f (fun i => i == e || S i) N = sumS f S N + (if e < N then f e else 0)
  | 0 => rfl
  | N + 1 => by
    have ih := sumS_ins (f := f) hS N
    rw [sumS_s, sumS_s, ih]
    by_cases q : N = e
    · subst q
      rw [if_neg (Nat.lt_irrefl _), if_pos (Nat.lt_succ_self _), hS]
      simp
    · have q2 : (N == e) = false := by simpa using q
      rw [q2, Bool.false_or]
      by_cases r : e < N
      · rw [if_pos r, if_pos (show e < N + 1 by omega)]; omega
      · rw [if_neg r, if_neg (show ¬ e < N + 1 by omega)]; omega
theorem lsum_S {f : Nat → Int} {N : Nat} : ∀ T : List Nat, T.Nodup → (∀ e ∈ T, e < N) → lsum f T = sumS f (fun i => T.contains i) N
  | [], _, _ => by
    show (0 : Int) = _
    have : ∀ N, sumS f (fun i => ([] : List Nat).contains i) N = 0 := by
      intro N
      induction N with
      | zero => rfl
      | succ N ih =>
        rw [sumS_s, ih]; simp
    exact (this N).symm
  | e :: T, hn, hl => by
    have ih := lsum_S (f := f) T (List.nodup_cons.mp hn).2 (fun x hx => hl x (List.mem_cons_of_mem _ hx))
    have he : T.contains e = false := by
      have := (List.nodup_cons.mp hn).1
      simpa using this
    have h2 := sumS_ins (f := f) (S := fun i => T.contains i) he N
    rw [if_pos (hl e List.mem_cons_self)] at h2
    show f e + lsum f T = _
    rw [ih, sumS_cg (S := fun i => (e :: T).contains i) (S' := fun i => i == e || T.contains i) (fun i _ => List.contains_cons), h2]
    omega
theorem sumS_1 (S : Nat → Bool) : ∀ N : Nat, 0 ≤ sumS (fun _ => 1) S N ∧ sumS (fun _ => 1) S N ≤ N
  | 0 => ⟨Int.le_refl _, Int.le_refl _⟩
  | N + 1 => by
    have ih := sumS_1 S N
    rw [sumS_s]
    split <;> omega
theorem lsum_1 : ∀ T : List Nat, lsum (fun _ => 1) T = T.length
  | [] => rfl
  | e :: T => by
    show 1 + lsum _ T = _
    rw [lsum_1 T, List.length_cons]; omega
theorem nd_len {T : List Nat} {N : Nat} (hn : T.Nodup) (hl : ∀ e ∈ T, e < N) : T.length ≤ N := by
  have h1 := lsum_S (f := fun _ => 1) T hn hl
  rw [lsum_1] at h1
  have := sumS_1 (fun i => T.contains i) N
  omega
theorem sumS_sub {f : Nat → Int} {S S' : Nat → Bool} (h : ∀ i, S i = true → S' i = true) : ∀ N : Nat, sumS f S' N = sumS f S N + sumS f (fun i => S' i && !S i) N
  | 0 => rfl
  | N + 1 => by
    have ih := sumS_sub (f := f) h N
    rw [sumS_s, sumS_s, sumS_s, ih]
    cases hs : S N with
    | true => rw [h N hs]; simp; omega
    | false => cases hs' : S' N <;> simp <;> omega
theorem sumS_pos {f : Nat → Int} {S : Nat → Bool} : ∀ N : Nat, 0 < sumS f S N → ∃ i, i < N ∧ S i = true ∧ 0 < f i
  | 0, h => absurd h (Int.lt_irrefl 0)
  | N + 1, h => by
    have h' := h
    rw [sumS_s] at h'
    by_cases q : 0 < sumS f S N
    · obtain ⟨i, h1, h2⟩ := sumS_pos N q
      exact ⟨i, by omega, h2⟩
    · by_cases r : S N = true
      · rw [if_pos r] at h'
        exact ⟨N, Nat.lt_succ_self _, r, by omega⟩
      · rw [if_neg r] at h'; omega
theorem sumS_nn {f : Nat → Int} (hf : ∀ i, 0 ≤ f i) (S : Nat → Bool) : ∀ N : Nat, 0 ≤ sumS f S N
  | 0 => Int.le_refl _
  | N + 1 => by
    have ih := sumS_nn hf S N
    have := hf N
    rw [sumS_s]
    split <;> omega
theorem sumS_one {f : Nat → Int} (hf : ∀ i, 0 ≤ f i) {S : Nat → Bool} {e : Nat} (hS : S e = true) (h : 0 < f e) : ∀ N : Nat, e < N → 0 < sumS f S N
  | 0, he => absurd he (Nat.not_lt_zero _)
  | N + 1, he => by
    have h0 := sumS_nn hf S N
    have h1 := hf N
    by_cases q : e = N
    · subst q
      rw [sumS_s, if_pos hS]; omega
    · have ih := sumS_one hf hS h N (by omega)
      rw [sumS_s]
      split <;> omega
section EUL
variable {U V : Nat → Int}
def Wk (U V : Nat → Int) : Int → List Nat → Int → Prop
  | x, [], y => x = y
  | x, e :: T, y => (x = U e ∧ Wk U V (V e) T y) ∨ (x = V e ∧ Wk U V (U e) T y)
theorem Wk_app : ∀ (A B : List Nat) (x y : Int), Wk U V x (A ++ B) y ↔ ∃ w, Wk U V x A w ∧ Wk U V w B y
  | [], B, x, y => ⟨fun h => ⟨x, rfl, h⟩, fun ⟨w, h1, h2⟩ => by have e : x = w := h1; rw [e]; exact h2⟩
  | e :: A, B, x, y => by
    constructor
    · rintro (⟨h1, h2⟩ | ⟨h1, h2⟩)
      · obtain ⟨w, h3, h4⟩ := (Wk_app A B _ _).mp h2
        exact ⟨w, Or.inl ⟨h1, h3⟩, h4⟩
      · obtain ⟨w, h3, h4⟩ := (Wk_app A B _ _).mp h2
        exact ⟨w, Or.inr ⟨h1, h3⟩, h4⟩
    · rintro ⟨w, ⟨h1, h2⟩ | ⟨h1, h2⟩, h3⟩
      · exact Or.inl ⟨h1, (Wk_app A B _ _).mpr ⟨w, h2, h3⟩⟩
      · exact Or.inr ⟨h1, (Wk_app A B _ _).mpr ⟨w, h2, h3⟩⟩
/-- how often an edge ends at z -/
def dgE (U V : Nat → Int) (z : Int) (e : Nat) : Int := ix (U e) z + ix (V e) z
theorem dgE_nn (z : Int) (e : Nat) : 0 ≤ dgE U V z e := by
  have h1 := ix_rg (U e) z; have h2 := ix_rg (V e) z; unfold dgE; omega
theorem dgE_pos {z : Int} {e : Nat} : 0 < dgE U V z e ↔ (U e = z ∨ V e = z) := by
  unfold dgE ix
  by_cases h : U e = z
  · rw [if_pos h]; split <;> simp [h]
  · rw [if_neg h]
    by_cases h2 : V e = z
    · rw [if_pos h2]; simp [h, h2]
    · rw [if_neg h2]; simp [h, h2]
theorem Wk_par (z : Int) : ∀ (T : List Nat) (x y : Int), Wk U V x T y → (lsum (dgE U V z) T + ix x z + ix y z) % 2 = 0
  | [], x, y, h => by
    have e : x = y := h
    subst e
    show ((0 : Int) + ix x z + ix x z) % 2 = 0
    omega
  | e :: T, x, y, h => by
    show (dgE U V z e + lsum (dgE U V z) T + ix x z + ix y z) % 2 = 0
    rcases h with ⟨h1, h2⟩ | ⟨h1, h2⟩
    · have ih := Wk_par z T _ _ h2
      rw [h1]; unfold dgE at ih ⊢; omega
    · have ih := Wk_par z T _ _ h2
      rw [h1]; unfold dgE at ih ⊢; omega
theorem even_cl {S : Nat → Bool} {N : Nat} {T : List Nat} {x z : Int} (hn : T.Nodup) (hl : ∀ e ∈ T, e < N ∧ S e = true) (hw : Wk U V x T x) : sumS (dgE U V z) (fun i => T.contains i) N % 2 = 0 := by
  have h := Wk_par (U := U) (V := V) z T x x hw
  rw [lsum_S T hn (fun e he => (hl e he).1)] at h
  omega
/-- a walk goes on until it closes -/
theorem clo {S : Nat → Bool} {N : Nat} (hR : ∀ z, sumS (dgE U V z) S N % 2 = 0) {w : Int} : ∀ (k : Nat) (C : List Nat) (z : Int), C.Nodup → (∀ e ∈ C, e < N ∧ S e = true) → Wk U V w C z → N ≤ C.length + k → (C = [] → 0 < sumS (dgE U V w) S N) → ∃ C' : List Nat, C' ≠ [] ∧ C'.Nodup ∧ (∀ e ∈ C', e < N ∧ S e = true) ∧ Wk U V w C' w := by
  intro k
  induction k with
  | zero =>
    intro C z hn hl hw hk h0
    by_cases hz : z = w ∧ C ≠ []
    · rw [hz.1] at hw; exact ⟨C, hz.2, hn, hl, hw⟩
    · exfalso
      have hlen := nd_len hn (fun e he => (hl e he).1)
      have hex : ∃ e, e < N ∧ S e = true ∧ C.contains e = false := by
        by_cases hC : C = []
        · obtain ⟨i, h1, h2, h3⟩ := sumS_pos N (h0 hC)
          exact ⟨i, h1, h2, by rw [hC]; rfl⟩
        · have hne : z ≠ w := fun q => hz ⟨q, hC⟩
          have hp := Wk_par (U := U) (V := V) z C w z hw
          rw [lsum_S C hn (fun e he => (hl e he).1), ix_s, ix_n (Ne.symm hne)] at hp
          have hs := sumS_sub (f := dgE U V z) (S := fun i => C.contains i) (S' := S) (fun i hi => (hl i (by simpa using hi)).2) N
          have h9 := sumS_nn (dgE_nn (U := U) (V := V) z) (fun i => S i && !C.contains i) N
          obtain ⟨i, h1, h2, h3⟩ := sumS_pos (f := dgE U V z) (S := fun i => S i && !C.contains i) N (by have := hR z; omega)
          simp only [Bool.and_eq_true, Bool.not_eq_true'] at h2
          exact ⟨i, h1, h2.1, h2.2⟩
      obtain ⟨e, h1, h2, h3⟩ := hex
      have := nd_len (T := e :: C) (N := N) (List.nodup_cons.mpr ⟨by simpa using h3, hn⟩) (fun x hx => by
        rcases List.mem_cons.mp hx with q | q
        · rw [q]; exact h1
        · exact (hl x q).1)
      rw [List.length_cons] at this
      omega
  | succ k ih =>
    intro C z hn hl hw hk h0
    by_cases hz : z = w ∧ C ≠ []
    · rw [hz.1] at hw; exact ⟨C, hz.2, hn, hl, hw⟩
    · have hex : ∃ e, e < N ∧ S e = true ∧ C.contains e = false ∧ (U e = z ∨ V e = z) := by
        by_cases hC : C = []
        · obtain ⟨i, h1, h2, h3⟩ := sumS_pos N (h0 hC)
          subst hC
          have e9 : w = z := hw
          exact ⟨i, h1, h2, rfl, by rw [← e9]; exact dgE_pos.mp h3⟩
        · have hne : z ≠ w := fun q => hz ⟨q, hC⟩
          have hp := Wk_par (U := U) (V := V) z C w z hw
          rw [lsum_S C hn (fun e he => (hl e he).1), ix_s, ix_n (Ne.symm hne)] at hp
          have hs := sumS_sub (f := dgE U V z) (S := fun i => C.contains i) (S' := S) (fun i hi => (hl i (by simpa using hi)).2) N
          have h9 := sumS_nn (dgE_nn (U := U) (V := V) z) (fun i => S i && !C.contains i) N
          obtain ⟨i, h1, h2, h3⟩ := sumS_pos (f := dgE U V z) (S := fun i => S i && !C.contains i) N (by have := hR z; omega)
          simp only [Bool.and_eq_true, Bool.not_eq_true'] at h2
          exact ⟨i, h1, h2.1, h2.2, dgE_pos.mp h3⟩
      obtain ⟨e, h1, h2, h3, h4⟩ := hex
      have hmem : e ∉ C := by simpa using h3
      have hn' : (C ++ [e]).Nodup := by
        rw [List.nodup_append]
        exact ⟨hn, List.nodup_cons.mpr ⟨List.not_mem_nil, List.nodup_nil⟩, fun a ha b hb q => hmem (by rw [List.mem_singleton.mp hb] at q; rw [← q]; exact ha)⟩
      have hl' : ∀ x ∈ C ++ [e], x < N ∧ S x = true := fun x hx => by
        rcases List.mem_append.mp hx with q | q
        · exact hl x q
        · rw [List.mem_singleton.mp q]; exact ⟨h1, h2⟩
      have hlen : (C ++ [e]).length = C.length + 1 := by simp
      rcases h4 with h4 | h4
      · exact ih (C ++ [e]) (V e) hn' hl' ((Wk_app C [e] w _).mpr ⟨z, hw, Or.inl ⟨h4.symm, rfl⟩⟩) (by omega) (fun q => by simp at q)
      · exact ih (C ++ [e]) (U e) hn' hl' ((Wk_app C [e] w _).mpr ⟨z, hw, Or.inr ⟨h4.symm, rfl⟩⟩) (by omega) (fun q => by simp at q)
def visT (U V : Nat → Int) (s : Int) (T : List Nat) (w : Int) : Prop := ∃ A B, T = A ++ B ∧ Wk U V s A w ∧ Wk U V w B s
theorem vis_e {s : Int} {T : List Nat} (hw : Wk U V s T s) {e : Nat} (he : e ∈ T) : visT U V s T (U e) ∧ visT U V s T (V e) := by
  obtain ⟨A, B, rfl⟩ := List.append_of_mem he
  obtain ⟨x, h1, h2⟩ := (Wk_app A (e :: B) s s).mp hw
  rcases h2 with ⟨h3, h4⟩ | ⟨h3, h4⟩
  · subst h3
    refine ⟨⟨A, e :: B, rfl, h1, Or.inl ⟨rfl, h4⟩⟩, ⟨A ++ [e], B, by simp, (Wk_app A [e] s _).mpr ⟨_, h1, Or.inl ⟨rfl, rfl⟩⟩, h4⟩⟩
  · subst h3
    refine ⟨⟨A ++ [e], B, by simp, (Wk_app A [e] s _).mpr ⟨_, h1, Or.inr ⟨rfl, rfl⟩⟩, h4⟩, ⟨A, e :: B, rfl, h1, Or.inr ⟨rfl, h4⟩⟩⟩
theorem euler {S : Nat → Bool} {N : Nat} (hR : ∀ z, sumS (dgE U V z) S N % 2 = 0) (hC : ∀ e f, e < N → f < N → S e = true → S f = true → Cn (fun x y => ∃ e, e < N ∧ S e = true ∧ x = U e ∧ y = V e) (U e) (U f)) : ∀ (k : Nat) (T : List Nat) (s : Int), T ≠ [] → T.Nodup → (∀ e ∈ T, e < N ∧ S e = true) → Wk U V s T s → N ≤ T.length + k → ∃ (T' : List Nat) (s' : Int), T' ≠ [] ∧ T'.Nodup ∧ (∀ e ∈ T', e < N ∧ S e = true) ∧ Wk U V s' T' s' ∧ ∀ e, e < N → S e = true → e ∈ T' := by
  intro k
  induction k with
  | zero =>
    intro T s h0 hn hl hw hk
    refine ⟨T, s, h0, hn, hl, hw, fun e h1 h2 => ?_⟩
    by_cases q : e ∈ T
    · exact q
    · have := nd_len (T := e :: T) (N := N) (List.nodup_cons.mpr ⟨q, hn⟩) (fun x hx => by
        rcases List.mem_cons.mp hx with q | q
        · rw [q]; exact h1
        · exact (hl x q).1)
      rw [List.length_cons] at this
      omega
  | succ k ih =>
    intro T s h0 hn hl hw hk
    by_cases hall : ∀ e, e < N → S e = true → e ∈ T
    · exact ⟨T, s, h0, hn, hl, hw, hall⟩
    · have hf : ∃ f, f < N ∧ S f = true ∧ f ∉ T := by
        refine Classical.byContradiction (fun q => hall (fun e h1 h2 => Classical.byContradiction (fun r => q ⟨e, h1, h2, r⟩)))
      obtain ⟨f, f1, f2, f3⟩ := hf
      obtain ⟨e0, he0⟩ := List.exists_mem_of_ne_nil T h0
      have hex : ∃ e w, e < N ∧ S e = true ∧ e ∉ T ∧ visT U V s T w ∧ (U e = w ∨ V e = w) := by
        refine Classical.byContradiction (fun q => ?_)
        have hno : ∀ e, e < N → S e = true → e ∉ T → ¬ visT U V s T (U e) ∧ ¬ visT U V s T (V e) := fun e h1 h2 h3 => ⟨fun r => q ⟨e, _, h1, h2, h3, r, Or.inl rfl⟩, fun r => q ⟨e, _, h1, h2, h3, r, Or.inr rfl⟩⟩
        have hc := hC e0 f (hl e0 he0).1 f1 (hl e0 he0).2 f2 (fun x y => visT U V s T x ↔ visT U V s T y) (fun _ => Iff.rfl) (fun _ _ h => h.symm) (fun _ _ _ h h' => h.trans h') (fun a b ⟨e, h1, h2, h3, h4⟩ => by
          subst h3 h4
          by_cases r : e ∈ T
          · have := vis_e hw r; exact ⟨fun _ => this.2, fun _ => this.1⟩
          · have := hno e h1 h2 r; exact ⟨fun z => absurd z this.1, fun z => absurd z this.2⟩)
        exact (hno f f1 f2 f3).1 (hc.mp (vis_e hw he0).1)
      obtain ⟨e, w, h1, h2, h3, ⟨A, B, hAB, hA, hB⟩, h5⟩ := hex
      have hsub := fun z => sumS_sub (f := dgE U V z) (S := fun i => T.contains i) (S' := S) (fun i hi => (hl i (by simpa using hi)).2) N
      obtain ⟨C, c1, c2, c3, c4⟩ := clo (U := U) (V := V) (S := fun i => S i && !T.contains i) (N := N) (fun z => by
          have g1 := hR z; have g2 := even_cl (U := U) (V := V) (z := z) hn hl hw; have g3 := hsub z; omega) (w := w) N [] w List.nodup_nil (fun _ h => nomatch h) rfl (by simp) (fun _ => sumS_one (dgE_nn w) (e := e) (by simp [h2, h3]) (dgE_pos.mpr h5) N h1)
      have hdis : ∀ x ∈ C, x ∉ T := fun x hx => by have := (c3 x hx).2; simp at this; exact this.2
      subst hAB
      refine ih (A ++ (C ++ B)) s (fun q => c1 (List.append_eq_nil_iff.mp (List.append_eq_nil_iff.mp q).2).1) ?_ (fun x hx => ?_) ((Wk_app A (C ++ B) s s).mpr ⟨w, hA, (Wk_app C B w s).mpr ⟨w, c4, hB⟩⟩) ?_
      · have hn2 := List.nodup_append.mp hn
        refine List.nodup_append.mpr ⟨hn2.1, List.nodup_append.mpr ⟨c2, hn2.2.1, fun a ha b hb q => hdis a ha (by rw [q]; exact List.mem_append_right _ hb)⟩, fun a ha b hb q => ?_⟩
        rcases List.mem_append.mp hb with r | r
        · exact hdis b r (by rw [← q]; exact List.mem_append_left _ ha)
        · exact hn2.2.2 a ha b r q
      · rcases List.mem_append.mp hx with r | r
        · exact hl x (List.mem_append_left _ r)
        · rcases List.mem_append.mp r with r | r
          · have := c3 x r; simp at this; exact ⟨this.1, this.2.1⟩
          · exact hl x (List.mem_append_right _ r)
      · have hlc : 0 < C.length := List.length_pos_iff.mpr c1
        simp only [List.length_append] at hk ⊢
        omega
theorem euler0 {S : Nat → Bool} {N : Nat} (hR : ∀ z, sumS (dgE U V z) S N % 2 = 0) (hC : ∀ e f, e < N → f < N → S e = true → S f = true → Cn (fun x y => ∃ e, e < N ∧ S e = true ∧ x = U e ∧ y = V e) (U e) (U f)) {e0 : Nat} (h1 : e0 < N) (h2 : S e0 = true) : ∃ (T' : List Nat) (s' : Int), T' ≠ [] ∧ T'.Nodup ∧ (∀ e ∈ T', e < N ∧ S e = true) ∧ Wk U V s' T' s' ∧ ∀ e, e < N → S e = true → e ∈ T' := by
  obtain ⟨C, c1, c2, c3, c4⟩ := clo (U := U) (V := V) hR (w := U e0) N [] (U e0) List.nodup_nil (fun _ h => nomatch h) rfl (by simp) (fun _ => sumS_one (dgE_nn _) h2 (dgE_pos.mpr (Or.inl rfl)) N h1)
  exact euler hR hC N C (U e0) c1 c2 c3 c4 (by omega)
end EUL
