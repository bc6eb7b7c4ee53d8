/-! ===== what moves do: shared by both sides ===== -/
/-- where a move leads from a place; -1: nowhere. F folds, S stations, kd the stations' kinds -/
def lead (F S : Int) (kd : Int → Int) (p m : Int) : Int :=
  if m = 0 then (if p % 2 = 1 then p - 1 else p + 1)
  else if m = 1 then (if p % 2 = 1 ∧ p / 2 % 6 + 1 < S then p + 2 else -1)
  else if m = 2 then (if p % 2 = 1 ∧ 0 < p / 2 % 6 then p - 2 else -1)
  else if m = 3 then (if p % 2 ≠ 1 ∧ p / 2 % 6 + 1 < S ∧ kd (p / 2 % 6) = 3 then p + 2 else -1)
  else if m = 4 then (if p % 2 ≠ 1 ∧ 0 < p / 2 % 6 ∧ kd (p / 2 % 6 - 1) = 3 then p - 2 else -1)
  else if m = 5 then (if p % 2 ≠ 1 ∧ kd (p / 2 % 6) = 2 then p else -1)
  else if m = 6 then (if p % 2 ≠ 1 ∧ kd (p / 2 % 6) = 1 ∧ p / 2 / 6 + 1 < F then p + 12 else -1)
  else (if p % 2 ≠ 1 ∧ kd (p / 2 % 6) = 1 ∧ 0 < p / 2 / 6 then p - 12 else -1)
/-- how long a move is -/
def leng (ht th : Int → Int) (p m : Int) : Int :=
  if m = 0 then 1
  else if m = 1 then ht (p / 2 % 6 + 1) - ht (p / 2 % 6)
  else if m = 2 then ht (p / 2 % 6) - ht (p / 2 % 6 - 1)
  else if m = 3 then ht (p / 2 % 6 + 1) - ht (p / 2 % 6) + 2
  else if m = 4 then ht (p / 2 % 6) - ht (p / 2 % 6 - 1) + 2
  else if m = 5 then 4
  else if m = 6 then (th (p / 2 / 6) + th (p / 2 / 6 + 1) + 1) / 2
  else (th (p / 2 / 6) + th (p / 2 / 6 - 1) + 1) / 2
theorem lead_0 (F S : Int) (kd : Int → Int) (p : Int) : lead F S kd p 0 = (if p % 2 = 1 then p - 1 else p + 1) := by unfold lead; rw [if_pos rfl]
theorem lead_1 (F S : Int) (kd : Int → Int) (p : Int) : lead F S kd p 1 = (if p % 2 = 1 ∧ p / 2 % 6 + 1 < S then p + 2 else -1) := by unfold lead; rw [if_neg (by decide)]; rw [if_pos rfl]
theorem lead_2 (F S : Int) (kd : Int → Int) (p : Int) : lead F S kd p 2 = (if p % 2 = 1 ∧ 0 < p / 2 % 6 then p - 2 else -1) := by unfold lead; rw [if_neg (by decide)]; rw [if_neg (by decide)]; rw [if_pos rfl]
theorem lead_3 (F S : Int) (kd : Int → Int) (p : Int) : lead F S kd p 3 = (if p % 2 ≠ 1 ∧ p / 2 % 6 + 1 < S ∧ kd (p / 2 % 6) = 3 then p + 2 else -1) := by unfold lead; rw [if_neg (by decide)]; rw [if_neg (by decide)]; rw [if_neg (by decide)]; rw [if_pos rfl]
theorem lead_4 (F S : Int) (kd : Int → Int) (p : Int) : lead F S kd p 4 = (if p % 2 ≠ 1 ∧ 0 < p / 2 % 6 ∧ kd (p / 2 % 6 - 1) = 3 then p - 2 else -1) := by unfold lead; rw [if_neg (by decide)]; rw [if_neg (by decide)]; rw [if_neg (by decide)]; rw [if_neg (by decide)]; rw [if_pos rfl]
theorem lead_5 (F S : Int) (kd : Int → Int) (p : Int) : lead F S kd p 5 = (if p % 2 ≠ 1 ∧ kd (p / 2 % 6) = 2 then p else -1) := by unfold lead; rw [if_neg (by decide)]; rw [if_neg (by decide)]; rw [if_neg (by decide)]; rw [if_neg (by decide)]; rw [if_neg (by decide)]; rw [if_pos rfl]
theorem lead_6 (F S : Int) (kd : Int → Int) (p : Int) : lead F S kd p 6 = (if p % 2 ≠ 1 ∧ kd (p / 2 % 6) = 1 ∧ p / 2 / 6 + 1 < F then p + 12 else -1) := by unfold lead; rw [if_neg (by decide)]; rw [if_neg (by decide)]; rw [if_neg (by decide)]; rw [if_neg (by decide)]; rw [if_neg (by decide)]; rw [if_neg (by decide)]; rw [if_pos rfl]
theorem lead_7 (F S : Int) (kd : Int → Int) (p : Int) : lead F S kd p 7 = (if p % 2 ≠ 1 ∧ kd (p / 2 % 6) = 1 ∧ 0 < p / 2 / 6 then p - 12 else -1) := by unfold lead; rw [if_neg (by decide)]; rw [if_neg (by decide)]; rw [if_neg (by decide)]; rw [if_neg (by decide)]; rw [if_neg (by decide)]; rw [if_neg (by decide)]; rw [if_neg (by decide)]
theorem leng_0 (ht th : Int → Int) (p : Int) : leng ht th p 0 = 1 := by unfold leng; rw [if_pos rfl]
theorem leng_1 (ht th : Int → Int) (p : Int) : leng ht th p 1 = ht (p / 2 % 6 + 1) - ht (p / 2 % 6) := by unfold leng; rw [if_neg (by decide)]; rw [if_pos rfl]
theorem leng_2 (ht th : Int → Int) (p : Int) : leng ht th p 2 = ht (p / 2 % 6) - ht (p / 2 % 6 - 1) := by unfold leng; rw [if_neg (by decide)]; rw [if_neg (by decide)]; rw [if_pos rfl]
theorem leng_3 (ht th : Int → Int) (p : Int) : leng ht th p 3 = ht (p / 2 % 6 + 1) - ht (p / 2 % 6) + 2 := by unfold leng; rw [if_neg (by decide)]; rw [if_neg (by decide)]; rw [if_neg (by decide)]; rw [if_pos rfl]
theorem leng_4 (ht th : Int → Int) (p : Int) : leng ht th p 4 = ht (p / 2 % 6) - ht (p / 2 % 6 - 1) + 2 := by unfold leng; rw [if_neg (by decide)]; rw [if_neg (by decide)]; rw [if_neg (by decide)]; rw [if_neg (by decide)]; rw [if_pos rfl]
theorem leng_5 (ht th : Int → Int) (p : Int) : leng ht th p 5 = 4 := by unfold leng; rw [if_neg (by decide)]; rw [if_neg (by decide)]; rw [if_neg (by decide)]; rw [if_neg (by decide)]; rw [if_neg (by decide)]; rw [if_pos rfl]
theorem leng_6 (ht th : Int → Int) (p : Int) : leng ht th p 6 = (th (p / 2 / 6) + th (p / 2 / 6 + 1) + 1) / 2 := by unfold leng; rw [if_neg (by decide)]; rw [if_neg (by decide)]; rw [if_neg (by decide)]; rw [if_neg (by decide)]; rw [if_neg (by decide)]; rw [if_neg (by decide)]; rw [if_pos rfl]
theorem leng_7 (ht th : Int → Int) (p : Int) : leng ht th p 7 = (th (p / 2 / 6) + th (p / 2 / 6 - 1) + 1) / 2 := by unfold leng; rw [if_neg (by decide)]; rw [if_neg (by decide)]; rw [if_neg (by decide)]; rw [if_neg (by decide)]; rw [if_neg (by decide)]; rw [if_neg (by decide)]; rw [if_neg (by decide)]
theorem leadn_1 {F S : Int} {kd : Int → Int} {p : Int} (h : lead F S kd p 1 ≠ -1) : (p % 2 = 1 ∧ p / 2 % 6 + 1 < S) ∧ lead F S kd p 1 = p + 2 := by
  rw [lead_1] at h ⊢
  split at h
  · rename_i q; exact ⟨q, if_pos q⟩
  · exact absurd rfl h
theorem leadn_2 {F S : Int} {kd : Int → Int} {p : Int} (h : lead F S kd p 2 ≠ -1) : (p % 2 = 1 ∧ 0 < p / 2 % 6) ∧ lead F S kd p 2 = p - 2 := by
  rw [lead_2] at h ⊢
  split at h
  · rename_i q; exact ⟨q, if_pos q⟩
  · exact absurd rfl h
theorem leadn_3 {F S : Int} {kd : Int → Int} {p : Int} (h : lead F S kd p 3 ≠ -1) : (p % 2 ≠ 1 ∧ p / 2 % 6 + 1 < S ∧ kd (p / 2 % 6) = 3) ∧ lead F S kd p 3 = p + 2 := by
  rw [lead_3] at h ⊢
  split at h
  · rename_i q; exact ⟨q, if_pos q⟩
  · exact absurd rfl h
theorem leadn_4 {F S : Int} {kd : Int → Int} {p : Int} (h : lead F S kd p 4 ≠ -1) : (p % 2 ≠ 1 ∧ 0 < p / 2 % 6 ∧ kd (p / 2 % 6 - 1) = 3) ∧ lead F S kd p 4 = p - 2 := by
  rw [lead_4] at h ⊢
  split at h
  · rename_i q; exact ⟨q, if_pos q⟩
  · exact absurd rfl h
theorem leadn_5 {F S : Int} {kd : Int → Int} {p : Int} (h : lead F S kd p 5 ≠ -1) : (p % 2 ≠ 1 ∧ kd (p / 2 % 6) = 2) ∧ lead F S kd p 5 = p := by
  rw [lead_5] at h ⊢
  split at h
  · rename_i q; exact ⟨q, if_pos q⟩
  · exact absurd rfl h
theorem leadn_6 {F S : Int} {kd : Int → Int} {p : Int} (h : lead F S kd p 6 ≠ -1) : (p % 2 ≠ 1 ∧ kd (p / 2 % 6) = 1 ∧ p / 2 / 6 + 1 < F) ∧ lead F S kd p 6 = p + 12 := by
  rw [lead_6] at h ⊢
  split at h
  · rename_i q; exact ⟨q, if_pos q⟩
  · exact absurd rfl h
theorem leadn_7 {F S : Int} {kd : Int → Int} {p : Int} (h : lead F S kd p 7 ≠ -1) : (p % 2 ≠ 1 ∧ kd (p / 2 % 6) = 1 ∧ 0 < p / 2 / 6) ∧ lead F S kd p 7 = p - 12 := by
  rw [lead_7] at h ⊢
  split at h
  · rename_i q; exact ⟨q, if_pos q⟩
  · exact absurd rfl h
/-- the first part from i on, of n, that lies at fold f, station s, of kind w; -1 -/
def fndF (pf ps pk : Int → Int) (f s w : Int) : Nat → Int → Int
  | 0, _ => -1
  | n + 1, i => if pf i = f ∧ ps i = s ∧ pk i = w then i else fndF pf ps pk f s w n (i + 1)
def fnd (np : Int) (pf ps pk : Int → Int) (f s w : Int) : Int := fndF pf ps pk f s w np.toNat 0
/-- which part a move goes along -/
def alg (np : Int) (pf ps pk : Int → Int) (p m : Int) : Int :=
  if m = 0 ∨ 5 < m then -1 else fnd np pf ps pk (p / 2 / 6) (if m = 2 ∨ m = 4 then p / 2 % 6 - 1 else p / 2 % 6) (if m < 3 then 0 else if m < 5 then 2 else 1)
theorem fndF_rg {pf ps pk : Int → Int} {f s w : Int} : ∀ (n : Nat) (i : Int), 0 ≤ i → -1 ≤ fndF pf ps pk f s w n i ∧ fndF pf ps pk f s w n i < i + n ∧ (fndF pf ps pk f s w n i = -1 ∨ (i ≤ fndF pf ps pk f s w n i ∧ pf (fndF pf ps pk f s w n i) = f ∧ ps (fndF pf ps pk f s w n i) = s ∧ pk (fndF pf ps pk f s w n i) = w))
  | 0, i, hi => by unfold fndF; omega
  | n + 1, i, hi => by
    unfold fndF
    split
    · rename_i h
      refine ⟨by omega, by omega, Or.inr ⟨by omega, h⟩⟩
    · have := fndF_rg (pf := pf) (ps := ps) (pk := pk) (f := f) (s := s) (w := w) n (i + 1) (by omega)
      obtain ⟨h1, h2, h3⟩ := this
      refine ⟨h1, by omega, ?_⟩
      rcases h3 with h3 | h3
      · exact Or.inl h3
      · exact Or.inr ⟨by omega, h3.2⟩
theorem fnd_rg {np : Int} {pf ps pk : Int → Int} {f s w : Int} (h : 0 ≤ np) : -1 ≤ fnd np pf ps pk f s w ∧ fnd np pf ps pk f s w < np := by
  by_cases h0 : np = 0
  · subst h0
    unfold fnd
    simp [fndF]
  · have := fndF_rg (pf := pf) (ps := ps) (pk := pk) (f := f) (s := s) (w := w) np.toNat 0 (by omega)
    unfold fnd
    omega
theorem alg_rg {np : Int} {pf ps pk : Int → Int} {p m : Int} (h : 0 ≤ np) : -1 ≤ alg np pf ps pk p m ∧ (alg np pf ps pk p m < np ∨ alg np pf ps pk p m = -1) := by
  unfold alg
  split
  · omega
  · have := fnd_rg (np := np) (pf := pf) (ps := ps) (pk := pk) (f := p / 2 / 6) (s := if m = 2 ∨ m = 4 then p / 2 % 6 - 1 else p / 2 % 6) (w := if m < 3 then 0 else if m < 5 then 2 else 1) h
    omega
theorem fndF_step {pf ps pk : Int → Int} {f s w np i : Int} (h : i < np) : fndF pf ps pk f s w (np - i).toNat i = if pf i = f ∧ ps i = s ∧ pk i = w then i else fndF pf ps pk f s w (np - (i + 1)).toNat (i + 1) := by
  have e : (np - i).toNat = (np - (i + 1)).toNat + 1 := by omega
  rw [e]
  rfl
theorem fndF_end {pf ps pk : Int → Int} {f s w np i : Int} (h : np ≤ i) : fndF pf ps pk f s w (np - i).toNat i = -1 := by
  have e : (np - i).toNat = 0 := by omega
  rw [e]
  rfl
theorem iI_nat {p : Int} {N : Nat} (h : 0 ≤ p ∧ p < N) : ∃ n : Fin N, p = (n.val : Int) := ⟨⟨p.toNat, by omega⟩, by show p = ((p.toNat : Nat) : Int); omega⟩
theorem xor1 {p : Int} (h : 0 ≤ p ∧ p < 60) : iI p ^^^ iI 1 = iI (if p % 2 = 1 then p - 1 else p + 1) := by
  obtain ⟨n, rfl⟩ := iI_nat (N := 60) h
  revert n
  decide
theorem lead_rg {F S : Int} {kd : Int → Int} {p m : Int} (hF : 1 ≤ F ∧ F ≤ 5) (hS : 2 ≤ S ∧ S ≤ 6) (hp : 0 ≤ p ∧ p < 60) (hpf : p / 2 / 6 < F) : -1 ≤ lead F S kd p m ∧ lead F S kd p m < 60 := by
  have e : m = 0 ∨ m = 1 ∨ m = 2 ∨ m = 3 ∨ m = 4 ∨ m = 5 ∨ m = 6 ∨ ¬ (m = 0 ∨ m = 1 ∨ m = 2 ∨ m = 3 ∨ m = 4 ∨ m = 5 ∨ m = 6) := by omega
  rcases e with rfl | rfl | rfl | rfl | rfl | rfl | rfl | e
  · rw [lead_0]; split <;> omega
  · rw [lead_1]; split <;> omega
  · rw [lead_2]; split <;> omega
  · rw [lead_3]; split <;> omega
  · rw [lead_4]; split <;> omega
  · rw [lead_5]; split <;> omega
  · rw [lead_6]; split <;> omega
  · unfold lead
    rw [if_neg (by omega), if_neg (by omega), if_neg (by omega), if_neg (by omega), if_neg (by omega), if_neg (by omega), if_neg (by omega)]
    split <;> omega
