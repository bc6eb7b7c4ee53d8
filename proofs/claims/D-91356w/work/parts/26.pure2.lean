/-! ===== the parts of a book, as a list ===== -/
def ppL (f : Int) (S : Nat) (kd : Int → Int) (n : Nat) (w v : Int) : List (Int × Int × Int) := (List.range n).filterMap (fun k : Nat => if kd (k : Int) = w then some (f, (k : Int), v) else none)
def rnL (f : Int) (n : Nat) : List (Int × Int × Int) := (List.range n).map (fun k : Nat => (f, (k : Int), (0 : Int)))
def foL (S : Nat) (kd : Int → Int) (f : Nat) : List (Int × Int × Int) := rnL f (S - 1) ++ ppL f S kd S 2 1 ++ ppL f S kd (S - 1) 3 2
def paL (S : Nat) (kd : Int → Int) (F : Nat) : List (Int × Int × Int) := (List.range F).flatMap (foL S kd)
theorem rnL_s (f : Int) (n : Nat) : rnL f (n + 1) = rnL f n ++ [(f, (n : Int), 0)] := by simp [rnL, List.range_succ]
theorem rnL_l (f : Int) (n : Nat) : (rnL f n).length = n := by simp [rnL]
theorem ppL_s (f : Int) (S : Nat) (kd : Int → Int) (n : Nat) (w v : Int) : ppL f S kd (n + 1) w v = ppL f S kd n w v ++ (if kd n = w then [(f, (n : Int), v)] else []) := by
  unfold ppL
  rw [List.range_succ, List.filterMap_append]
  congr 1
  by_cases h : kd n = w <;> simp [h]
theorem ppL_y {f : Int} {S : Nat} {kd : Int → Int} {n : Nat} {w v : Int} (h : kd n = w) : ppL f S kd (n + 1) w v = ppL f S kd n w v ++ [(f, (n : Int), v)] := by rw [ppL_s, if_pos h]
theorem ppL_n {f : Int} {S : Nat} {kd : Int → Int} {n : Nat} {w v : Int} (h : kd n ≠ w) : ppL f S kd (n + 1) w v = ppL f S kd n w v := by rw [ppL_s, if_neg h, List.append_nil]
theorem ppL_0 (f : Int) (S : Nat) (kd : Int → Int) (w v : Int) : ppL f S kd 0 w v = [] := rfl
theorem ppL_le (f : Int) (S : Nat) (kd : Int → Int) (w v : Int) : ∀ n, (ppL f S kd n w v).length ≤ n
  | 0 => Nat.le_refl _
  | n + 1 => by
    have := ppL_le f S kd w v n
    rw [ppL_s, List.length_append]
    split <;> simp <;> omega
theorem ppL_mono (f : Int) (S : Nat) (kd : Int → Int) (w v : Int) (n : Nat) : ∀ d, (ppL f S kd (n + d) w v).length ≤ (ppL f S kd n w v).length + d
  | 0 => Nat.le_refl _
  | d + 1 => by
    have := ppL_mono f S kd w v n d
    rw [← Nat.add_assoc, ppL_s, List.length_append]
    split <;> simp <;> omega
theorem ppL_two (f : Int) (S : Nat) (kd : Int → Int) : ∀ n, (ppL f S kd n 2 1).length + (ppL f S kd n 3 2).length ≤ n
  | 0 => Nat.le_refl _
  | n + 1 => by
    have := ppL_two f S kd n
    rw [ppL_s, ppL_s, List.length_append, List.length_append]
    by_cases h : kd n = 2
    · simp [h]; omega
    · by_cases h3 : kd n = 3
      · simp [h3]; omega
      · simp [h, h3]; omega
theorem ppL_tw {f : Int} {S : Nat} {kd : Int → Int} {k : Nat} (hk : k ≤ S) : (ppL f S kd S 2 1).length + (ppL f S kd k 3 2).length ≤ S := by
  have h1 := ppL_two f S kd k
  have h2 := ppL_mono f S kd 2 1 k (S - k)
  rw [show k + (S - k) = S by omega] at h2
  omega
theorem foL_le {S : Nat} {kd : Int → Int} {f : Nat} : (foL S kd f).length ≤ (S - 1) + S := by
  have h := ppL_tw (f := f) (S := S) (kd := kd) (k := S - 1) (by omega)
  simp only [foL, List.length_append, rnL_l]
  omega
theorem paL_s (S : Nat) (kd : Int → Int) (F : Nat) : paL S kd (F + 1) = paL S kd F ++ foL S kd F := by simp [paL, List.range_succ]
theorem paL_0 (S : Nat) (kd : Int → Int) : paL S kd 0 = [] := rfl
theorem paL_le (S : Nat) (kd : Int → Int) : ∀ F, (paL S kd F).length ≤ F * ((S - 1) + S)
  | 0 => Nat.zero_le _
  | F + 1 => by
    have := paL_le S kd F
    have h2 := foL_le (S := S) (kd := kd) (f := F)
    rw [paL_s, List.length_append, Nat.add_mul]
    omega
theorem paL_55 {S F : Nat} {kd : Int → Int} (hS : S ≤ 6) (hF : F ≤ 5) : (paL S kd F).length ≤ 11 * F := by
  have h := paL_le S kd F
  have : F * ((S - 1) + S) ≤ F * 11 := Nat.mul_le_mul_left F (by omega)
  omega
/-- arrays hold the list of parts, all needed -/
def PA (L : List (Int × Int × Int)) (np : Int) (pf ps pk pn : Int → Int) : Prop := np = L.length ∧ ∀ (j : Nat) (x : Int × Int × Int), L[j]? = some x → pf j = x.1 ∧ ps j = x.2.1 ∧ pk j = x.2.2 ∧ pn j = 1
theorem PA.nil (pf ps pk pn : Int → Int) : PA [] 0 pf ps pk pn := ⟨rfl, fun j x h => by simp at h⟩
theorem PA.push {L : List (Int × Int × Int)} {np : Int} {pf ps pk pn : Int → Int} (h : PA L np pf ps pk pn) (a b c : Int) : PA (L ++ [(a, b, c)]) (np + 1) (uI pf np a) (uI ps np b) (uI pk np c) (uI pn np 1) := by
  obtain ⟨h1, h2⟩ := h
  refine ⟨by rw [h1]; simp, fun j x hj => ?_⟩
  by_cases hl : j < L.length
  · rw [List.getElem?_append_left hl] at hj
    have hne : (j : Int) ≠ np := by omega
    rw [uI_n hne, uI_n hne, uI_n hne, uI_n hne]
    exact h2 j x hj
  · rw [List.getElem?_append_right (by omega)] at hj
    have hz : j - L.length < 1 := (List.getElem?_eq_some_iff.mp hj).1
    have hj0 : j = L.length := by omega
    subst hj0
    rw [Nat.sub_self] at hj
    cases hj
    have he : ((L.length : Nat) : Int) = np := by omega
    rw [he, uI_s, uI_s, uI_s, uI_s]
    exact ⟨rfl, rfl, rfl, rfl⟩
theorem PA.to {L L' : List (Int × Int × Int)} {np : Int} {pf ps pk pn : Int → Int} (h : PA L np pf ps pk pn) (e : L = L') : PA L' np pf ps pk pn := e ▸ h
theorem rnL_t {f k : Int} (h : 0 ≤ k) : rnL f (k + 1).toNat = rnL f k.toNat ++ [(f, k, 0)] := by
  rw [show (k + 1).toNat = k.toNat + 1 by omega, rnL_s, Int.toNat_of_nonneg h]
theorem ppL_ty {f k : Int} {S : Nat} {kd : Int → Int} {w v : Int} (h : 0 ≤ k) (hk : kd k = w) : ppL f S kd (k + 1).toNat w v = ppL f S kd k.toNat w v ++ [(f, k, v)] := by
  rw [show (k + 1).toNat = k.toNat + 1 by omega, ppL_y (by rw [Int.toNat_of_nonneg h]; exact hk), Int.toNat_of_nonneg h]
theorem ppL_tn {f k : Int} {S : Nat} {kd : Int → Int} {w v : Int} (h : 0 ≤ k) (hk : kd k ≠ w) : ppL f S kd (k + 1).toNat w v = ppL f S kd k.toNat w v := by
  rw [show (k + 1).toNat = k.toNat + 1 by omega, ppL_n (by rw [Int.toNat_of_nonneg h]; exact hk)]
theorem paL_t {S : Nat} {kd : Int → Int} {i : Int} (h : 0 ≤ i) : paL S kd (i + 1).toNat = paL S kd i.toNat ++ rnL i (S - 1) ++ ppL i S kd S 2 1 ++ ppL i S kd (S - 1) 3 2 := by
  rw [show (i + 1).toNat = i.toNat + 1 by omega, paL_s]
  unfold foL
  rw [Int.toNat_of_nonneg h]
  simp [List.append_assoc]
