/-! ===== the tape read: signs to moves ===== -/
def sgf (c : Int) : Int := if c = 110 then 0 else if c = 117 then 1 else if c = 100 then 2 else if c = 85 then 3 else if c = 68 then 4 else if c = 111 then 5 else if c = 43 then 6 else if c = 45 then 7 else -1
theorem sgf_rg (c : Int) : -1 ≤ sgf c ∧ sgf c < 8 := by unfold sgf; omega
theorem sgf_s {k : Int} (h : 0 ≤ k ∧ k < 8) : sgf (sgn k) = k := by
  rcases (show k = 0 ∨ k = 1 ∨ k = 2 ∨ k = 3 ∨ k = 4 ∨ k = 5 ∨ k = 6 ∨ k = 7 by omega) with rfl | rfl | rfl | rfl | rfl | rfl | rfl | rfl <;> rfl
theorem sgf_no {c : Int} (h : ∀ j, 0 ≤ j → j < 8 → sgn j ≠ c) : sgf c = -1 := by
  have h0 : (110 : Int) ≠ c := h 0 (by omega) (by omega)
  have h1 : (117 : Int) ≠ c := h 1 (by omega) (by omega)
  have h2 : (100 : Int) ≠ c := h 2 (by omega) (by omega)
  have h3 : (85 : Int) ≠ c := h 3 (by omega) (by omega)
  have h4 : (68 : Int) ≠ c := h 4 (by omega) (by omega)
  have h5 : (111 : Int) ≠ c := h 5 (by omega) (by omega)
  have h6 : (43 : Int) ≠ c := h 6 (by omega) (by omega)
  have h7 : (45 : Int) ≠ c := h 7 (by omega) (by omega)
  unfold sgf
  omega
/-- a blank -/
abbrev isB (c : Int) : Prop := c = 32 ∨ c = 10
def rdcN (tp : Int → Int) : Nat → Int
  | 0 => 0
  | k + 1 => if isB (tp (k : Int)) then rdcN tp k else rdcN tp k + 1
def rdvN (tp : Int → Int) : Nat → Int → Int
  | 0 => fun _ => 0
  | k + 1 => if isB (tp (k : Int)) then rdvN tp k else uI (rdvN tp k) (rdcN tp k) (sgf (tp (k : Int)))
def RDN (F S : Int) (kd tp : Int → Int) (b : Int) : Nat → Prop
  | 0 => True
  | k + 1 => RDN F S kd tp b k ∧ (isB (tp (k : Int)) ∨ (sgf (tp (k : Int)) ≠ -1 ∧ lead F S kd (plc F S kd b (rdvN tp k) (rdcN tp k)) (sgf (tp (k : Int))) ≠ -1))
def rdc (tp : Int → Int) (k : Int) : Int := rdcN tp k.toNat
def rdv (tp : Int → Int) (k : Int) : Int → Int := rdvN tp k.toNat
def RDo (F S : Int) (kd tp : Int → Int) (b k : Int) : Prop := RDN F S kd tp b k.toNat
def rdp (F S : Int) (kd tp : Int → Int) (b k : Int) : Int := plc F S kd b (rdv tp k) (rdc tp k)
theorem rdcN_rg (tp : Int → Int) : ∀ k : Nat, 0 ≤ rdcN tp k ∧ rdcN tp k ≤ k
  | 0 => by simp [rdcN]
  | k + 1 => by
    have := rdcN_rg tp k
    unfold rdcN
    split <;> omega
theorem rdc_rg (tp : Int → Int) {k : Int} (h : 0 ≤ k) : 0 ≤ rdc tp k ∧ rdc tp k ≤ k := by
  have := rdcN_rg tp k.toNat
  unfold rdc; omega
theorem rdc_0 (tp : Int → Int) : rdc tp 0 = 0 := rfl
theorem rdp_0 (F S : Int) (kd tp : Int → Int) (b : Int) : rdp F S kd tp b 0 = b := rfl
theorem RDo_0 (F S : Int) (kd tp : Int → Int) (b : Int) : RDo F S kd tp b 0 := trivial
theorem plN_cg {F S : Int} {kd : Int → Int} {b : Int} {mv mv' : Int → Int} : ∀ n : Nat, (∀ j : Int, 0 ≤ j → j < n → mv j = mv' j) → plN F S kd b mv n = plN F S kd b mv' n
  | 0, _ => rfl
  | n + 1, h => by
    show lead F S kd (plN F S kd b mv n) (mv n) = lead F S kd (plN F S kd b mv' n) (mv' n)
    rw [plN_cg n (fun j h0 h1 => h j h0 (by omega)), h n (by omega) (by omega)]
theorem plc_cg {F S : Int} {kd : Int → Int} {b : Int} {mv mv' : Int → Int} {n : Int} (h : ∀ j : Int, 0 ≤ j → j < n → mv j = mv' j) : plc F S kd b mv n = plc F S kd b mv' n := plN_cg n.toNat (fun j h0 h1 => h j h0 (by omega))
section RD
variable {F S b k : Int} {kd tp : Int → Int}
theorem tn1 (h : 0 ≤ k) : (k + 1).toNat = k.toNat + 1 := by omega
theorem rdc_b (h : 0 ≤ k) (hb : isB (tp k)) : rdc tp (k + 1) = rdc tp k := by
  unfold rdc; rw [tn1 h, rdcN, Int.toNat_of_nonneg h, if_pos hb]
theorem rdv_b (h : 0 ≤ k) (hb : isB (tp k)) : rdv tp (k + 1) = rdv tp k := by
  unfold rdv; rw [tn1 h, rdvN, Int.toNat_of_nonneg h, if_pos hb]
theorem rdp_b (h : 0 ≤ k) (hb : isB (tp k)) : rdp F S kd tp b (k + 1) = rdp F S kd tp b k := by
  unfold rdp; rw [rdc_b h hb, rdv_b h hb]
theorem RDo_b (h : 0 ≤ k) (hr : RDo F S kd tp b k) (hb : isB (tp k)) : RDo F S kd tp b (k + 1) := by
  unfold RDo; rw [tn1 h, RDN, Int.toNat_of_nonneg h]; exact ⟨hr, Or.inl hb⟩
theorem rdc_m (h : 0 ≤ k) (hb : ¬ isB (tp k)) : rdc tp (k + 1) = rdc tp k + 1 := by
  unfold rdc; rw [tn1 h, rdcN, Int.toNat_of_nonneg h, if_neg hb]
theorem rdv_m (h : 0 ≤ k) (hb : ¬ isB (tp k)) : rdv tp (k + 1) = uI (rdv tp k) (rdc tp k) (sgf (tp k)) := by
  unfold rdv rdc; rw [tn1 h, rdvN, Int.toNat_of_nonneg h, if_neg hb]
theorem rdp_m (h : 0 ≤ k) (hb : ¬ isB (tp k)) : rdp F S kd tp b (k + 1) = lead F S kd (rdp F S kd tp b k) (sgf (tp k)) := by
  unfold rdp
  rw [rdc_m h hb, rdv_m h hb, plc_s (rdc_rg tp h).1, uI_s]
  congr 1
  exact plc_cg (fun j h0 h1 => uI_n (by omega))
theorem RDo_m (h : 0 ≤ k) (hr : RDo F S kd tp b k) (hs : sgf (tp k) ≠ -1) (hl : lead F S kd (rdp F S kd tp b k) (sgf (tp k)) ≠ -1) : RDo F S kd tp b (k + 1) := by
  unfold RDo; rw [tn1 h, RDN, Int.toNat_of_nonneg h]; exact ⟨hr, Or.inr ⟨hs, hl⟩⟩
theorem RDo_s (h : 0 ≤ k) : RDo F S kd tp b (k + 1) ↔ RDo F S kd tp b k ∧ (isB (tp k) ∨ (sgf (tp k) ≠ -1 ∧ lead F S kd (rdp F S kd tp b k) (sgf (tp k)) ≠ -1)) := by
  unfold RDo rdp rdv rdc; rw [tn1 h, RDN, Int.toNat_of_nonneg h]
theorem RDN_mono {i : Nat} : ∀ d : Nat, RDN F S kd tp b (i + d) → RDN F S kd tp b i
  | 0, h => h
  | d + 1, h => RDN_mono d h.1
/-- where it fails -/
def RDf (F S : Int) (kd tp : Int → Int) (b n k z : Int) : Prop := (0 ≤ k ∧ k < n) ∧ RDo F S kd tp b k ∧ ¬ isB (tp k) ∧ (sgf (tp k) = -1 ∧ z = -2 ∨ sgf (tp k) ≠ -1 ∧ lead F S kd (rdp F S kd tp b k) (sgf (tp k)) = -1 ∧ z = -3)
theorem RDf_no {n i z : Int} (h : RDf F S kd tp b n i z) (hk : i < k) : ¬ RDo F S kd tp b k := by
  intro hr
  have h1 : RDo F S kd tp b (i + 1) := by
    unfold RDo at hr ⊢
    refine RDN_mono (k.toNat - (i + 1).toNat) ?_
    rw [show (i + 1).toNat + (k.toNat - (i + 1).toNat) = k.toNat by omega]
    exact hr
  obtain ⟨⟨g0, g1⟩, g2, g3, g4⟩ := h
  rcases ((RDo_s g0).mp h1).2 with q | q
  · exact g3 q
  · rcases g4 with g4 | g4
    · exact q.1 g4.1
    · exact q.2 g4.2.1
theorem RDf_eq {n i j z w : Int} (h : RDf F S kd tp b n i z) (h' : RDf F S kd tp b n j w) : i = j ∧ z = w := by
  have e : i = j := by
    rcases Int.lt_trichotomy i j with q | q | q
    · exact absurd h'.2.1 (RDf_no h q)
    · exact q
    · exact absurd h.2.1 (RDf_no h' q)
  subst e
  refine ⟨rfl, ?_⟩
  rcases h.2.2.2 with q | q <;> rcases h'.2.2.2 with r | r
  · omega
  · exact absurd q.1 r.1
  · exact absurd r.1 q.1
  · omega
theorem RDo_PL (hb : PIn F S b) : ∀ n : Nat, n ≤ 400 → RDN F S kd tp b n → PLok F S kd b (rdcN tp n) (rdvN tp n)
  | 0, _, _ => ⟨hb, ⟨by simp [rdcN], by simp [rdcN]⟩, fun k h0 h1 => by simp [rdcN] at h1; omega⟩
  | n + 1, hn, h => by
    have ih := RDo_PL hb n (by omega) h.1
    have hr := rdcN_rg tp n
    unfold rdcN rdvN
    split
    · exact ih
    · rename_i hnb
      refine ⟨hb, ⟨by omega, by omega⟩, fun k h0 h1 => ?_⟩
      have hs := sgf_rg (tp (n : Int))
      rcases h.2 with q | q
      · exact absurd q hnb
      · by_cases e : k = rdcN tp n
        · subst e
          rw [uI_s, plc_cg (mv' := rdvN tp n) (fun j h0 h1 => uI_n (by omega))]
          exact ⟨by omega, q.2⟩
        · have := ih.2.2 k h0 (by omega)
          rw [uI_n e, plc_cg (mv' := rdvN tp n) (fun j h0 h1 => uI_n (by omega))]
          exact this
theorem PLok_cg {n : Int} {mv mv' : Int → Int} (h : PLok F S kd b n mv) (e : ∀ j, 0 ≤ j → j < n → mv' j = mv j) : PLok F S kd b n mv' :=
  ⟨h.1, h.2.1, fun k h0 h1 => by
    have := h.2.2 k h0 h1
    rw [e k h0 h1, plc_cg (mv' := mv) (fun j h0 h2 => e j h0 (by omega))]
    exact this⟩
theorem RDo_ok {n : Int} (hb : PIn F S b) (h0 : 0 ≤ n ∧ n ≤ 400) (h : RDo F S kd tp b n) : PLok F S kd b (rdc tp n) (rdv tp n) := RDo_PL hb n.toNat (by omega) h
end RD
