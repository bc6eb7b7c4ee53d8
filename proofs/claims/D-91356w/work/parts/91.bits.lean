/-! ===== bits of longs ===== -/
def jB (v : Int64) (p : Int) : Bool := v.toBitVec.getLsbD p.toNat
theorem j_sh : ∀ n : Fin 60, (iI (n.val : Int)).toInt64 &&& 63 = Int64.ofInt (n.val : Int) ∧ ((Int64.ofInt (n.val : Int)).toBitVec.smod 64) = BitVec.ofNat 64 n.val := by decide +kernel
theorem j_and1 (v : Int64) : v &&& 1 = if v.toBitVec.getLsbD 0 then 1 else 0 := by
  apply Int64.toBitVec_inj.mp
  rw [Int64.toBitVec_and]
  show v.toBitVec &&& 1#64 = _
  rw [BitVec.and_one_eq_setWidth_ofBool_getLsbD]
  cases v.toBitVec.getLsbD 0 <;> rfl
theorem jB_sh {v : Int64} {p : Int} (h : 0 ≤ p ∧ p < 60) : (v >>> ((iI p).toInt64 &&& 63)) &&& 1 = if jB v p then 1 else 0 := by
  obtain ⟨n, rfl⟩ := iI_nat (N := 60) h
  obtain ⟨h1, h2⟩ := j_sh n
  rw [h1, j_and1, Int64.toBitVec_shiftRight, h2]
  have e : (v.toBitVec.sshiftRight' (BitVec.ofNat 64 n.val)).getLsbD 0 = jB v (n.val : Int) := by
    have hn : n.val % 2 ^ 64 = n.val := Nat.mod_eq_of_lt (by have := n.isLt; omega)
    unfold jB BitVec.sshiftRight'
    rw [BitVec.toNat_ofNat, hn, BitVec.getLsbD_sshiftRight]
    have := n.isLt
    simp [show n.val < 64 by omega]
  rw [e]
theorem jB_or {v : Int64} {p q : Int} (h : 0 ≤ p ∧ p < 60) (hq : 0 ≤ q ∧ q < 60) : jB (v ||| ((1 : Int64) <<< ((iI p).toInt64 &&& 63))) q = (jB v q || decide (q = p)) := by
  obtain ⟨n, rfl⟩ := iI_nat (N := 60) h
  obtain ⟨m, rfl⟩ := iI_nat (N := 60) hq
  obtain ⟨h1, h2⟩ := j_sh n
  unfold jB
  rw [h1, Int64.toBitVec_or, Int64.toBitVec_shiftLeft, h2, BitVec.getLsbD_or]
  congr 1
  have key : ∀ a b : Fin 60, ((1 : Int64).toBitVec <<< BitVec.ofNat 64 a.val).getLsbD b.val = decide ((b.val : Int) = (a.val : Int)) := by decide +kernel
  exact key n m
theorem jB_1 {p q : Int} (h : 0 ≤ p ∧ p < 60) (hq : 0 ≤ q ∧ q < 60) : jB ((1 : Int64) <<< ((iI p).toInt64 &&& 63)) q = decide (q = p) := by
  have := jB_or (v := 0) h hq
  rw [show (0 : Int64) ||| ((1 : Int64) <<< ((iI p).toInt64 &&& 63)) = (1 : Int64) <<< ((iI p).toInt64 &&& 63) from Int64.zero_or] at this
  rw [this]
  show ((0 : Int64).toBitVec.getLsbD q.toNat || _) = _
  simp
theorem jB_0 (q : Int) : jB 0 q = false := by
  unfold jB
  simp
theorem lcmp_01 {x : Bool} : lg_cmp (if x then 1 else 0) 0 = iI (if x then 1 else 0) ∧ lg_cmp (if x then 1 else 0) 1 = iI (if x then 0 else -1) := by
  cases x <;> decide
theorem lcmp_eq {x y : Int64} : ∃ z : Int, lg_cmp x y = iI z ∧ -1 ≤ z ∧ z ≤ 1 ∧ (z = 0 ↔ x = y) := by
  unfold lg_cmp
  by_cases h : x = y
  · subst h; exact ⟨0, by simp; rfl, by omega, by omega, by simp⟩
  · by_cases h2 : y < x
    · exact ⟨1, by rw [if_neg h, if_pos h2]; rfl, by omega, by omega, by simp [h]⟩
    · exact ⟨-1, by rw [if_neg h, if_neg h2]; rfl, by omega, by omega, by simp [h]⟩
theorem jof (v : Int64) : Int64.ofInt v.toInt = v := Int64.ofInt_toInt v
theorem lJ_up {x : Int → Int} {i : Int} {v : Int64} (h : 0 ≤ i) : vp_updL (lJ x) i.toNat v = lJ (uI x i v.toInt) := by
  funext j
  unfold lJ uI vp_updL
  by_cases e : j = i.toNat
  · subst e
    rw [if_pos rfl, if_pos (by omega), jof]
  · rw [if_neg e, if_neg (by omega)]
theorem lJ_at {x : Int → Int} {i : Int} (h : 0 ≤ i) : lJ x i.toNat = Int64.ofInt (x i) := by
  unfold lJ; rw [Int.toNat_of_nonneg h]
theorem jb_ne {b : Bool} (h : (if b then (1 : Int) else 0) ≠ 0) : b = true := by
  cases b
  · exact absurd rfl h
  · rfl
theorem jb_eq {b : Bool} (h : (if b then (1 : Int) else 0) = 0) : b = false := by
  cases b
  · rfl
  · exact absurd h (by decide)
theorem jb_rg (b : Bool) : -2147483648 ≤ (if b then (1 : Int) else 0) ∧ (if b then (1 : Int) else 0) < 2147483648 := by cases b <;> decide
theorem jb_rg' (b : Bool) : -2147483648 ≤ (if b then (0 : Int) else -1) ∧ (if b then (0 : Int) else -1) < 2147483648 := by cases b <;> decide
theorem jb_ne' {b : Bool} (h : (if b then (0 : Int) else -1) ≠ 0) : b = false := by
  cases b
  · rfl
  · exact absurd rfl h
theorem jb_eq' {b : Bool} (h : (if b then (0 : Int) else -1) = 0) : b = true := by
  cases b
  · exact absurd h (by decide)
  · rfl
theorem jB_id {v : Int64} {q : Int} (hq : 0 ≤ q ∧ q < 60) (h : jB v q = true) : v ||| ((1 : Int64) <<< ((iI q).toInt64 &&& 63)) = v := by
  obtain ⟨n, rfl⟩ := iI_nat (N := 60) hq
  obtain ⟨h1, h2⟩ := j_sh n
  apply Int64.toBitVec_inj.mp
  rw [h1, Int64.toBitVec_or, Int64.toBitVec_shiftLeft, h2]
  apply BitVec.eq_of_getLsbD_eq
  intro i hi
  rw [BitVec.getLsbD_or]
  have key : ∀ a : Fin 60, ∀ b : Fin 64, ((1 : Int64).toBitVec <<< BitVec.ofNat 64 a.val).getLsbD b.val = decide (b.val = a.val) := by decide +kernel
  rw [key n ⟨i, hi⟩]
  by_cases e : i = n.val
  · subst e
    have h3 : v.toBitVec.getLsbD n.val = true := h
    rw [h3]; rfl
  · rw [decide_eq_false e, Bool.or_false]
/-- how many bits are set -/
def nbt (v : Int64) : Int := cnt (fun i => jB v (i : Int)) 60
theorem nbt_rg (v : Int64) : 0 ≤ nbt v ∧ nbt v ≤ 60 := cnt_rg _ 60
theorem nbt_lt {v : Int64} {q : Int} (hq : 0 ≤ q ∧ q < 60) (h : jB v q = false) : nbt v < nbt (v ||| ((1 : Int64) <<< ((iI q).toInt64 &&& 63))) := by
  refine cnt_lt 60 (fun i hi z => ?_) ⟨q.toNat, by omega, ?_, ?_⟩
  · have z2 : jB v (i : Int) = true := z
    show jB _ (i : Int) = true
    rw [jB_or hq ⟨by omega, by omega⟩, z2]; rfl
  · show jB _ ((q.toNat : Nat) : Int) = true
    rw [Int.toNat_of_nonneg hq.1, jB_or hq hq, decide_eq_true rfl, Bool.or_true]
  · show jB v ((q.toNat : Nat) : Int) = false
    rw [Int.toNat_of_nonneg hq.1]; exact h
