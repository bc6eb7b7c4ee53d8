/-! ===== the class's plans: cells and rows ===== -/
def bxA (D : va_G) (x : Int → Int) (j : Nat) : Nat := D.2 1000 (x (j : Int) + 128).toNat
theorem bx_at {D : va_G} {x : Int → Int} {i : Int} (h : 0 ≤ i) : bxA D x i.toNat = D.2 1000 (x i + 128).toNat := by
  unfold bxA; rw [Int.toNat_of_nonneg h]
theorem bx_add {D : va_G} {x : Int → Int} {n v : Int} (h : 0 ≤ n) : paU (bxA D x) n (D.2 1000 (v + 128).toNat) = bxA D (uI x n v) := by
  funext j
  unfold paU bxA uI
  by_cases e : (j : Int) = n
  · rw [if_pos e, if_pos e]
  · rw [if_neg e, if_neg e]
theorem bx_any {D : va_G} {x : Int → Int} {n : Int} {wx : va_W} (h : ∀ j, 0 ≤ j → j < n → 0 ≤ x j ∧ x j < 64) : ∀ j : Nat, (j : Int) < n → AnyX D (bxA D x j) wx := fun j hj => AnyX.box (by have := h j (by omega) hj; omega)
/-- one plan: the object, its moves, its places. pq: addresses and caps; pz: from, to, length, modCounts, size; pv: moves, places -/
def plC (D : va_G) (pq : Nat → Nat) (pz : Nat → Int) (pv : Nat → Int → Int) : va_W :=
  (pq 0, .inr (3, [.int (iI (pz 0)), .int (iI (pz 1)), .int (iI (pz 2)), .ref (pq 1), .ref (pq 3)])) :: (LW D (pq 1) (pq 2) (pz 3) (pq 5) (pz 5) (bxA D (pv 0)) ++ LW D (pq 3) (pq 4) (pz 4) (pq 6) (pz 5) (bxA D (pv 1)))
abbrev PR := (Nat → Nat) × (Nat → Int) × (Nat → Int → Int)
def plW (D : va_G) (P : List PR) : va_W := P.flatMap (fun r => plC D r.1 r.2.1 r.2.2)
/-- what a plan's cells tell -/
def PV (f : Nat → Int) (g : Nat → Int → Int) (pq : Nat → Nat) (pz : Nat → Int) (pv : Nat → Int → Int) : Prop :=
  PLok (f 0) (f 1) (g 5) (pz 0) (pz 5) (pv 0) ∧ (∀ j, 0 ≤ j → j < pz 5 → pv 1 j = plc (f 0) (f 1) (g 5) (pz 0) (pv 0) j) ∧ (pz 5 ≤ (pq 5 : Int) ∧ pq 5 ≤ 3000 ∧ pz 5 ≤ (pq 6 : Int) ∧ pq 6 ≤ 3000) ∧
  pz 1 = plc (f 0) (f 1) (g 5) (pz 0) (pv 0) (pz 5) ∧ pz 2 = fle (g 4) (g 3) (f 0) (f 1) (g 5) (pz 0) (pv 0) (pz 5)
theorem vaD_nd {A : Nat → Prop} {ws : va_W} : va_D A ws ↔ (ws.map Prod.fst).Nodup ∧ ∀ q ∈ ws, A q.1 := by
  constructor
  · intro h
    refine ⟨?_, fun q hq => ?_⟩
    · show List.Pairwise _ _
      rw [List.pairwise_iff_getElem]
      intro i j hi hj hij e
      rw [List.length_map] at hi hj
      rw [List.getElem_map, List.getElem_map] at e
      have := h.1 i j ws[i] ws[j] (List.getElem?_eq_getElem hi) (List.getElem?_eq_getElem hj) e
      omega
    · obtain ⟨i, hi, rfl⟩ := List.mem_iff_getElem.mp hq
      exact h.2 i _ (List.getElem?_eq_getElem hi)
  · rintro ⟨h1, h2⟩
    refine ⟨fun i j p q hp hq e => ?_, fun k q hq => h2 q (List.mem_of_getElem? hq)⟩
    obtain ⟨hi, rfl⟩ := List.getElem?_eq_some_iff.mp hp
    obtain ⟨hj, rfl⟩ := List.getElem?_eq_some_iff.mp hq
    have h3 : List.Pairwise _ _ := h1
    rw [List.pairwise_iff_getElem] at h3
    rcases Nat.lt_trichotomy i j with c | c | c
    · exact absurd (by rw [List.getElem_map, List.getElem_map]; exact e) (h3 i j (by rw [List.length_map]; exact hi) (by rw [List.length_map]; exact hj) c)
    · exact c
    · exact absurd (by rw [List.getElem_map, List.getElem_map]; exact e.symm) (h3 j i (by rw [List.length_map]; exact hj) (by rw [List.length_map]; exact hi) c)
theorem Sb.perm {a b : va_W} (h : a.Perm b) : Sb a b := by
  refine ⟨fun D cl H hP k q hq => ?_, fun A hD => ?_⟩
  · obtain ⟨i, hi, e⟩ := List.mem_iff_getElem.mp (h.mem_iff.mpr (List.mem_of_getElem? hq))
    exact hP i q (by rw [List.getElem?_eq_getElem hi, e])
  · rw [vaD_nd] at hD ⊢
    exact ⟨(h.map Prod.fst).nodup_iff.mp hD.1, fun q hq => hD.2 q (h.mem_iff.mpr hq)⟩
theorem plW_at {D : va_G} : ∀ {P : List PR} {i : Nat} {r : PR}, P[i]? = some r → ∃ V, (plW D P).Perm (plC D r.1 r.2.1 r.2.2 ++ V)
  | [], i, r, h => by simp at h
  | x :: P, 0, r, h => by
    cases h
    exact ⟨plW D P, List.Perm.refl _⟩
  | x :: P, i + 1, r, h => by
    obtain ⟨V, hV⟩ := plW_at (D := D) (P := P) (i := i) (r := r) (by simpa using h)
    refine ⟨plC D x.1 x.2.1 x.2.2 ++ V, ?_⟩
    show (plC D x.1 x.2.1 x.2.2 ++ plW D P).Perm _
    exact (List.Perm.append_left _ hV).trans (List.perm_append_comm_assoc _ _ _)
theorem plW_s {D : va_G} {P : List PR} {r : PR} : plW D (P ++ [r]) = plW D P ++ plC D r.1 r.2.1 r.2.2 := by
  unfold plW; rw [List.flatMap_append]; simp
section PLROWS
variable {p : Program} {l : Launch} {e : Env} {R : Room} {s : State} {mm : MethodId} {args : Array Value} {below : List Frame} {meth : Method} {c : Code} {own : String} {cc : ByteArray} {nL : Nat} {ret : Option FieldType} {D : va_G} {A B : Nat → Prop} {cells slots : Nat} {Q : State → Prop} {pc : Nat} {lv : List (Nat × Value)} {st : List Value}
variable {h : Nat → Nat} {f : Nat → Int} {g : Nat → Int → Int} {N : Nat → Nat} {M : Nat → Nat → Nat} {pa : Nat → Nat} {pf ps pk pn : Int → Int} {np : Int} {pq : Nat → Nat} {pz : Nat → Int} {pv : Nat → Int → Int} {V ws : va_W}
theorem sb_pl : Sb (sW D h f g N M (ptW pa pf ps pk pn np ++ (plC D pq pz pv ++ V))) (plC D pq pz pv) := Sb.tr Sb.rt (Sb.tr Sb.rt Sb.lt)
theorem sb_pm : Sb (sW D h f g N M (ptW pa pf ps pk pn np ++ (plC D pq pz pv ++ V))) (LW D (pq 1) (pq 2) (pz 3) (pq 5) (pz 5) (bxA D (pv 0))) := Sb.tr sb_pl (Sb.pick [1, 2] rfl rfl)
theorem sb_pp : Sb (sW D h f g N M (ptW pa pf ps pk pn np ++ (plC D pq pz pv ++ V))) (LW D (pq 3) (pq 4) (pz 4) (pq 6) (pz 5) (bxA D (pv 1))) := Sb.tr sb_pl (Sb.pick [3, 4] rfl rfl)
theorem sb_po : Sb (sW D h f g N M (ptW pa pf ps pk pn np ++ (plC D pq pz pv ++ V))) [(pq 0, .inr (3, [.int (iI (pz 0)), .int (iI (pz 1)), .int (iI (pz 2)), .ref (pq 1), .ref (pq 3)]))] := Sb.tr sb_pl (Sb.pick [0] rfl rfl)
/-- a nested field out of a part of the world -/
theorem g_getNs (C : CX p l s mm args meth c own cc nL ret D A) {Cn ref : String} {T : u_T} {N ci i : Nat} {wc : va_W} (hin : ∀ w ∈ u_ws Cn T N, w ∈ lw_all) (hsb : Sb ws wc) (q0 k : Nat) {a : Nat} {fs : List Value} {v : Value} (he : wc[q0]? = some (a, .inr (ci, fs))) (hc : clX[ci]? = some (Cn, T, N)) (hk : k < N) (hv : fs[k]? = some v) (hw : (i, ref, (T k).2.1, (T k).2.2.1) ∈ nestX) (ho : own = RX1) (hs : (T k).1 = ref) (d : decode cc pc = .ok (.getfield i, 3)) (K : GO p l e R s mm args below meth c nL D A B cells slots Q (ws) (pc + 3) (lv) (v :: st)) : GO p l e R s mm args below meth c nL D A B cells slots Q (ws) (pc) (lv) (.ref a :: st) := by
  intro H locs ls hP hD hS hl
  subst ho
  exact va_getN C.hx C.hb C.hts hin C.hown C.hK (hsb.1 _ _ _ hP) q0 he hc k hk (va_Nw.use rfl (C.hG.1.2.1 _ hw)) (fun x h => by rw [hs] at h; exact h) hv d (K H locs ls hP hD hS hl)
theorem gl_get1 (C : CX p l s mm args meth c RX1 cc nL ret D A) (hsb : Sb ws (plC D pq pz pv)) {v : Int} (hv : pz 1 = v) (d : decode cc pc = .ok (.getfield 178, 3)) (K : GO p l e R s mm args below meth c nL D A B cells slots Q (ws) (pc + 3) (lv) (.int (iI v) :: st)) : GO p l e R s mm args below meth c nL D A B cells slots Q (ws) (pc) (lv) (.ref (pq 0) :: st) := by
  subst hv
  exact g_getNs C in_X4 hsb 0 1 rfl rfl (by decide) rfl (by decide) rfl rfl d K
theorem gl_get2 (C : CX p l s mm args meth c RX1 cc nL ret D A) (hsb : Sb ws (plC D pq pz pv)) {v : Int} (hv : pz 2 = v) (d : decode cc pc = .ok (.getfield 185, 3)) (K : GO p l e R s mm args below meth c nL D A B cells slots Q (ws) (pc + 3) (lv) (.int (iI v) :: st)) : GO p l e R s mm args below meth c nL D A B cells slots Q (ws) (pc) (lv) (.ref (pq 0) :: st) := by
  subst hv
  exact g_getNs C in_X4 hsb 0 2 rfl rfl (by decide) rfl (by decide) rfl rfl d K
theorem gl_get3 (C : CX p l s mm args meth c RX1 cc nL ret D A) (hsb : Sb ws (plC D pq pz pv)) (d : decode cc pc = .ok (.getfield 190, 3)) (K : GO p l e R s mm args below meth c nL D A B cells slots Q (ws) (pc + 3) (lv) (.ref (pq 1) :: st)) : GO p l e R s mm args below meth c nL D A B cells slots Q (ws) (pc) (lv) (.ref (pq 0) :: st) :=
  g_getNs C in_X4 hsb 0 3 rfl rfl (by decide) rfl (by decide) rfl rfl d K
theorem gl_get4 (C : CX p l s mm args meth c RX1 cc nL ret D A) (hsb : Sb ws (plC D pq pz pv)) (d : decode cc pc = .ok (.getfield 199, 3)) (K : GO p l e R s mm args below meth c nL D A B cells slots Q (ws) (pc + 3) (lv) (.ref (pq 3) :: st)) : GO p l e R s mm args below meth c nL D A B cells slots Q (ws) (pc) (lv) (.ref (pq 0) :: st) :=
  g_getNs C in_X4 hsb 0 4 rfl rfl (by decide) rfl (by decide) rfl rfl d K
theorem g_zalds (C : CX p l s mm args meth c own cc nL ret D A) {a n : Nat} {x : Int → Int} {i v : Int} (hsb : Sb ws [(a, .inl (D.1 101, n, .inl (aI x)))]) (hv : x i = v) (h0 : 0 ≤ i ∧ i < n) (hn : (n : Int) < 2147483648) (d : decode cc pc = .ok (.baload, 1)) (K : GO p l e R s mm args below meth c nL D A B cells slots Q (ws) (pc + 1) (lv) (.int (iI v) :: st)) : GO p l e R s mm args below meth c nL D A B cells slots Q (ws) (pc) (lv) (.int (iI i) :: .ref a :: st) := by
  intro H locs ls hP hD hS hl
  subst hv
  refine va_zald C.hx C.hb C.hK (hsb.1 _ _ _ hP) 0 1 rfl rfl (iI_in h0.1 h0.2 hn) d ?_
  rw [aI_at x h0.1 (by omega)]
  exact K H locs ls hP hD hS hl
end PLROWS
/-! how often a plan goes along a part, by moves that are not off -/
def fgoO (ov : Int → Int) (np : Int) (pf ps pk : Int → Int) (F S : Int) (kd : Int → Int) (b : Int) (mv : Int → Int) (n j : Int) : Int := cnt (fun k => decide (ov (k : Int) = 0 ∧ alg np pf ps pk (plN F S kd b mv k) (mv (k : Int)) = j)) n.toNat
theorem fgoO_s {ov : Int → Int} {np : Int} {pf ps pk : Int → Int} {F S : Int} {kd : Int → Int} {b : Int} {mv : Int → Int} {k j : Int} (h : 0 ≤ k) : fgoO ov np pf ps pk F S kd b mv (k + 1) j = fgoO ov np pf ps pk F S kd b mv k j + bI (decide (ov k = 0 ∧ alg np pf ps pk (plc F S kd b mv k) (mv k) = j)) := by
  unfold fgoO plc
  rw [cnt_t _ h, Int.toNat_of_nonneg h]
theorem fgoO_rg {ov : Int → Int} {np : Int} {pf ps pk : Int → Int} {F S : Int} {kd : Int → Int} {b : Int} {mv : Int → Int} {k j : Int} (h : 0 ≤ k) : 0 ≤ fgoO ov np pf ps pk F S kd b mv k j ∧ fgoO ov np pf ps pk F S kd b mv k j ≤ k := by
  have := cnt_rg (fun k => decide (ov (k : Int) = 0 ∧ alg np pf ps pk (plN F S kd b mv k) (mv (k : Int)) = j)) k.toNat
  unfold fgoO; omega
theorem cnt_pos {P : Nat → Bool} : ∀ n, 0 < cnt P n ↔ ∃ j, j < n ∧ P j = true
  | 0 => by constructor; (intro h; exact absurd h (Int.lt_irrefl 0)); (rintro ⟨j, h, _⟩; omega)
  | n + 1 => by
    have ih := cnt_pos (P := P) n
    have h1 := cnt_rg P n
    have h2 := bI_rg (P n)
    show 0 < cnt P n + bI (P n) ↔ _
    constructor
    · intro h
      by_cases q : P n = true
      · exact ⟨n, by omega, q⟩
      · have : bI (P n) = 0 := by rw [bI_0]; simpa using q
        obtain ⟨j, hj, hp⟩ := ih.mp (by omega)
        exact ⟨j, by omega, hp⟩
    · rintro ⟨j, hj, hp⟩
      by_cases e : j = n
      · subst e; have := bI_1.mpr hp; omega
      · have := ih.mpr ⟨j, by omega, hp⟩; omega
theorem fgoO_pos {ov : Int → Int} {np : Int} {pf ps pk : Int → Int} {F S : Int} {kd : Int → Int} {b : Int} {mv : Int → Int} {n j : Int} : 0 < fgoO ov np pf ps pk F S kd b mv n j ↔ ∃ k, 0 ≤ k ∧ k < n ∧ ov k = 0 ∧ alg np pf ps pk (plc F S kd b mv k) (mv k) = j := by
  unfold fgoO
  rw [cnt_pos]
  constructor
  · rintro ⟨k, hk, h⟩
    exact ⟨(k : Int), by omega, by omega, of_decide_eq_true h⟩
  · rintro ⟨k, h0, h1, h2⟩
    refine ⟨k.toNat, by omega, decide_eq_true ?_⟩
    rw [Int.toNat_of_nonneg h0]
    exact h2
theorem bW_i {C : Prop} {P : Int → Prop} {x : Int} (h : x = bP C) : x = bP (C ∧ ∀ j, 0 ≤ j → j < 0 → P j) := h.trans (bP_c ⟨fun q => ⟨q, fun j h0 h1 => absurd h1 (by omega)⟩, fun q => q.1⟩)
theorem bW_1 {C : Prop} {P : Int → Prop} {k : Int} (h : bP (C ∧ ∀ j, 0 ≤ j → j < k → P j) ≠ 0) (hk : P k) : 1 = bP (C ∧ ∀ j, 0 ≤ j → j < k + 1 → P j) := by
  have q := bP_1 h
  exact (bP_t ⟨q.1, fun j h0 h1 => by
    by_cases e : j = k
    · subst e; exact hk
    · exact q.2 j h0 (by omega)⟩).symm
theorem bW_0 {C : Prop} {P : Int → Prop} {k : Int} (h0 : 0 ≤ k) (hk : ¬ P k) : 0 = bP (C ∧ ∀ j, 0 ≤ j → j < k + 1 → P j) := (bP_f (fun z => hk (z.2 k h0 (by omega)))).symm
theorem bW_x {C : Prop} {P : Int → Prop} {k n : Int} (h : bP (C ∧ ∀ j, 0 ≤ j → j < k → P j) = 0) (hk : k ≤ n) : 0 = bP (C ∧ ∀ j, 0 ≤ j → j < n → P j) := by
  have q := bP_0 h
  exact (bP_f (fun z => q ⟨z.1, fun j h0 h1 => z.2 j h0 (by omega)⟩)).symm
