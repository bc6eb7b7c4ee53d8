/-! ===== what holds at the law's entry ===== -/
def lw_flat : List Cond := flatC (Jvm.Cond.and given_1 narrow_1)
def lw_sb : Term := .string "SewnBook" 166
theorem lf_0 : (Cond.exactly lw_sb "java/lang/String") ∈ lw_flat := by decide +kernel
theorem lf_1 : (Cond.eq (.field lw_sb "java/lang/String" "coder" "B") (.int 0)) ∈ lw_flat := by decide +kernel
theorem lf_2 : (Cond.arrayOf (.field lw_sb "java/lang/String" "value" "[B") .byte) ∈ lw_flat := by decide +kernel
theorem lf_3 : (Cond.eq (.length (.field lw_sb "java/lang/String" "value" "[B")) (.int (Int32.ofNat 8))) ∈ lw_flat := by decide +kernel
theorem lf_4 : ∀ j : Nat, j < 8 → (Cond.eq (.elem (.field lw_sb "java/lang/String" "value" "[B") (.int (Int32.ofNat j))) (.int (([110, 117, 100, 85, 68, 111, 43, 45] : List Int32).getD j 0))) ∈ lw_flat := by decide +kernel
theorem lf_5 : (Cond.eq lw_sb (.string "SewnBookModel" 9)) ∈ lw_flat := by decide +kernel
def lw_ic : Term := .static "java/lang/Integer$IntegerCache" "cache" "[Ljava/lang/Integer;"
theorem lf_6 : (Cond.arrayOf lw_ic (.object "java/lang/Integer")) ∈ lw_flat := by decide +kernel
theorem lf_7 : (Cond.eq (.length lw_ic) (.int (Int32.ofNat 256))) ∈ lw_flat := by decide +kernel
theorem lf_8 : (Cond.all lw_ic (.and (.exactly (.elem lw_ic (.index 0)) "java/lang/Integer") (.eq (.field (.elem lw_ic (.index 0)) "java/lang/Integer" "value" "I") (.sub (.index 0) (.int 128))))) ∈ lw_flat := by decide +kernel
theorem lf_9 : (Cond.eq (.static "java/lang/Integer$IntegerCache" "high" "I") (.int 127)) ∈ lw_flat := by decide +kernel
theorem lf_10 : (Cond.eq (.static "java/lang/String" "COMPACT_STRINGS" "Z") (.int 1)) ∈ lw_flat := by decide +kernel
theorem lf_11 : (Cond.isRef (.static Bundle.tN "UNASSIGNED_STACK" Bundle.steD)) ∈ lw_flat := by decide +kernel
theorem lf_12 : (Cond.isRef (.static Bundle.tN "SUPPRESSED_SENTINEL" Bundle.listD)) ∈ lw_flat := by decide +kernel
theorem lf_13 : (Cond.isRef (.static "jdk/internal/util/Preconditions" "SIOOBE_FORMATTER" "Ljava/util/function/BiFunction;")) ∈ lw_flat := by decide +kernel
theorem lf_14 : (Cond.not (.castable "java/lang/IllegalArgumentException" "java/util/NoSuchElementException")) ∈ lw_flat := by decide +kernel
theorem lf_15 : (Cond.isRef (.mirror "[Ljava/lang/Object;")) ∈ lw_flat := by decide +kernel
/-- an array's class, out of its word -/
theorem ac_of {args : Array Value} {s : State} {ty : FieldType} (hn : ∀ C, ty ≠ .object C) (h : (Cond.arrayClass ty).before args s = true) : ∃ cA : ClassId, ArrOfT s cA ty ∧ va_RA s cA ty := by
  obtain ⟨cA, kA, comp, h1, h2, h3⟩ := Cond.arrayClass_spec h
  refine ⟨cA, fun n z => ⟨fun k h => (by cases h), kA, h2, comp, h3⟩, ?_⟩
  cases ty with
  | object C => exact absurd rfl (hn C)
  | _ => exact h1
theorem ao_of {args : Array Value} {s : State} {C : String} (h : (Cond.arrayOver (.object C)).before args s = true) : ∃ cA : ClassId, ArrOfT s cA (.object C) ∧ va_RA s cA (.object C) := by
  obtain ⟨comp, cA, kA, h1, -, h2, h3, h4⟩ := Cond.arrayOver_spec h
  exact ⟨cA, fun n z => ⟨fun k h => (by cases h), kA, h2, comp, h3⟩, kA, comp, h2, h3, h1, h4⟩
theorem eq_str {args : Array Value} {s : State} {t u : Term} {a : Nat} (h : (Cond.eq t u).before args s = true) (ht : t.eval args s none [] s = some (.ref a)) : u.eval args s none [] s = some (.ref a) := by
  cases hu : u.eval args s none [] s with
  | none => simp [Cond.before, Cond.holds, Cond.value, ht, hu] at h
  | some w =>
    simp only [Cond.before, Cond.holds, Cond.value, ht, hu] at h
    cases w <;> simp_all
set_option maxHeartbeats 4000000 in
set_option maxRecDepth 100000 in
theorem law_cx {p : Program} {s : State} {m : MethodId} {meth : Method} {c : Code} {l : Launch} {b L : Nat} {xs : Nat → Int32} (hst : l.stackTraces = false) (C0 : lw_At p s m meth c b L xs) : ∃ D : va_G, CX p l s m #[.ref b] meth c RX0 code 7 ret D (fun q => s.heap.size ≤ q) := by
  obtain ⟨hx, hb, hr, hml, hown, hts0, hX, hbl, hlocks, hgv⟩ := id C0
  have hts : ∀ w ∈ lw_all, w.before #[.ref b] s = true := fun w h => hts0 w (lw_all_tbl h)
  have hs : ∀ w ∈ lw_flat, w.before #[.ref b] s = true := flat_of_before _ hgv
  have hA : ∀ a : Nat, a < s.heap.size → ¬ (fun q : Nat => s.heap.size ≤ q) a := fun a h => Nat.not_le.mpr h
  obtain ⟨c0, i0, k0⟩ := u_known (C := RX3) (T := TX3) (N := 36) (n := 36) hts in_X3 (hts _ q978)
  obtain ⟨c1, i1, k1⟩ := u_known (C := RX1) (T := TX1) (N := 21) (n := 21) hts in_X1 (hts _ q77)
  obtain ⟨c2, i2, k2⟩ := u_known (C := RX2) (T := TX2) (N := 4) (n := 4) hts in_X2 (hts _ q439)
  obtain ⟨c3, i3, k3⟩ := u_known (C := RX4) (T := TX4) (N := 5) (n := 5) hts in_X4 (hts _ q748)
  obtain ⟨c4, i4, k4⟩ := u_known (C := RX5) (T := TX5) (N := 8) (n := 8) hts in_X5 (hts _ q825)
  obtain ⟨c5, i5, k5⟩ := u_known (C := RJ2) (T := TJ2) (N := 3) (n := 3) hts in_J2 (hts _ q85)
  obtain ⟨c6, i6, k6⟩ := u_known (C := RJ17) (T := TJ17) (N := 1) (n := 1) hts in_J17 (hts _ q855)
  obtain ⟨a0, r0⟩ := ac_of (ty := .int) (fun C h => by cases h) (hts _ q172)
  obtain ⟨a1, r1⟩ := ac_of (ty := .boolean) (fun C h => by cases h) (hts _ q461)
  obtain ⟨a2, r2⟩ := ac_of (ty := .byte) (fun C h => by cases h) (hts _ q173)
  obtain ⟨a3, r3⟩ := ac_of (ty := .long) (fun C h => by cases h) (hts _ q462)
  obtain ⟨a4, r4⟩ := ao_of (hts0 _ q97)
  obtain ⟨adK, adV, hS, hK⟩ := vk_Sof (N := 1) (tm := fun _ => lw_sb) (len := [8]) (byt := [[110, 117, 100, 85, 68, 111, 43, 45]]) (A := fun q => s.heap.size ≤ q) (fun i hi => by rcases (show i = 0 by omega) with rfl; decide) (fun i hi => hs _ lf_0) (fun i hi => hs _ lf_1) (fun i hi => hs _ lf_2) (fun i hi => by rcases (show i = 0 by omega) with rfl; exact hs _ lf_3) (fun i hi j hj => by rcases (show i = 0 by omega) with rfl; exact hs _ (lf_4 j hj)) (fun i j hi hj hij => absurd (show i = j by omega) hij) hA
  have hstr := hK 0 (by decide)
  have hstr2 := eq_str (hs _ lf_5) hstr
  obtain ⟨ad, hC, hcel⟩ := vb_Cof (A := fun q => s.heap.size ≤ q) (st := lw_ic) rfl (va_eqt (hs _ lf_7)) (hs _ lf_8) hA
  obtain ⟨tc, htc, hT⟩ := va_Tof (A := fun q => s.heap.size ≤ q) (tm := lw_ic) (ty := .object "java/lang/Integer") (N := 256) (f := fun j => .ref (ad j)) (by decide) (hs _ lf_6) (va_eqt (hs _ lf_7)) hcel hA
  obtain ⟨mi, hmi⟩ := va_Mi.of (hs _ lf_15)
  refine ⟨(fun k => match k with | 0 => c0 | 1 => c1 | 2 => c2 | 3 => c3 | 4 => c4 | 5 => c5 | 6 => c6 | 100 => a0 | 101 => a1 | 102 => a2 | 103 => a3 | _ => a4, fun k => match k with | 0 => i0 | 1 => i1 | 2 => i2 | 3 => i3 | 4 => i4 | 5 => i5 | 6 => i6 | 1000 => ad | _ => fun j => match j with | 0 => tc | 1 => adK 0 | 2 => adV 0 | _ => mi), hx, hb, hml, hown, hts, ⟨?_, ?_⟩, ⟨⟨?_, ?_, ?_, va_AO.of (hts0 _ q97), ?_⟩, ⟨vk_R.of (hts0 _ q774) hstr, vk_R.of (hts0 _ q983) hstr2, hmi⟩, ⟨hC, hT, ?_, ?_, ?_, ?_, ?_, ?_, ?_⟩⟩, fun q h => h, hst, hr, hlocks⟩
  · intro k q hq
    match k, hq with
    | 0, hq => cases hq; exact k0
    | 1, hq => cases hq; exact k1
    | 2, hq => cases hq; exact k2
    | 3, hq => cases hq; exact k3
    | 4, hq => cases hq; exact k4
    | 5, hq => cases hq; exact k5
    | 6, hq => cases hq; exact k6
    | k + 7, hq => simp [clX] at hq
  · intro k q hq
    match k, hq with
    | 0, hq => cases hq; exact r0
    | 1, hq => cases hq; exact r1
    | 2, hq => cases hq; exact r2
    | 3, hq => cases hq; exact r3
    | 4, hq => cases hq; exact r4
    | k + 5, hq => simp [tysX] at hq
  · intro q hq
    simp only [castX, List.mem_cons, List.not_mem_nil, or_false] at hq
    rcases hq with rfl | rfl | rfl | rfl | rfl | rfl
    · exact va_Nw.of rfl (hts0 _ q1311)
    · exact va_Nw.of rfl (hts0 _ q1314)
    · exact va_Nw.of rfl (hts0 _ q1316)
    · exact va_Nw.of rfl (hts0 _ q826)
    · exact va_Nw.of rfl (hts0 _ q678)
    · exact va_Nw.of rfl (hts0 _ q102)
  · intro q hq
    simp only [nestX, List.mem_cons, List.not_mem_nil, or_false] at hq
    rcases hq with rfl | rfl | rfl | rfl | rfl | rfl | rfl | rfl | rfl | rfl
    · exact va_Nw.of rfl (hts0 _ q445)
    · exact va_Nw.of rfl (hts0 _ q447)
    · exact va_Nw.of rfl (hts0 _ q449)
    · exact va_Nw.of rfl (hts0 _ q451)
    · exact va_Nw.of rfl (hts0 _ q757)
    · exact va_Nw.of rfl (hts0 _ q758)
    · exact va_Nw.of rfl (hts0 _ q760)
    · exact va_Nw.of rfl (hts0 _ q762)
    · exact va_Nw.of rfl (hts0 _ q838)
    · exact va_Nw.of rfl (hts0 _ q840)
  · intro q hq
    simp only [declX, List.mem_cons, List.not_mem_nil, or_false] at hq
    rcases hq with rfl | rfl | rfl | rfl
    · exact va_Nw.of rfl (hts0 _ q103)
    · exact va_Nw.of rfl (hts0 _ q105)
    · exact va_Nw.of rfl (hts0 _ q107)
    · exact va_Nw.of rfl (hts0 _ q1320)
  · intro q hq
    simp only [noX, List.mem_cons, List.not_mem_nil, or_false] at hq
    subst hq
    exact va_Nc.of (hs _ lf_14)
  · exact va_Zof (hts0 _ q853) (hts _ q75) htc hA
  · exact va_Zof (hts0 _ q851) (hts _ q75) (va_eqt (hs _ lf_9)) hA
  · refine ⟨fun i hi => ?_, fun i j hi hj _ => by omega⟩
    rcases (show i = 0 by omega) with rfl
    exact hS.1 0 (by decide)
  · exact va_Zof (hts0 _ q151) (hts _ q58) (va_eqt (hs _ lf_10)) hA
  · exact vx_Zqof (hts0 _ q127) (hts _ q52) (hs _ lf_11) hA
  · exact vx_Zqof (hts0 _ q129) (hts _ q52) (hs _ lf_12) hA
  · exact va_Zqof (hts0 _ q239) (hts _ q64) (hs _ lf_13) hA
