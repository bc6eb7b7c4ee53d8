/-! ===== rows that make: arrays, objects; constructors' rows ===== -/
section ALLOC
variable {p : Program} {l : Launch} {e : Env} {R : Room} {s : State} {mm : MethodId} {args : Array Value} {below : List Frame} {meth : Method} {c : Code} {own : String} {cc : ByteArray} {nL : Nat} {ret : Option FieldType} {D : va_G} {A B : Nat → Prop} {cells slots : Nat} {Q : State → Prop} {ws : va_W} {pc : Nat} {lv : List (Nat × Value)} {st : List Value}
theorem tys_same {cA cB : ClassId} {tys : List (ClassId × FieldType)} {ty : FieldType} {t0 : Nat} {cl : List vw_C} (hty : ∀ C, ty ≠ .object C) (hK : va_K D cl tys s) (ht : tys[t0]? = some (cB, ty)) (hK2 : va_K D cl (tys ++ [(cA, ty)]) s) : cA = cB := by
  have h1 := (hK.2 t0 _ ht).2
  have h2 := (hK2.2 tys.length (cA, ty) (by rw [List.getElem?_append_right (Nat.le_refl _), Nat.sub_self]; rfl)).2
  cases ty <;> first | exact Option.some.inj (h2.symm.trans h1) | exact absurd rfl (hty _)
theorem tys_sameO {cA cB : ClassId} {tys : List (ClassId × FieldType)} {E : String} {t0 : Nat} {cl : List vw_C} (hK : va_K D cl tys s) (ht : tys[t0]? = some (cB, .object E)) (hK2 : va_K D cl (tys ++ [(cA, .object E)]) s) : cA = cB := by
  obtain ⟨k1, c1, -, -, -, h1⟩ := (hK.2 t0 _ ht).2
  obtain ⟨k2, c2, -, -, -, h2⟩ := (hK2.2 tys.length (cA, .object E) (by rw [List.getElem?_append_right (Nat.le_refl _), Nat.sub_self]; rfl)).2
  exact Option.some.inj (h2.symm.trans h1)
theorem g_newi (C : CX p l s mm args meth c own cc nL ret D A) {z : Int} {N : Nat} (hN : z = N) (hN2 : (N : Int) ≤ 100000) (d : decode cc pc = .ok (.newarray .int, 2)) (hc : cells + 1 ≤ R.cells) (hs : slots + N ≤ R.slots)
    (K : ∀ q : Nat, GO p l e R s mm args below meth c nL D A A (cells + 1) (slots + N) Q (ws ++ [(q, .inl (D.1 100, N, .inl (aI (fun _ => 0))))]) (pc + 2) lv (.ref q :: st)) : GO p l e R s mm args below meth c nL D A A cells slots Q ws pc lv (.int (iI z) :: st) := by
  intro H locs ls hP hD hS hl
  subst hN
  refine va_newa (atype := .int) (ty := .int) (N' := N) (a0 := (N, .inl (aI (fun _ => 0)))) C.hx C.hb (C.hts _ q172) rfl C.hK hP hD hS C.hA (fun cA => rfl) (by rw [← iI_0, iI_lt ⟨by omega, by omega⟩ iI_r0]; omega) (by rw [iI_tn (by omega) (by omega)]; rfl) (by show N * 4 ≤ _; omega) hc hs d (fun q cA H1 hK2 hP1 hD1 hS1 => ?_)
  have e := tys_same (t0 := 0) (fun C h => by cases h) C.hK rfl hK2
  subst e
  exact K q H1 locs ls hP1 hD1 hS1 hl
theorem g_newz (C : CX p l s mm args meth c own cc nL ret D A) {z : Int} {N : Nat} (hN : z = N) (hN2 : (N : Int) ≤ 100000) (d : decode cc pc = .ok (.newarray .boolean, 2)) (hc : cells + 1 ≤ R.cells) (hs : slots + N ≤ R.slots)
    (K : ∀ q : Nat, GO p l e R s mm args below meth c nL D A A (cells + 1) (slots + N) Q (ws ++ [(q, .inl (D.1 101, N, .inl (aI (fun _ => 0))))]) (pc + 2) lv (.ref q :: st)) : GO p l e R s mm args below meth c nL D A A cells slots Q ws pc lv (.int (iI z) :: st) := by
  intro H locs ls hP hD hS hl
  subst hN
  refine va_newa (atype := .boolean) (ty := .boolean) (N' := N) (a0 := (N, .inl (aI (fun _ => 0)))) C.hx C.hb (C.hts _ q461) rfl C.hK hP hD hS C.hA (fun cA => rfl) (by rw [← iI_0, iI_lt ⟨by omega, by omega⟩ iI_r0]; omega) (by rw [iI_tn (by omega) (by omega)]; rfl) (by show N * 1 ≤ _; omega) hc hs d (fun q cA H1 hK2 hP1 hD1 hS1 => ?_)
  have e := tys_same (t0 := 1) (fun C h => by cases h) C.hK rfl hK2
  subst e
  exact K q H1 locs ls hP1 hD1 hS1 hl
theorem g_newb (C : CX p l s mm args meth c own cc nL ret D A) {z : Int} {N : Nat} (hN : z = N) (hN2 : (N : Int) ≤ 100000) (d : decode cc pc = .ok (.newarray .byte, 2)) (hc : cells + 1 ≤ R.cells) (hs : slots + N ≤ R.slots)
    (K : ∀ q : Nat, GO p l e R s mm args below meth c nL D A A (cells + 1) (slots + N) Q (ws ++ [(q, .inl (D.1 102, N, .inl (aI (fun _ => 0))))]) (pc + 2) lv (.ref q :: st)) : GO p l e R s mm args below meth c nL D A A cells slots Q ws pc lv (.int (iI z) :: st) := by
  intro H locs ls hP hD hS hl
  subst hN
  refine va_newa (atype := .byte) (ty := .byte) (N' := N) (a0 := (N, .inl (aI (fun _ => 0)))) C.hx C.hb (C.hts _ q173) rfl C.hK hP hD hS C.hA (fun cA => rfl) (by rw [← iI_0, iI_lt ⟨by omega, by omega⟩ iI_r0]; omega) (by rw [iI_tn (by omega) (by omega)]; rfl) (by show N * 1 ≤ _; omega) hc hs d (fun q cA H1 hK2 hP1 hD1 hS1 => ?_)
  have e := tys_same (t0 := 2) (fun C h => by cases h) C.hK rfl hK2
  subst e
  exact K q H1 locs ls hP1 hD1 hS1 hl
theorem g_newj (C : CX p l s mm args meth c own cc nL ret D A) {z : Int} {N : Nat} (hN : z = N) (hN2 : (N : Int) ≤ 100000) (d : decode cc pc = .ok (.newarray .long, 2)) (hc : cells + 1 ≤ R.cells) (hs : slots + N ≤ R.slots)
    (K : ∀ q : Nat, GO p l e R s mm args below meth c nL D A A (cells + 1) (slots + N) Q (ws ++ [(q, .inl (D.1 103, N, .inr (.inl (fun _ => 0))))]) (pc + 2) lv (.ref q :: st)) : GO p l e R s mm args below meth c nL D A A cells slots Q ws pc lv (.int (iI z) :: st) := by
  intro H locs ls hP hD hS hl
  subst hN
  refine va_newa (atype := .long) (ty := .long) (N' := N) (a0 := (N, .inr (.inl (fun _ => 0)))) C.hx C.hb (C.hts _ q462) rfl C.hK hP hD hS C.hA (fun cA => rfl) (by rw [← iI_0, iI_lt ⟨by omega, by omega⟩ iI_r0]; omega) (by rw [iI_tn (by omega) (by omega)]; rfl) (by show N * 8 ≤ _; omega) hc hs d (fun q cA H1 hK2 hP1 hD1 hS1 => ?_)
  have e := tys_same (t0 := 3) (fun C h => by cases h) C.hK rfl hK2
  subst e
  exact K q H1 locs ls hP1 hD1 hS1 hl
theorem g_new (C : CX p l s mm args meth c own cc nL ret D A) {Cn : String} {T : u_T} {N ci i : Nat} (hin : ∀ w ∈ u_ws Cn T N, w ∈ lw_all) (ty : Nat → FieldType) (hty : ∀ k, k < N → parseFieldDescriptor (T k).2.2.1 = some (ty k)) (hc0 : clX[ci]? = some (Cn, T, N)) {fs : List Value} (hfs : (List.range N).all (fun j => decide (defaultValue (ty j) = vp_V fs j)) = true) (hcl : Cond.classLink own i Cn ∈ lw_all) (hinst : Cond.instantiable Cn N ∈ lw_all) (hini : Cond.initialized Cn ∈ lw_all) (d : decode cc pc = .ok (.new i, 3)) (hc : cells + 1 ≤ R.cells) (hs : slots + N ≤ R.slots)
    (K : ∀ q : Nat, GO p l e R s mm args below meth c nL D A A (cells + 1) (slots + N) Q (ws ++ [(q, .inr (ci, fs))]) (pc + 3) lv (.ref q :: st)) : GO p l e R s mm args below meth c nL D A A cells slots Q ws pc lv st := by
  intro H locs ls hP hD hS hl
  refine va_new C.hx C.hb C.hts hin ty hty C.hown (C.hts _ hcl) (C.hts _ hinst) (C.hts _ hini) C.hK hP hD hS C.hA hc0 (fs := fs) (fun j hj => of_decide_eq_true (List.all_eq_true.mp hfs j (List.mem_range.mpr hj))) hc hs d (fun q H1 hP1 hD1 hS1 => K q H1 locs ls hP1 hD1 hS1 hl)
theorem g_putF (C : CX p l s mm args meth c own cc nL ret D A) {T : u_T} {N ci i : Nat} (hin : ∀ w ∈ u_ws own T N, w ∈ lw_all) (ty0 : Nat → FieldType) (hty : ∀ k, k < N → parseFieldDescriptor (T k).2.2.1 = some (ty0 k)) (hnm : ∀ a, a < N → ∀ b, b < N → a ≠ b → (T a).2.1 ≠ (T b).2.1) (hinit : meth.name = "<init>") (q0 k : Nat) {a : Nat} {fs : List Value} {v : Value} {ws' : va_W} (he : ws[q0]? = some (a, .inr (ci, fs))) (hc : clX[ci]? = some (own, T, N)) (hk : k < N) (hw : Cond.fieldLink own i own (T k).2.1 (T k).2.2.1 ∈ lw_all) (hs : (T k).1 = own) (hf : (T k).2.2.2 = true) (hn : narrow (ty0 k) v = v) (hfit : fits (ty0 k) v = true) (hl9 : k < fs.length) (d : decode cc pc = .ok (.putfield i, 3)) (hws : ws.set q0 (a, .inr (ci, fs.set k v)) = ws') (K : GO p l e R s mm args below meth c nL D A A cells slots Q ws' (pc + 3) lv st) : GO p l e R s mm args below meth c nL D A A cells slots Q ws pc lv (v :: .ref a :: st) := by
  intro H locs ls hP hD hS hl
  refine va_putF C.hx C.hb C.hts hin ty0 hty hnm C.hown C.hK hP hD hS q0 he hc k hk (C.hts _ hw) (fun x h => by rw [hs] at h; exact h) hf hinit hs (hty k hk) hn hfit hl9 d (fun H1 locs1 hP1 hD1 hS1 => ?_)
  rw [hws] at hP1 hD1
  exact K H1 locs1 ls hP1 hD1 hS1 hl
theorem g_objInit (C : CX p l s mm args meth c own cc nL ret D A) {i a : Nat} (hl1 : Cond.methodLink own i Lib.objectInit ∈ lw_all) (hl2 : Cond.instanceMethod Lib.objectInit ∈ lw_all) (hl3 : Cond.code Lib.objectInit ⟨#[0xb1]⟩ 1 none ∈ lw_all) (d : decode cc pc = .ok (.invokespecial i, 3)) (hf : 1 ≤ R.frames) (hlo : (st.map fun v => v.category).sum + 12 ≤ R.locals) (K : GO p l e R s mm args below meth c nL D A B cells slots Q ws (pc + 3) lv st) : GO p l e R s mm args below meth c nL D A B cells slots Q ws pc lv (.ref a :: st) := by
  intro H locs ls hP hD hS hl
  refine W.objInit C.hx C.hb C.hown (C.hts _ hl1) (C.hts _ hl2) (C.hts _ hl3) rfl (by rw [C.hml]; exact hl.1) rfl d hf (by show 2 * 0 + _ + 12 ≤ _; omega) ?_
  exact W.eq (g2 := F0 mm (pc + 3) ls st) rfl (K H locs ls hP hD hS hl)
theorem g_ldcS (C : CX p l s mm args meth c own cc nL ret D A) {i q : Nat} {tx : String} (hZ : vk_R own i tx q s) (d : decode cc pc = .ok (.ldc i, 2)) (K : GO p l e R s mm args below meth c nL D A B cells slots Q ws (pc + 2) lv (.ref q :: st)) : GO p l e R s mm args below meth c nL D A B cells slots Q ws pc lv st := by
  intro H locs ls hP hD hS hl
  exact va_ldcS C.hx C.hb C.hown hZ d (K H locs ls hP hD hS hl)
end ALLOC
