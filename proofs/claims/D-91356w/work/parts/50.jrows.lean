/-! ===== rows: statics, texts, reference arrays, casts, null tests, arraycopy, Math ===== -/
section JR
variable {p : Program} {l : Launch} {e : Env} {R : Room} {s : State} {mm : MethodId} {args : Array Value} {below : List Frame} {meth : Method} {c : Code} {own : String} {cc : ByteArray} {nL : Nat} {ret : Option FieldType} {D : va_G} {A B : Nat → Prop} {cells slots : Nat} {Q : State → Prop} {ws : va_W} {pc : Nat} {lv : List (Nat × Value)} {st : List Value}
theorem g_gets (C : CX p l s mm args meth c own cc nL ret D A) {Cn n ds ref : String} {i : Nat} {v : Value} (hZ : va_Z Cn n ds v A s s.heap) (hw : Cond.fieldLink own i ref n ds ∈ lw_all) (hs : Cn = ref) (d : decode cc pc = .ok (.getstatic i, 3)) (K : GO p l e R s mm args below meth c nL D A B cells slots Q (ws) (pc + 3) (lv) (v :: st)) : GO p l e R s mm args below meth c nL D A B cells slots Q (ws) (pc) (lv) (st) := by
  intro H locs ls hP hD hS hl
  exact va_gets C.hx C.hb hZ hS C.hown (C.hts _ hw) (fun x h => by subst hs; exact h) d (K H locs ls hP hD hS hl)
theorem g_getsQ (C : CX p l s mm args meth c own cc nL ret D A) {Cn n ds ref : String} {i : Nat} (hZ : va_Zq Cn n ds A s s.heap) (hw : Cond.fieldLink own i ref n ds ∈ lw_all) (hs : Cn = ref) (d : decode cc pc = .ok (.getstatic i, 3)) (K0 : GO p l e R s mm args below meth c nL D A B cells slots Q (ws) (pc + 3) (lv) (.null :: st)) (K : ∀ q : Nat, GO p l e R s mm args below meth c nL D A B cells slots Q (ws) (pc + 3) (lv) (.ref q :: st)) : GO p l e R s mm args below meth c nL D A B cells slots Q (ws) (pc) (lv) (st) := by
  rcases hZ with hZ | ⟨q, hZ⟩
  · exact g_gets C hZ hw hs d K0
  · exact g_gets C hZ hw hs d (K q)
theorem g_getf (C : CX p l s mm args meth c own cc nL ret D A) {o n ds ref : String} {i q : Nat} {v : Value} (hE : va_OF o n ds v q A s s.heap) (hw : Cond.fieldLink own i ref n ds ∈ lw_all) (hs : o = ref) (d : decode cc pc = .ok (.getfield i, 3)) (K : GO p l e R s mm args below meth c nL D A B cells slots Q (ws) (pc + 3) (lv) (v :: st)) : GO p l e R s mm args below meth c nL D A B cells slots Q (ws) (pc) (lv) (.ref q :: st) := by
  intro H locs ls hP hD hS hl
  exact vk_getf C.hx C.hb hE hS C.hown (C.hts _ hw) (fun x h => by subst hs; exact h) d (K H locs ls hP hD hS hl)
theorem g_tb (C : CX p l s mm args meth c own cc nL ret D A) {t N : Nat} {f : Nat → Value} (hT : va_T .byte t N f A s s.heap) {i : Int} {v : Value} (h0 : 0 ≤ i ∧ i < N) (hN : (N : Int) < 2147483648) (hv : f i.toNat = v) (d : decode cc pc = .ok (.baload, 1)) (K : GO p l e R s mm args below meth c nL D A B cells slots Q (ws) (pc + 1) (lv) (v :: st)) : GO p l e R s mm args below meth c nL D A B cells slots Q (ws) (pc) (lv) (.int (iI i) :: .ref t :: st) := by
  intro H locs ls hP hD hS hl
  exact va_tb C.hx C.hb hT hS (iI_in h0.1 h0.2 hN) (by rw [iI_tn h0.1 (by omega)]; exact hv) d (K H locs ls hP hD hS hl)
theorem g_tq (C : CX p l s mm args meth c own cc nL ret D A) {t N : Nat} {f : Nat → Value} {E : String} (hT : va_T (.object E) t N f A s s.heap) {i : Int} {v : Value} (h0 : 0 ≤ i ∧ i < N) (hN : (N : Int) < 2147483648) (hv : f i.toNat = v) (d : decode cc pc = .ok (.aaload, 1)) (K : GO p l e R s mm args below meth c nL D A B cells slots Q (ws) (pc + 1) (lv) (v :: st)) : GO p l e R s mm args below meth c nL D A B cells slots Q (ws) (pc) (lv) (.int (iI i) :: .ref t :: st) := by
  intro H locs ls hP hD hS hl
  exact vb_tq C.hx C.hb hT hS (iI_in h0.1 h0.2 hN) (by rw [iI_tn h0.1 (by omega)]; exact hv) d (K H locs ls hP hD hS hl)
theorem g_tlen (C : CX p l s mm args meth c own cc nL ret D A) {t N : Nat} {f : Nat → Value} {ty : FieldType} (hT : va_T ty t N f A s s.heap) (d : decode cc pc = .ok (.arraylength, 1)) (K : GO p l e R s mm args below meth c nL D A B cells slots Q (ws) (pc + 1) (lv) (.int (iI N) :: st)) : GO p l e R s mm args below meth c nL D A B cells slots Q (ws) (pc) (lv) (.ref t :: st) := by
  intro H locs ls hP hD hS hl
  exact va_tlen C.hx C.hb hT hS (show Int32.ofNat N = iI N from (Int32.ofInt_eq_ofNat).symm) d (K H locs ls hP hD hS hl)
theorem g_i2c (C : CX p l s mm args meth c own cc nL ret D A) {a z : Int} (hz : ((iI a).toUInt32 % 65536).toInt32 = iI z) (d : decode cc pc = .ok (.i2c, 1)) (K : GO p l e R s mm args below meth c nL D A B cells slots Q (ws) (pc + 1) (lv) (.int (iI z) :: st)) : GO p l e R s mm args below meth c nL D A B cells slots Q (ws) (pc) (lv) (.int (iI a) :: st) := by
  intro H locs ls hP hD hS hl
  exact lv_i2c C.hx C.hb d hz (K H locs ls hP hD hS hl)
theorem g_ifnonnull (C : CX p l s mm args meth c own cc nL ret D A) {x : Nat} {off : Int} {tgt : Nat} (ht : (pc : Int) + off = (tgt : Int)) (d : decode cc pc = .ok (.ifnonnull off, 3)) (K : GO p l e R s mm args below meth c nL D A B cells slots Q (ws) (tgt) (lv) (st)) : GO p l e R s mm args below meth c nL D A B cells slots Q (ws) (pc) (lv) (.ref x :: st) := by
  intro H locs ls hP hD hS hl
  exact lv_ifnonnull C.hx C.hb d ht (K H locs ls hP hD hS hl)
theorem g_ifnull (C : CX p l s mm args meth c own cc nL ret D A) {x : Nat} {off : Int} (d : decode cc pc = .ok (.ifnull off, 3)) (K : GO p l e R s mm args below meth c nL D A B cells slots Q (ws) (pc + 3) (lv) (st)) : GO p l e R s mm args below meth c nL D A B cells slots Q (ws) (pc) (lv) (.ref x :: st) := by
  intro H locs ls hP hD hS hl
  exact lv_ifnull C.hx C.hb d (K H locs ls hP hD hS hl)
theorem g_ifnullN (C : CX p l s mm args meth c own cc nL ret D A) {off : Int} {tgt : Nat} (ht : (pc : Int) + off = (tgt : Int)) (d : decode cc pc = .ok (.ifnull off, 3)) (K : GO p l e R s mm args below meth c nL D A B cells slots Q (ws) (tgt) (lv) (st)) : GO p l e R s mm args below meth c nL D A B cells slots Q (ws) (pc) (lv) (.null :: st) := by
  intro H locs ls hP hD hS hl
  exact lv_ifnullN C.hx C.hb d ht (K H locs ls hP hD hS hl)
theorem g_ifnonnullN (C : CX p l s mm args meth c own cc nL ret D A) {off : Int} (d : decode cc pc = .ok (.ifnonnull off, 3)) (K : GO p l e R s mm args below meth c nL D A B cells slots Q (ws) (pc + 3) (lv) (st)) : GO p l e R s mm args below meth c nL D A B cells slots Q (ws) (pc) (lv) (.null :: st) := by
  intro H locs ls hP hD hS hl
  exact lv_ifnonnullN C.hx C.hb d (K H locs ls hP hD hS hl)
theorem g_aldq (C : CX p l s mm args meth c own cc nL ret D A) (q0 : Nat) {a n : Nat} {f : Nat → Option Nat} {i : Int} {v : Value} (ha : ws[q0]? = some (a, .inl (D.1 104, n, .inr (.inr (.inr (.inr f)))))) (h0 : 0 ≤ i ∧ i < n) (hn : (n : Int) < 2147483648) (hv : va_rf (f i.toNat) = v) (d : decode cc pc = .ok (.aaload, 1)) (K : GO p l e R s mm args below meth c nL D A B cells slots Q (ws) (pc + 1) (lv) (v :: st)) : GO p l e R s mm args below meth c nL D A B cells slots Q (ws) (pc) (lv) (.int (iI i) :: .ref a :: st) := by
  intro H locs ls hP hD hS hl
  refine va_aldq C.hx C.hb C.hK hP q0 4 ha rfl (iI_in h0.1 h0.2 hn) d ?_
  rw [iI_tn h0.1 (by omega), hv]
  exact K H locs ls hP hD hS hl
theorem g_astqN (C : CX p l s mm args meth c own cc nL ret D A) (q0 : Nat) {a n : Nat} {f : Nat → Option Nat} {i : Int} {ws' : va_W} (ha : ws[q0]? = some (a, .inl (D.1 104, n, .inr (.inr (.inr (.inr f)))))) (h0 : 0 ≤ i ∧ i < n) (hn : (n : Int) < 2147483648) (hw : ws.set q0 (a, .inl (D.1 104, n, .inr (.inr (.inr (.inr (va_up f i.toNat none)))))) = ws') (d : decode cc pc = .ok (.aastore, 1)) (K : GO p l e R s mm args below meth c nL D A A cells slots Q (ws') (pc + 1) (lv) (st)) : GO p l e R s mm args below meth c nL D A A cells slots Q (ws) (pc) (lv) (.null :: .int (iI i) :: .ref a :: st) := by
  intro H locs ls hP hD hS hl
  refine va_astqN C.hx C.hb C.hK hP hD hS q0 4 ha rfl (iI_in h0.1 h0.2 hn) d (fun H1 locs1 hP1 hD1 hS1 => ?_)
  rw [iI_tn h0.1 (by omega), hw] at hP1 hD1
  exact K H1 locs1 ls hP1 hD1 hS1 hl
theorem g_astqM (C : CX p l s mm args meth c own cc nL ret D A) (q0 : Nat) {a n x : Nat} {f : Nat → Option Nat} {i : Int} {ws' : va_W} (ha : ws[q0]? = some (a, .inl (D.1 104, n, .inr (.inr (.inr (.inr f)))))) (hr : ∀ (H : Heap) (locs : List Loc), va_P D clX ws H → va_S A s.heap H locs → va_Any "java/lang/Object" s H x) (h0 : 0 ≤ i ∧ i < n) (hn : (n : Int) < 2147483648) (hw : ws.set q0 (a, .inl (D.1 104, n, .inr (.inr (.inr (.inr (va_up f i.toNat (some x))))))) = ws') (d : decode cc pc = .ok (.aastore, 1)) (K : GO p l e R s mm args below meth c nL D A A cells slots Q (ws') (pc + 1) (lv) (st)) : GO p l e R s mm args below meth c nL D A A cells slots Q (ws) (pc) (lv) (.ref x :: .int (iI i) :: .ref a :: st) := by
  intro H locs ls hP hD hS hl
  refine va_astqM C.hx C.hb C.hK hP hD hS q0 4 ha rfl (hr H locs hP hS) (iI_in h0.1 h0.2 hn) d (fun H1 locs1 hP1 hD1 hS1 => ?_)
  rw [iI_tn h0.1 (by omega), hw] at hP1 hD1
  exact K H1 locs1 ls hP1 hD1 hS1 hl
theorem g_newq (C : CX p l s mm args meth c own cc nL ret D A) {z : Int} {N i : Nat} (hN : z = N) (hN2 : (N : Int) ≤ 100000) (hcl : Cond.classLink own i "java/lang/Object" ∈ lw_all) (d : decode cc pc = .ok (.anewarray i, 3)) (hc : cells + 1 ≤ R.cells) (hs : slots + N ≤ R.slots)
    (K : ∀ q : Nat, GO p l e R s mm args below meth c nL D A A (cells + 1) (slots + N) Q (ws ++ [(q, .inl (D.1 104, N, .inr (.inr (.inr (.inr (fun _ => none))))))]) (pc + 3) lv (.ref q :: st)) : GO p l e R s mm args below meth c nL D A A cells slots Q (ws) (pc) (lv) (.int (iI z) :: st) := by
  intro H locs ls hP hD hS hl
  subst hN
  refine va_newq (N' := N) C.hx C.hb C.hown (C.hts _ hcl) C.hG.1.2.2.2.1 C.hK hP hD hS C.hA (by rw [← iI_0, iI_lt ⟨by omega, by omega⟩ iI_r0]; omega) (by rw [iI_tn (by omega) (by omega)]; rfl) (by omega) hc hs d (fun q cA H1 hK2 hP1 hD1 hS1 => ?_)
  have e := tys_sameO (t0 := 4) C.hK rfl hK2
  subst e
  exact K q H1 locs ls hP1 hD1 hS1 hl
theorem g_getN (C : CX p l s mm args meth c own cc nL ret D A) {Cn ref : String} {T : u_T} {N ci i : Nat} (hin : ∀ w ∈ u_ws Cn T N, w ∈ lw_all) (q0 k : Nat) {a : Nat} {fs : List Value} {v : Value} (he : ws[q0]? = some (a, .inr (ci, fs))) (hc : clX[ci]? = some (Cn, T, N)) (hk : k < N) (hv : fs[k]? = some v) (hw : (i, ref, (T k).2.1, (T k).2.2.1) ∈ nestX) (ho : own = RX1) (hs : (T k).1 = ref) (d : decode cc pc = .ok (.getfield i, 3)) (K : GO p l e R s mm args below meth c nL D A B cells slots Q (ws) (pc + 3) (lv) (v :: st)) : GO p l e R s mm args below meth c nL D A B cells slots Q (ws) (pc) (lv) (.ref a :: st) := by
  intro H locs ls hP hD hS hl
  subst ho
  exact va_getN C.hx C.hb C.hts hin C.hown C.hK hP q0 he hc k hk (va_Nw.use rfl (C.hG.1.2.1 _ hw)) (fun x h => by rw [hs] at h; exact h) hv d (K H locs ls hP hD hS hl)
theorem g_putN (C : CX p l s mm args meth c own cc nL ret D A) {Cn ref : String} {T : u_T} {N ci i : Nat} (hin : ∀ w ∈ u_ws Cn T N, w ∈ lw_all) (ty0 : Nat → FieldType) (hty : ∀ k, k < N → parseFieldDescriptor (T k).2.2.1 = some (ty0 k)) (hnm : ∀ a, a < N → ∀ b, b < N → a ≠ b → (T a).2.1 ≠ (T b).2.1) (q0 k : Nat) {a : Nat} {fs : List Value} {v : Value} {ws' : va_W} (he : ws[q0]? = some (a, .inr (ci, fs))) (hc : clX[ci]? = some (Cn, T, N)) (hk : k < N) (hw : (i, ref, (T k).2.1, (T k).2.2.1) ∈ nestX) (ho : own = RX1) (hs : (T k).1 = ref) (hf : (T k).2.2.2 = false) (hn : narrow (ty0 k) v = v) (hfit : fits (ty0 k) v = true) (hl9 : k < fs.length) (hws : ws.set q0 (a, .inr (ci, fs.set k v)) = ws') (d : decode cc pc = .ok (.putfield i, 3)) (K : GO p l e R s mm args below meth c nL D A A cells slots Q (ws') (pc + 3) (lv) (st)) : GO p l e R s mm args below meth c nL D A A cells slots Q (ws) (pc) (lv) (v :: .ref a :: st) := by
  intro H locs ls hP hD hS hl
  subst ho
  refine va_putN C.hx C.hb C.hts hin ty0 hty hnm C.hown C.hK hP hD hS q0 he hc k hk (va_Nw.use rfl (C.hG.1.2.1 _ hw)) (fun x h => by rw [hs] at h; exact h) hf (hty k hk) hn hfit hl9 d (fun H1 locs1 hP1 hD1 hS1 => ?_)
  rw [hws] at hP1 hD1
  exact K H1 locs1 ls hP1 hD1 hS1 hl
theorem g_castY (C : CX p l s mm args meth c own cc nL ret D A) {Cn nm : String} {i a : Nat} (hw : Cond.classLink own i nm ∈ lw_all) (hcs : (Cn, nm) ∈ castX) (hr : ∀ (H : Heap) (locs : List Loc), va_P D clX ws H → va_S A s.heap H locs → ∃ cell : Cell, H[a]? = some cell ∧ cell.vm.isStatics = false ∧ s.vm.findClass Cn = some cell.cls) (d : decode cc pc = .ok (.checkcast i, 3)) (K : GO p l e R s mm args below meth c nL D A B cells slots Q (ws) (pc + 3) (lv) (.ref a :: st)) : GO p l e R s mm args below meth c nL D A B cells slots Q (ws) (pc) (lv) (.ref a :: st) := by
  intro H locs ls hP hD hS hl
  exact va_castY C.hx C.hb C.hown (C.hts _ hw) (C.hG.1.1 _ hcs) (hr H locs hP hS) d (K H locs ls hP hD hS hl)
theorem g_castE (C : CX p l s mm args meth c own cc nL ret D A) {nm : String} {i a : Nat} (hw : Cond.classLink own i nm ∈ lw_all) (hr : ∀ (H : Heap) (locs : List Loc), va_P D clX ws H → va_S A s.heap H locs → ∃ cell : Cell, H[a]? = some cell ∧ cell.vm.isStatics = false ∧ s.vm.findClass nm = some cell.cls) (d : decode cc pc = .ok (.checkcast i, 3)) (K : GO p l e R s mm args below meth c nL D A B cells slots Q (ws) (pc + 3) (lv) (.ref a :: st)) : GO p l e R s mm args below meth c nL D A B cells slots Q (ws) (pc) (lv) (.ref a :: st) := by
  intro H locs ls hP hD hS hl
  exact va_castE C.hx C.hb C.hown (C.hts _ hw) (hr H locs hP hS) d (K H locs ls hP hD hS hl)
theorem g_lald (C : CX p l s mm args meth c own cc nL ret D A) (q0 : Nat) {a n : Nat} {f : Nat → Int64} {i : Int} {v : Int64} (ha : ws[q0]? = some (a, .inl (D.1 103, n, .inr (.inl f)))) (h0 : 0 ≤ i ∧ i < n) (hn : (n : Int) < 2147483648) (hv : f i.toNat = v) (d : decode cc pc = .ok (.laload, 1)) (K : GO p l e R s mm args below meth c nL D A B cells slots Q (ws) (pc + 1) (lv) (.long v :: st)) : GO p l e R s mm args below meth c nL D A B cells slots Q (ws) (pc) (lv) (.int (iI i) :: .ref a :: st) := by
  intro H locs ls hP hD hS hl
  refine va_lald C.hx C.hb C.hK hP q0 3 ha rfl (iI_in h0.1 h0.2 hn) d ?_
  rw [iI_tn h0.1 (by omega), hv]
  exact K H locs ls hP hD hS hl
theorem g_last (C : CX p l s mm args meth c own cc nL ret D A) (q0 : Nat) {a n : Nat} {f : Nat → Int64} {i : Int} {x : Int64} {ws' : va_W} (ha : ws[q0]? = some (a, .inl (D.1 103, n, .inr (.inl f)))) (h0 : 0 ≤ i ∧ i < n) (hn : (n : Int) < 2147483648) (hw : ws.set q0 (a, .inl (D.1 103, n, .inr (.inl (vp_updL f i.toNat x)))) = ws') (d : decode cc pc = .ok (.lastore, 1)) (K : GO p l e R s mm args below meth c nL D A A cells slots Q (ws') (pc + 1) (lv) (st)) : GO p l e R s mm args below meth c nL D A A cells slots Q (ws) (pc) (lv) (.long x :: .int (iI i) :: .ref a :: st) := by
  intro H locs ls hP hD hS hl
  refine va_last C.hx C.hb C.hK hP hD hS q0 3 ha rfl (iI_in h0.1 h0.2 hn) d (fun H1 locs1 hP1 hD1 hS1 => ?_)
  rw [iI_tn h0.1 (by omega), hw] at hP1 hD1
  exact K H1 locs1 ls hP1 hD1 hS1 hl
theorem g_mmax (C : CX p l s mm args meth c own cc nL ret D A) {i : Nat} {x y z : Int} (hlk : Cond.methodLink own i Lib.Math.max.name ∈ lw_all) (hq : Cond.static Lib.Math.max.name ∈ lw_all ∧ Cond.initialized "java/lang/Math" ∈ lw_all ∧ Cond.code Lib.Math.max.name Lib.Math.max.code 2 (some .int) ∈ lw_all) (hx : -2147483648 ≤ x ∧ x < 2147483648) (hy : -2147483648 ≤ y ∧ y < 2147483648) (hz : (if x < y then y else x) = z) (hf : 1 ≤ R.frames) (hlo : (st.map fun v => v.category).sum + 13 ≤ R.locals) (hroom : cells ≤ R.cells ∧ slots ≤ R.slots) (d : decode cc pc = .ok (.invokestatic i, 3)) (K : GO p l e R s mm args below meth c nL D A B cells slots Q (ws) (pc + 3) (lv) (.int (iI z) :: st)) : GO p l e R s mm args below meth c nL D A B cells slots Q (ws) (pc) (lv) (.int (iI y) :: .int (iI x) :: st) := by
  intro H locs ls hP hD hS hl
  refine va_mmax C.hx C.hb (by rw [C.hml]; exact hl.1.symm) C.hown (C.hts _ hlk) (C.hts _ hq.1) (C.hts _ hq.2.1) (C.hts _ hq.2.2) hf hlo hroom.1 hroom.2 d ?_
  have e : (if iI x < iI y then iI y else iI x) = iI z := by
    subst hz
    by_cases h : x < y
    · rw [if_pos ((iI_lt hx hy).mpr h), if_pos h]
    · rw [if_neg (fun q => h ((iI_lt hx hy).mp q)), if_neg h]
  rw [e]
  exact K H locs ls hP hD hS hl
theorem g_mmin (C : CX p l s mm args meth c own cc nL ret D A) {i : Nat} {x y z : Int} (hlk : Cond.methodLink own i Lib.Math.min.name ∈ lw_all) (hq : Cond.static Lib.Math.min.name ∈ lw_all ∧ Cond.initialized "java/lang/Math" ∈ lw_all ∧ Cond.code Lib.Math.min.name Lib.Math.min.code 2 (some .int) ∈ lw_all) (hx : -2147483648 ≤ x ∧ x < 2147483648) (hy : -2147483648 ≤ y ∧ y < 2147483648) (hz : (if y < x then y else x) = z) (hf : 1 ≤ R.frames) (hlo : (st.map fun v => v.category).sum + 13 ≤ R.locals) (hroom : cells ≤ R.cells ∧ slots ≤ R.slots) (d : decode cc pc = .ok (.invokestatic i, 3)) (K : GO p l e R s mm args below meth c nL D A B cells slots Q (ws) (pc + 3) (lv) (.int (iI z) :: st)) : GO p l e R s mm args below meth c nL D A B cells slots Q (ws) (pc) (lv) (.int (iI y) :: .int (iI x) :: st) := by
  intro H locs ls hP hD hS hl
  refine va_mmin C.hx C.hb (by rw [C.hml]; exact hl.1.symm) C.hown (C.hts _ hlk) (C.hts _ hq.1) (C.hts _ hq.2.1) (C.hts _ hq.2.2) hf hlo hroom.1 hroom.2 d ?_
  have e : (if iI y < iI x then iI y else iI x) = iI z := by
    subst hz
    by_cases h : y < x
    · rw [if_pos ((iI_lt hy hx).mpr h), if_pos h]
    · rw [if_neg (fun q => h ((iI_lt hy hx).mp q)), if_neg h]
  rw [e]
  exact K H locs ls hP hD hS hl
end JR
