/-! ===== rows: inherited fields, class objects, arraycopy of references, lists' contents ===== -/
section JR2
variable {p : Program} {l : Launch} {e : Env} {R : Room} {s : State} {mm : MethodId} {args : Array Value} {below : List Frame} {meth : Method} {c : Code} {own : String} {cc : ByteArray} {nL : Nat} {ret : Option FieldType} {D : va_G} {A B : Nat → Prop} {cells slots : Nat} {Q : State → Prop} {ws : va_W} {pc : Nat} {lv : List (Nat × Value)} {st : List Value}
theorem g_getI (C : CX p l s mm args meth c own cc nL ret D A) {Cn ref : String} {T : u_T} {N ci i : Nat} (hin : ∀ w ∈ u_ws Cn T N, w ∈ lw_all) (q0 k : Nat) {a : Nat} {fs : List Value} {v : Value} (he : ws[q0]? = some (a, .inr (ci, fs))) (hc : clX[ci]? = some (Cn, T, N)) (hk : k < N) (hv : fs[k]? = some v) (hw : Cond.fieldLink own i ref (T k).2.1 (T k).2.2.1 ∈ lw_all) (hsm : Cond.sameField ref (T k).1 (T k).2.1 (T k).2.2.1 ∈ lw_all) (d : decode cc pc = .ok (.getfield i, 3)) (K : GO p l e R s mm args below meth c nL D A B cells slots Q (ws) (pc + 3) (lv) (v :: st)) : GO p l e R s mm args below meth c nL D A B cells slots Q (ws) (pc) (lv) (.ref a :: st) := by
  intro H locs ls hP hD hS hl
  exact va_get C.hx C.hb C.hts hin C.hown C.hK hP q0 he hc k hk (C.hts _ hw) (fun x h => u_same (C.hts _ hsm) x h) hv d (K H locs ls hP hD hS hl)
theorem g_putI (C : CX p l s mm args meth c own cc nL ret D A) {Cn ref : String} {T : u_T} {N ci i : Nat} (hin : ∀ w ∈ u_ws Cn T N, w ∈ lw_all) (ty0 : Nat → FieldType) (hty : ∀ k, k < N → parseFieldDescriptor (T k).2.2.1 = some (ty0 k)) (hnm : ∀ a, a < N → ∀ b, b < N → a ≠ b → (T a).2.1 ≠ (T b).2.1) (q0 k : Nat) {a : Nat} {fs : List Value} {v : Value} {ws' : va_W} (he : ws[q0]? = some (a, .inr (ci, fs))) (hc : clX[ci]? = some (Cn, T, N)) (hk : k < N) (hw : Cond.fieldLink own i ref (T k).2.1 (T k).2.2.1 ∈ lw_all) (hsm : Cond.sameField ref (T k).1 (T k).2.1 (T k).2.2.1 ∈ lw_all) (hf : (T k).2.2.2 = false) (hn : narrow (ty0 k) v = v) (hfit : fits (ty0 k) v = true) (hl9 : k < fs.length) (hws : ws.set q0 (a, .inr (ci, fs.set k v)) = ws') (d : decode cc pc = .ok (.putfield i, 3)) (K : GO p l e R s mm args below meth c nL D A A cells slots Q (ws') (pc + 3) (lv) (st)) : GO p l e R s mm args below meth c nL D A A cells slots Q (ws) (pc) (lv) (v :: .ref a :: st) := by
  intro H locs ls hP hD hS hl
  refine va_put C.hx C.hb C.hts hin ty0 hty hnm C.hown C.hK hP hD hS q0 he hc k hk (C.hts _ hw) (fun x h => u_same (C.hts _ hsm) x h) hf (hty k hk) hn hfit hl9 d (fun H1 locs1 hP1 hD1 hS1 => ?_)
  rw [hws] at hP1 hD1
  exact K H1 locs1 ls hP1 hD1 hS1 hl
theorem arrNm (C : CX p l s mm args meth c own cc nL ret D A) : s.vm.findClass "[Ljava/lang/Object;" = some (D.1 104) := va_nmO (C.hK.2 4 _ rfl).2 rfl
theorem g_getC (C : CX p l s mm args meth c own cc nL ret D A) (q0 : Nat) {a n i : Nat} {f : Nat → Option Nat} (ha : ws[q0]? = some (a, .inl (D.1 104, n, .inr (.inr (.inr (.inr f)))))) (hlk : Cond.methodLink own i ⟨"java/lang/Object", "getClass", "()Ljava/lang/Class;"⟩ ∈ lw_all) (hq : Cond.selects "[Ljava/lang/Object;" ⟨"java/lang/Object", "getClass", "()Ljava/lang/Class;"⟩ ⟨"java/lang/Object", "getClass", "()Ljava/lang/Class;"⟩ ∈ lw_all ∧ Cond.instanceMethod ⟨"java/lang/Object", "getClass", "()Ljava/lang/Class;"⟩ ∈ lw_all ∧ Cond.native ⟨"java/lang/Object", "getClass", "()Ljava/lang/Class;"⟩ ∈ lw_all) (hf : 1 ≤ R.frames) (hlo : (st.map fun v => v.category).sum + 14 ≤ R.locals) (d : decode cc pc = .ok (.invokevirtual i, 3)) (K : GO p l e R s mm args below meth c nL D A B cells slots Q (ws) (pc + 3) (lv) (.ref (D.2 1001 3) :: st)) : GO p l e R s mm args below meth c nL D A B cells slots Q (ws) (pc) (lv) (.ref a :: st) := by
  intro H locs ls hP hD hS hl
  refine va_getC C.hx C.hb (by rw [C.hml]; exact hl.1.symm) C.hown (C.hts _ hlk) (va_Nw.use rfl (C.hG.1.2.2.1 ⟨"java/lang/Object", "getClass", "()Ljava/lang/Class;"⟩ (by decide))) (C.hts _ hq.1) (C.hts _ hq.2.1) (C.hts _ hq.2.2) C.hG.2.1.2.2 ?_ hf hlo d (K H locs ls hP hD hS hl)
  obtain ⟨cell, h1, h2, h3⟩ : ∃ cell : Cell, H[a]? = some cell ∧ cell.vm.isStatics = false ∧ some (D.1 104) = some cell.cls := by
    have h := hP q0 _ ha
    exact ⟨_, h, rfl, rfl⟩
  exact ⟨cell, h1, h2, (arrNm C).trans h3⟩
theorem g_ldcM (C : CX p l s mm args meth c own cc nL ret D A) {i : Nat} (hw : Cond.classLink own i "[Ljava/lang/Object;" ∈ lw_all) (d : decode cc pc = .ok (.ldc i, 2)) (K : GO p l e R s mm args below meth c nL D A B cells slots Q (ws) (pc + 2) (lv) (.ref (D.2 1001 3) :: st)) : GO p l e R s mm args below meth c nL D A B cells slots Q (ws) (pc) (lv) (st) := by
  intro H locs ls hP hD hS hl
  exact va_ldcM C.hx C.hb C.hown (C.hts _ hw) C.hG.2.1.2.2 d (K H locs ls hP hD hS hl)
theorem g_acmp_ne_same (C : CX p l s mm args meth c own cc nL ret D A) {x : Nat} {off : Int} {tgt : Nat} (ht : (pc : Int) + off = (tgt : Int)) (d : decode cc pc = .ok (.if_acmp .ne off, 3)) (K : GO p l e R s mm args below meth c nL D A B cells slots Q (ws) (pc + 3) (lv) (st)) : GO p l e R s mm args below meth c nL D A B cells slots Q (ws) (pc) (lv) (.ref x :: .ref x :: st) := by
  intro H locs ls hP hD hS hl
  exact lv_acmp_ne (rx := some x) (ry := some x) C.hx C.hb d ht (fun q => absurd rfl q) (fun _ => K H locs ls hP hD hS hl)
theorem g_conq (q0 : Nat) {a n : Nat} {f x : Nat → Option Nat} {ws' : va_W} (he : ws[q0]? = some (a, .inl (D.1 104, n, .inr (.inr (.inr (.inr f)))))) (hc : ∀ j, j < n → f j = x j) (hw : ws.set q0 (a, .inl (D.1 104, n, .inr (.inr (.inr (.inr x))))) = ws') (K : GO p l e R s mm args below meth c nL D A B cells slots Q (ws') (pc) (lv) (st)) : GO p l e R s mm args below meth c nL D A B cells slots Q (ws) (pc) (lv) (st) := by
  intro H locs ls hP hD hS hl
  subst hw
  refine K H locs ls (hP.set hD he ?_ (fun _ _ => rfl)) (hD.set he) hS hl
  have h1 : H[a]? = some (vp_cell (D.1 104) (n, .inr (.inr (.inr (.inr f))))) := hP q0 _ he
  show H[a]? = some (vp_cell (D.1 104) (n, .inr (.inr (.inr (.inr x)))))
  rw [h1]
  congr 1
  show arrV (D.1 104) n (fun j => va_rf (f j)) = arrV (D.1 104) n (fun j => va_rf (x j))
  exact arrV_cg _ n (fun j hj => by rw [hc j hj])
theorem g_copyM (C : CX p l s mm args meth c own cc nL ret D A) (q0 q1 : Nat) {a0 a1 n0 n1 i : Nat} {f g : Nat → Option Nat} {ws' : va_W} {z : Int} {N : Nat} (hz : z = N) (hlk : Cond.methodLink own i arraycopyName ∈ lw_all) (hq : Cond.native arraycopyName ∈ lw_all ∧ Cond.static arraycopyName ∈ lw_all ∧ Cond.initialized "java/lang/System" ∈ lw_all) (ha0 : ws[q0]? = some (a0, .inl (D.1 104, n0, .inr (.inr (.inr (.inr f)))))) (ha1 : ws[q1]? = some (a1, .inl (D.1 104, n1, .inr (.inr (.inr (.inr g)))))) (h0 : N ≤ n0) (h1 : N ≤ n1) (hn : (N : Int) < 2147483648) (hel : ∀ (H : Heap) (locs : List Loc), va_P D clX ws H → va_S A s.heap H locs → ∀ j : Nat, j < N → ∀ y : Nat, f j = some y → va_Any "java/lang/Object" s H y) (hf : 1 ≤ R.frames) (hlo : (st.map fun v => v.category).sum + 20 ≤ R.locals) (hw : ws.set q1 (a1, .inl (D.1 104, n1, .inr (.inr (.inr (.inr (va_cpy f g 0 0 N)))))) = ws') (d : decode cc pc = .ok (.invokestatic i, 3)) (K : GO p l e R s mm args below meth c nL D A A cells slots Q (ws') (pc + 3) (lv) (st)) : GO p l e R s mm args below meth c nL D A A cells slots Q (ws) (pc) (lv) (.int (iI z) :: .int (iI 0) :: .ref a1 :: .int (iI 0) :: .ref a0 :: st) := by
  intro H locs ls hP hD hS hl
  subst hz
  have e0 : (iI 0).toNatClampNeg = 0 := rfl
  have eN : (iI (N : Int)).toNatClampNeg = N := by rw [iI_tn (by omega) hn]; rfl
  have hneg : ¬ iI (N : Int) < 0 := by rw [← iI_0, iI_lt ⟨by omega, by omega⟩ iI_r0]; omega
  have h0neg : ¬ iI 0 < 0 := by decide
  have hw9 : nativeFrameWords "java/lang/System" "arraycopy" 5 ≤ 9 := by decide
  refine va_copyM C.hx C.hb (by rw [C.hml]; exact hl.1.symm) C.hown (C.hts _ hlk) (C.hts _ hq.1) (C.hts _ hq.2.1) (C.hts _ hq.2.2) C.hK hP hD hS q0 q1 4 4 ha0 ha1 rfl rfl h0neg h0neg hneg (by rw [e0, eN]; omega) (by rw [e0, eN]; omega) (fun j hj y hy => ?_) hf (by omega) d (fun H1 locs1 hP1 hD1 hS1 => ?_)
  · rw [eN] at hj
    rw [e0, Nat.zero_add] at hy
    exact hel H locs hP hS j hj y hy
  · rw [e0, eN, hw] at hP1 hD1
    exact K H1 locs1 ls hP1 hD1 hS1 hl
theorem g_castA (C : CX p l s mm args meth c own cc nL ret D A) (q0 : Nat) {a n i : Nat} {x : vp_A} (ha : ws[q0]? = some (a, .inl (D.1 104, x))) (hw : Cond.classLink own i "[Ljava/lang/Object;" ∈ lw_all) (d : decode cc pc = .ok (.checkcast i, 3)) (K : GO p l e R s mm args below meth c nL D A B cells slots Q (ws) (pc + 3) (lv) (.ref a :: st)) : GO p l e R s mm args below meth c nL D A B cells slots Q (ws) (pc) (lv) (.ref a :: st) := by
  intro H locs ls hP hD hS hl
  exact va_castA C.hx C.hb C.hown (C.hts _ hw) hP q0 ha (arrNm C) d (K H locs ls hP hD hS hl)
theorem g_getB (C : CX p l s mm args meth c own cc nL ret D A) {o n ds ref : String} {N i j : Nat} {v : Nat → Value} {ad : Nat → Nat} {x : Value} (hE : va_Ef N o n ds v ad A s s.heap) (hj : j < N) (hx : v j = x) (hw : Cond.fieldLink own i ref n ds ∈ lw_all) (hs : o = ref) (d : decode cc pc = .ok (.getfield i, 3)) (K : GO p l e R s mm args below meth c nL D A B cells slots Q (ws) (pc + 3) (lv) (x :: st)) : GO p l e R s mm args below meth c nL D A B cells slots Q (ws) (pc) (lv) (.ref (ad j) :: st) := by
  intro H locs ls hP hD hS hl
  subst hx
  exact va_getX C.hx C.hb hE hj hS C.hown (C.hts _ hw) (fun x h => by subst hs; exact h) d (K H locs ls hP hD hS hl)
end JR2
