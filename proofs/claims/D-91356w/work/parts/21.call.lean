/-! ===== contracts, calls, ends ===== -/
/-- a world within a world -/
def Sb (ws ws' : va_W) : Prop := (∀ (D : va_G) (cl : List vw_C) (H : Heap), va_P D cl ws H → va_P D cl ws' H) ∧ ∀ A : Nat → Prop, va_D A ws → va_D A ws'
theorem Sb.rf {ws : va_W} : Sb ws ws := ⟨fun _ _ _ h => h, fun _ h => h⟩
theorem Sb.tr {a b c : va_W} (h1 : Sb a b) (h2 : Sb b c) : Sb a c := ⟨fun D cl H h => h2.1 D cl H (h1.1 D cl H h), fun A h => h2.2 A (h1.2 A h)⟩
theorem Sb.pick {ws ws' : va_W} (is : List Nat) (hn : va_nd is = true) (hs : is.map (fun i => ws[i]?) = ws'.map some) : Sb ws ws' := by
  refine ⟨fun D cl H h => h.sub is ?_, fun A h => h.sub is hn hs⟩
  have e : is.filterMap (fun i => ws[i]?) = (is.map (fun i => ws[i]?)).filterMap id := by rw [List.filterMap_map]; rfl
  rw [e, hs, List.filterMap_map]
  simp
theorem Sb.comm {a b : va_W} : Sb (a ++ b) (b ++ a) := by
  refine ⟨fun D cl H h => ?_, fun A h => ?_⟩
  · have h' : va_P D cl (([] ++ a) ++ b) H := h
    exact h'.swap
  · have h' : va_D A (([] ++ a) ++ b) := h
    exact h'.swap
theorem Sb.nil {ws : va_W} : Sb ws [] := ⟨fun _ _ _ _ k q h => by simp at h, fun _ _ => ⟨fun i j p q h => by simp at h, fun k q h => by simp at h⟩⟩
theorem Sb.toNil {ws : va_W} : Sb ws (ws ++ []) := by rw [List.append_nil]; exact Sb.rf
theorem Sb.part {X cx pl : va_W} (is : List Nat) (hn : va_nd is = true) (hs : is.map (fun i => X[i]?) = cx.map some) : Sb (X ++ pl) (cx ++ pl) := ⟨fun _ _ _ h => h.part is hs, fun _ h => h.part is hn hs⟩
/-- whole-world start -/
def mdR (_ : va_W) (sz : Nat) : Nat → Prop := fun q => sz ≤ q
def PX (D : va_G) (av : List Value) (ws : va_W) (Af : va_W → Nat → Nat → Prop) (ex : State → Prop) (sz : Nat) : Array Value → State → Prop := fun v U =>
  v = av.toArray ∧ U.heap.size = sz ∧ va_P D clX ws U.heap ∧ va_K D clX (tysX D) U ∧ va_D (fun _ => True) ws ∧ GX D (Af ws sz) U U.heap ∧ ex U
def QX (D : va_G) (A : Nat → Prop) (post : Option Value → va_W → Prop) : Array Value → State → Outcome → State → Prop := fun _ st oc t => (∃ (v : Option Value) (w : va_W), oc = .returned v ∧ post v w ∧ va_P D clX w t.heap ∧ va_D A w) ∧ va_F A st t
def XX (D : va_G) (A : Nat → Prop) (postX : String → Addr → va_W → Prop) : String → Addr → State → State → Prop := fun E q st t => (∃ w : va_W, postX E q w ∧ va_P D clX w t.heap ∧ va_D A w) ∧ va_F A st t
def CT (l : Launch) (D : va_G) (y : MethodName) (wsy : List Cond) (rm : Room) (mc ms : Nat) (Af : va_W → Nat → Nat → Prop) (av : List Value) (ws : va_W) (ex : State → Prop) (post : Option Value → va_W → Prop) (postX : String → Addr → va_W → Prop) : Prop :=
  ∀ sz : Nat, vx_Met l y wsy rm (PX D av ws Af ex sz) (QX D (Af ws sz) post) (XX D (Af ws sz) postX) mc ms (Af ws sz)
/-- what a body owes -/
def MX (below : List Frame) (D : va_G) (A : Nat → Prop) (post : Option Value → va_W → Prop) (postX : String → Addr → va_W → Prop) (args : Array Value) (s : State) (mc ms : Nat) : State → Prop := vx_MQ below (QX D A post) (XX D A postX) args s mc ms A
def pI (post : Int → va_W → Prop) : Option Value → va_W → Prop := fun v w => ∃ z : Int, v = some (.int (iI z)) ∧ post z w
def pJ (post : Int64 → va_W → Prop) : Option Value → va_W → Prop := fun v w => ∃ z : Int64, v = some (.long z) ∧ post z w
def pV (post : va_W → Prop) : Option Value → va_W → Prop := fun v w => v = none ∧ post w
def pQ (post : Option Nat → va_W → Prop) : Option Value → va_W → Prop := fun v w => ∃ r : Option Nat, v = some (va_rf r) ∧ post r w
def xN : String → Addr → va_W → Prop := fun _ _ _ => False
def exT : State → Prop := fun _ => True
abbrev rmD (d mc ms : Nat) : Room := { frames := d, cells := mc, slots := ms, locals := 64 * d }
section CTS
variable {l : Launch} {D : va_G} {y : MethodName} {wsy : List Cond} {rm : Room} {mc ms : Nat} {av : List Value} {ws : va_W} {ex : State → Prop} {post : Option Value → va_W → Prop} {postX : String → Addr → va_W → Prop} {cc : ByteArray} {nL : Nat} {ret : Option FieldType} {lv : List (Nat × Value)}
theorem ct_R (own : String) (hy : plainName y.cls = true) (ho : y.cls = own) (hw : wsy = Cond.code y cc nL ret :: lw_all) (hst : l.stackTraces = false) (hlen : (lg_sl av).length ≤ nL) (hlv : lv_args 0 av = lv)
    (body : ∀ (p : Program) (e : Env) (s : State) (m : MethodId) (args : Array Value) (below : List Frame) (meth : Method) (c : Code) (A : Nat → Prop), CX p l s m args meth c own cc nL ret D A → (∀ x ∈ c.exceptionTable.toList, False) → ex s → GO p l e rm s m args below meth c nL D A (fun _ => True) 0 0 (MX below D A post postX args s mc ms) ws 0 lv []) : CT l D y wsy rm mc ms mdR av ws ex post postX := by
  intro sz
  refine vx_ofW (cc := cc) (maxL := nL) (ret := ret) (ws' := lw_all) hy hw ?_
  intro p e s m args below meth c s₁ B hml htab hv
  obtain ⟨rfl, hsz, hP, hK, hD0, hG, hex⟩ := hv
  subst hsz
  have hts := atoms_spec (ws := wsy) B.pre
  have hts : ∀ w ∈ lw_all, w.before _ s = true := fun w h => hts w (by rw [hw]; exact List.mem_cons_of_mem _ h)
  have hown : s.vm.findClass own = some m.cls := by rw [← ho]; exact findClass_of_methodNamed B.named
  have hl := lv_entry av (n := nL) hlen
  rw [lg_entry_eq]
  rw [hlv] at hl
  exact body p e s m _ below meth c (mdR ws s.heap.size) ⟨B.exec, B.bytes, hml, hown, hts, hK, hG, fun q h => h, hst, B.returns, B.notSynchronized⟩ htab hex s.heap [] _ hP hD0 va_S.rf hl
theorem ct_U (own : String) (hy : plainName y.cls = true) (ho : y.cls = own) (hw : wsy = Cond.code y cc nL ret :: lw_all) (hst : l.stackTraces = false) (hlen : (lg_sl av).length ≤ nL) (hlv : lv_args 0 av = lv)
    (body : ∀ (p : Program) (e : Env) (s : State) (m : MethodId) (args : Array Value) (below : List Frame) (meth : Method) (c : Code) (A : Nat → Prop), CX p l s m args meth c own cc nL ret D A → (∀ x ∈ c.exceptionTable.toList, False) → ex s → (y.name = "<init>" → meth.name = "<init>") → GO p l e rm s m args below meth c nL D A A 0 0 (MX below D A post postX args s mc ms) ws 0 lv []) : CT l D y wsy rm mc ms va_A av ws ex post postX := by
  intro sz
  refine vx_ofW (cc := cc) (maxL := nL) (ret := ret) (ws' := lw_all) hy hw ?_
  intro p e s m args below meth c s₁ B hml htab hv
  obtain ⟨rfl, hsz, hP, hK, hD0, hG, hex⟩ := hv
  subst hsz
  have hts := atoms_spec (ws := wsy) B.pre
  have hts : ∀ w ∈ lw_all, w.before _ s = true := fun w h => hts w (by rw [hw]; exact List.mem_cons_of_mem _ h)
  have hown : s.vm.findClass own = some m.cls := by rw [← ho]; exact findClass_of_methodNamed B.named
  have hl := lv_entry av (n := nL) hlen
  rw [lg_entry_eq]
  rw [hlv] at hl
  exact body p e s m _ below meth c (va_A ws s.heap.size) ⟨B.exec, B.bytes, hml, hown, hts, hK, hG, fun q h => Or.inr h, hst, B.returns, B.notSynchronized⟩ htab hex (fun h => (name_of_methodNamed B.named B.method).1.trans h) s.heap [] _ hP hD0.self va_S.rf hl
end CTS
section ENDS
variable {p : Program} {l : Launch} {e : Env} {R : Room} {s : State} {m : MethodId} {args : Array Value} {below : List Frame} {meth : Method} {c : Code} {own : String} {cc : ByteArray} {nL : Nat} {ret : Option FieldType} {D : va_G} {A B : Nat → Prop} {cells slots : Nat} {ws : va_W} {pc : Nat} {lv : List (Nat × Value)} {st : List Value} {post : Option Value → va_W → Prop} {postX : String → Addr → va_W → Prop} {mc ms : Nat} {Q : State → Prop}
theorem g_sb {ws' : va_W} (h : Sb ws ws') (K : GO p l e R s m args below meth c nL D A B cells slots Q ws' pc lv st) : GO p l e R s m args below meth c nL D A B cells slots Q ws pc lv st :=
  fun H locs ls hP hD hS hl => K H locs ls (h.1 _ _ _ hP) (h.2 _ hD) hS hl
theorem g_nilA (K : GO p l e R s m args below meth c nL D A A cells slots Q [] pc lv st) : GO p l e R s m args below meth c nL D A B cells slots Q ws pc lv st :=
  fun H locs ls hP hD hS hl => K H locs ls (Sb.nil.1 _ _ _ hP) ⟨fun i j p q h => by simp at h, fun k q h => by simp at h⟩ hS hl
/-- the end with an int, a truth, a byte, a char -/
theorem g_iret {ty : FieldType} (C : CX p l s m args meth c own cc nL (some ty) D A) {z : Int} (d : decode cc pc = .ok (.ireturn, 1)) (hn : narrow ty (.int (iI z)) = .int (iI z)) (hc : cells ≤ mc) (hs : slots ≤ ms) (hp : post (some (.int (iI z))) ws) : GO p l e R s m args below meth c nL D A A cells slots (MX below D A post postX args s mc ms) ws pc lv [.int (iI z)] := by
  intro H locs ls hP hD hS hl
  refine W.widen hc hs (vx_ret ?_)
  exact W.zret C.hx C.hb C.hr hn (fun t ht hW => ⟨⟨_, ws, rfl, hp, by rw [ht]; exact hP, hD⟩, hS.F ht⟩) hS.2.2 d C.hlk
theorem g_lret (C : CX p l s m args meth c own cc nL (some .long) D A) {z : Int64} (d : decode cc pc = .ok (.lreturn, 1)) (hc : cells ≤ mc) (hs : slots ≤ ms) (hp : post (some (.long z)) ws) : GO p l e R s m args below meth c nL D A A cells slots (MX below D A post postX args s mc ms) ws pc lv [.long z] := by
  intro H locs ls hP hD hS hl
  refine W.widen hc hs (vx_ret ?_)
  exact W.lret C.hx C.hb C.hr (fun t ht hW => ⟨⟨_, ws, rfl, hp, by rw [ht]; exact hP, hD⟩, hS.F ht⟩) hS.2.2 d C.hlk
theorem g_vret (C : CX p l s m args meth c own cc nL none D A) (d : decode cc pc = .ok (.return_, 1)) (hc : cells ≤ mc) (hs : slots ≤ ms) (hp : post none ws) : GO p l e R s m args below meth c nL D A A cells slots (MX below D A post postX args s mc ms) ws pc lv [] := by
  intro H locs ls hP hD hS hl
  refine W.widen hc hs (vx_ret ?_)
  exact W.vret C.hx C.hb C.hr (fun t ht hW => ⟨⟨_, ws, rfl, hp, by rw [ht]; exact hP, hD⟩, hS.F ht⟩) hS.2.2 d C.hlk
theorem g_aret {rt : FieldType} (C : CX p l s m args meth c own cc nL (some rt) D A) {v : Value} (hrt : (∃ n, rt = .object n) ∨ ∃ t, rt = .array t) (hv : v = .null ∨ ∃ a, v = .ref a) (d : decode cc pc = .ok (.areturn, 1)) (hc : cells ≤ mc) (hs : slots ≤ ms) (hp : post (some v) ws) : GO p l e R s m args below meth c nL D A A cells slots (MX below D A post postX args s mc ms) ws pc lv [v] := by
  intro H locs ls hP hD hS hl
  refine W.widen hc hs (vx_ret ?_)
  exact W.aret C.hx C.hb C.hr hrt hv (fun t ht hW => ⟨⟨_, ws, rfl, hp, by rw [ht]; exact hP, hD⟩, hS.F ht⟩) hS.2.2 d C.hlk
/-- thrown: q of class E stands over the frame -/
def GT (p : Program) (l : Launch) (e : Env) (R : Room) (s : State) (m : MethodId) (args : Array Value) (below : List Frame) (meth : Method) (c : Code) (nL : Nat) (D : va_G) (A B : Nat → Prop) (cells slots : Nat) (Q : State → Prop) (ws : va_W) (pc : Nat) (lv : List (Nat × Value)) (st : List Value) (E : String) (q : Addr) : Prop :=
  ∀ (H : Heap) (locs : List Loc) (ls : Array Slot) (ce : Cell), va_P D clX ws H → va_D B ws → va_S A s.heap H locs → lv_has ls nL lv → H[q]? = some ce → ce.vm = .none → s.vm.findClass E = some ce.cls → vx_W p l e R s m args below meth c H locs cells slots Q (F0 m pc ls st) q
theorem x_sb {ws' : va_W} {E : String} {q : Addr} (h : Sb ws ws') (K : GT p l e R s m args below meth c nL D A B cells slots Q ws' pc lv st E q) : GT p l e R s m args below meth c nL D A B cells slots Q ws pc lv st E q :=
  fun H locs ls ce hP hD hS hl => K H locs ls ce (h.1 _ _ _ hP) (h.2 _ hD) hS hl
theorem x_nilA {E : String} {q : Addr} (K : GT p l e R s m args below meth c nL D A A cells slots Q [] pc lv st E q) : GT p l e R s m args below meth c nL D A B cells slots Q ws pc lv st E q :=
  fun H locs ls ce hP hD hS hl => K H locs ls ce (Sb.nil.1 _ _ _ hP) ⟨fun i j p q h => by simp at h, fun k q h => by simp at h⟩ hS hl
/-- it leaves a method that has no handlers -/
theorem x_out (C : CX p l s m args meth c own cc nL ret D A) {E : String} {q : Addr} (ht : ∀ x ∈ c.exceptionTable.toList, False) (hc : cells ≤ mc) (hs : slots ≤ ms) (hp : postX E q ws) : GT p l e R s m args below meth c nL D A A cells slots (MX below D A post postX args s mc ms) ws pc lv st E q := by
  intro H locs ls ce hP hD hS hl hcell hv hcl
  exact vx_out (fun x hx => (ht x hx).elim) C.hlk hcell hv hcl (fun t ht2 _ => ⟨⟨ws, hp, by rw [ht2]; exact hP, hD⟩, hS.F ht2⟩) hS.2.2 hc hs
end ENDS
theorem exT_b : ∀ (U : State) (g : JFrame) (mk : MethodId) (a : Array Value), exT U → exT (U.calling g mk a) := fun _ _ _ _ h => h
theorem GW.same {u U : State} (h : U.vm = u.vm) (g : GW u) : GW U :=
  ⟨fun q hq => va_Nw.same rfl h.symm (g.1 q hq), fun q hq => va_Nw.same rfl h.symm (g.2.1 q hq), fun q hq => va_Nw.same rfl h.symm (g.2.2.1 q hq), by
    have e : u.vm.Alike U.vm := by rw [h]; exact Vm.Alike.refl _
    exact va_AO.moved e g.2.2.2.1, fun q hq => va_Nc.moved (by rw [h]; exact Vm.Alike.refl _) (g.2.2.2.2 q hq)⟩
theorem PX_blind {D : va_G} {av : List Value} {ws : va_W} {Af : va_W → Nat → Nat → Prop} {ex : State → Prop} {sz : Nat} (hb : ∀ (U : State) (g : JFrame) (mk : MethodId) (a : Array Value), ex U → ex (U.calling g mk a)) : FrameBlind (PX D av ws Af ex sz) := by
  intro a U g mk q
  obtain ⟨q0, q1, qP, qK, qD, ⟨qW, qR, qC⟩, qE⟩ := q
  refine ⟨q0, q1, qP, va_K.moved (u := U) (U := U.calling g mk a) (Vm.Alike.refl U.vm) qK, qD, ⟨GW.same (u := U) (U := U.calling g mk a) rfl qW, ⟨qR.1.same (u := U) (U := U.calling g mk a) rfl, qR.2.1.same (u := U) (U := U.calling g mk a) rfl, va_Mi.moved (u := U) (U := U.calling g mk a) (Vm.Alike.refl U.vm) qR.2.2⟩, GC.moved (u := U) (U := U.calling g mk a) (Vm.Alike.refl U.vm) qC⟩, hb _ _ _ _ qE⟩
section CALLS
variable {p : Program} {l : Launch} {e : Env} {R : Room} {s : State} {m : MethodId} {args : Array Value} {below : List Frame} {meth : Method} {c : Code} {own : String} {cc : ByteArray} {nL : Nat} {ret : Option FieldType} {D : va_G} {A B : Nat → Prop} {cells slots : Nat} {ws : va_W} {pc : Nat} {lv : List (Nat × Value)} {st stk : List Value} {mc ms : Nat} {Q : State → Prop}
variable {y : MethodName} {bytes : ByteArray} {maxL index n : Nat} {rety : Option FieldType} {rm : Room} {post : Option Value → va_W → Prop} {postX : String → Addr → va_W → Prop} {As : List Value} {b : Nat} {ex : State → Prop} {wc wr : va_W} {Cn : String}
/-- the callee's start, out of the caller's state -/
theorem px_start (C : CX p l s m args meth c own cc nL ret D A) {Af : va_W → Nat → Nat → Prop} {av : List Value} {H : Heap} {locs : List Loc} (hP : va_P D clX wc H) (hD : va_D (fun _ => True) wc) (hS : va_S A s.heap H locs) (hF : ∀ q, Af wc H.size q → A q) (hex : ∀ U : State, U.heap = H → s.WarmedH U.vm → ex U) (U : State) (hU : U.heap = H) (hW : s.WarmedH U.vm) : PX D av wc Af ex H.size av.toArray U := by
  obtain ⟨gW, gR, gC⟩ := C.hG
  refine ⟨rfl, by rw [hU], by rw [hU]; exact hP, va_K.moved hW.alike C.hK, hD, ⟨gW.warm hW, gR.warm hW, ?_⟩, hex U hU hW⟩
  rw [hU]
  exact ((gC.kept hS.2.1).moved hW.alike).narrow hF
theorem g_run {A1 : Nat → Prop} {H : Heap} {locs : List Loc} {ls : Array Slot} {a : Array Value} (hr : vx_Run p l e R s m args below meth c H locs cells slots mc ms (F0 m pc ls stk) st (QX D A1 post a) (XX D A1 postX) A1) (hS : va_S A s.heap H locs) (hF : ∀ q, A1 q → A q)
    (kk : ∀ (v : Option Value) (w : va_W) (H1 : Heap) (locs1 : List Loc), post v w → va_P D clX w H1 → va_D A1 w → va_S A s.heap H1 locs1 → (∀ q : Nat, q < H.size → ¬ A1 q → H1[q]? = H[q]?) → W p l e R s m args below meth c H1 locs1 (cells + mc) (slots + ms) Q (F0 m (pc + 3) ls (v.toList ++ st)))
    (kx : ∀ (E : String) (q : Addr) (ce : Cell) (w : va_W) (H1 : Heap) (locs1 : List Loc), postX E q w → va_P D clX w H1 → va_D A1 w → va_S A s.heap H1 locs1 → (∀ q : Nat, q < H.size → ¬ A1 q → H1[q]? = H[q]?) → H1[q]? = some ce → ce.vm = .none → s.vm.findClass E = some ce.cls → vx_W p l e R s m args below meth c H1 locs1 (cells + mc) (slots + ms) Q (F0 m pc ls st) q) : W p l e R s m args below meth c H locs cells slots Q (F0 m pc ls stk) := by
  intro T hT X
  rcases hr T hT X with ⟨v, st₀, t, T', L, h0, X', hL, e1, e2, ⟨⟨v', w, hv, hp, hPw, hDw⟩, hFr⟩, stp⟩ | ⟨q, st₀, t, T', L, E, ce, h0, X', hL, e1, e2, ⟨⟨w, hp, hPw, hDw⟩, hFr⟩, hce, hcv, hcl, stp⟩
  · cases hv
    obtain ⟨k1, k2, k3⟩ := vx_keep h0 e1 hS (fun q _ h => hF q h) hF hL hFr
    obtain ⟨t2, a1, b1⟩ := kk v w T'.heap (locs ++ L) hp (by rw [e1]; exact hPw) hDw k3 k2 T' rfl X'
    exact ⟨t2, stp t2 a1, b1⟩
  · obtain ⟨k1, k2, k3⟩ := vx_keep h0 e1 hS (fun q _ h => hF q h) hF hL hFr
    obtain ⟨t2, a1, b1⟩ := kx E q ce w T'.heap (locs ++ L) hp (by rw [e1]; exact hPw) hDw k3 k2 (by rw [e1]; exact hce) hcv hcl T' rfl X'
    exact ⟨t2, stp.trans a1, b1⟩
/-- the cells beside the callee's stay -/
theorem sb_after {A1 : Nat → Prop} {H H1 : Heap} {w : va_W} (hP : va_P D clX (wr ++ wc) H) (hD : va_D A (wr ++ wc)) (hF : ∀ q, A1 q → A q) (hA1 : ∀ q, A1 q → (∃ (k : Nat) (e : va_E), wc[k]? = some (q, e)) ∨ H.size ≤ q) (hk : ∀ q : Nat, q < H.size → ¬ A1 q → H1[q]? = H[q]?) (hP1 : va_P D clX w H1) (hD1 : va_D A1 w) : va_P D clX (wr ++ w) H1 ∧ va_D A (wr ++ w) := by
  have apart : ∀ (k : Nat) (q : Nat × va_E), wr[k]? = some q → q.1 < H.size ∧ ¬ A1 q.1 := by
    intro k q hq
    have hkl : k < wr.length := (List.getElem?_eq_some_iff.mp hq).1
    have h2 : (wr ++ wc)[k]? = some q := by rw [List.getElem?_append_left hkl]; exact hq
    have hl := (hP k q h2).lt
    refine ⟨hl, fun h => ?_⟩
    rcases hA1 _ h with ⟨k2, e, h3⟩ | h3
    · have h4 : (wr ++ wc)[wr.length + k2]? = some (q.1, e) := by rw [List.getElem?_append_right (by omega), Nat.add_sub_cancel_left]; exact h3
      have := hD.1 k (wr.length + k2) q (q.1, e) h2 h4 rfl
      omega
    · omega
  have hDr : va_D A wr := ⟨fun i j x z hx hz hxz => hD.1 i j x z (by rw [List.getElem?_append_left (List.getElem?_eq_some_iff.mp hx).1]; exact hx) (by rw [List.getElem?_append_left (List.getElem?_eq_some_iff.mp hz).1]; exact hz) hxz, fun k q hq => hD.2 k q (by rw [List.getElem?_append_left (List.getElem?_eq_some_iff.mp hq).1]; exact hq)⟩
  refine ⟨va_P.app (fun k q hq => ?_) hP1, va_D.app hDr (hD1.weaken (fun k q _ h => hF q.1 h)) (fun i j x z hx hz hxz => ?_)⟩
  · obtain ⟨g1, g2⟩ := apart k q hq
    have h2 : (wr ++ wc)[k]? = some q := by rw [List.getElem?_append_left (List.getElem?_eq_some_iff.mp hq).1]; exact hq
    exact (hP k q h2).kept (hk q.1 g1 g2)
  · exact (apart i x hx).2 (by rw [hxz]; exact hD1.2 j z hz)
theorem rt_true {A : Nat → Prop} {w : va_W} (h : va_D A w) : va_D (fun _ => True) w := h.weaken (fun _ _ _ _ => trivial)
theorem sb_right : va_D A (wr ++ wc) → va_D A wc := fun hD => ⟨fun i j x z hx hz hxz => by
    have h1 : (wr ++ wc)[wr.length + i]? = some x := by rw [List.getElem?_append_right (by omega), Nat.add_sub_cancel_left]; exact hx
    have h2 : (wr ++ wc)[wr.length + j]? = some z := by rw [List.getElem?_append_right (by omega), Nat.add_sub_cancel_left]; exact hz
    have := hD.1 _ _ x z h1 h2 hxz
    omega, fun k q hq => hD.2 (wr.length + k) q (by rw [List.getElem?_append_right (by omega), Nat.add_sub_cancel_left]; exact hq)⟩
theorem sbP_right {H : Heap} : va_P D clX (wr ++ wc) H → va_P D clX wc H := fun hP k q hq => hP (wr.length + k) q (by rw [List.getElem?_append_right (by omega), Nat.add_sub_cancel_left]; exact hq)
theorem vaA_in {H : Heap} {locs : List Loc} (hD : va_D A (wr ++ wc)) (hA : ∀ q : Nat, s.heap.size ≤ q → A q) (hS : va_S A s.heap H locs) : ∀ q, va_A wc H.size q → A q := by
  intro q h
  rcases h with ⟨k, e, h⟩ | h
  · exact (sb_right hD).2 k (q, e) h
  · exact hA q (Nat.le_trans hS.1 h)
theorem g_callVR (C : CX p l s m args meth c own cc nL ret D A) (hM : CT l D y (ws_ y bytes maxL rety) rm mc ms mdR (.ref b :: As) wc ex post postX) (hq : GoodIn lw_all (wsV own index Cn y (ws_ y bytes maxL rety))) (hd : (y.cls = Cn ∧ y.cls ≠ "java/lang/invoke/MethodHandle" ∧ y.cls ≠ "java/lang/invoke/VarHandle" ∧ (parseMethodDescriptor y.desc).map (fun d => d.parameters.length) = some n)) (hrc : rm.cells = mc) (hrs : rm.slots = ms) (hR : rm.frames + 1 ≤ R.frames ∧ 8 + (maxL + 11) + rm.locals ≤ R.locals) (hrecv : ∀ (H : Heap) (locs : List Loc), va_P D clX ws H → va_S A s.heap H locs → ∃ cellB : Cell, H[b]? = some cellB ∧ cellB.vm.isStatics = false ∧ s.vm.findClass Cn = some cellB.cls) (hn : As.length = n) (hstk : stk = As.reverse ++ .ref b :: st) (hcat : (st.map fun v => v.category).sum ≤ 8) (hroom : cells + mc ≤ R.cells ∧ slots + ms ≤ R.slots) (d : decode cc pc = .ok (.invokevirtual index, 3)) (hsub : Sb ws wc) (hexb : ∀ (U : State) (g : JFrame) (mk : MethodId) (a : Array Value), ex U → ex (U.calling g mk a)) (hex : ∀ (H : Heap) (locs : List Loc), va_P D clX ws H → va_S A s.heap H locs → ∀ U : State, U.heap = H → s.WarmedH U.vm → ex U) (kk : ∀ (v : Option Value) (w : va_W), post v w → GO p l e R s m args below meth c nL D A B (cells + mc) (slots + ms) Q (ws) (pc + 3) (lv) (v.toList ++ st)) (kx : ∀ (E : String) (q : Addr) (w : va_W), postX E q w → GT p l e R s m args below meth c nL D A B (cells + mc) (slots + ms) Q (ws) (pc) (lv) (st) E q) : GO p l e R s m args below meth c nL D A B (cells) (slots) Q (ws) (pc) (lv) (stk) := by
  intro H locs ls hP hD hS hl
  subst hstk
  have hF : ∀ q, mdR wc H.size q → A q := fun q h => C.hA q (Nat.le_trans hS.1 h)
  have keep : ∀ H1 : Heap, (∀ q : Nat, q < H.size → ¬ mdR wc H.size q → H1[q]? = H[q]?) → va_P D clX ws H1 := fun H1 hk => hP.kept (fun k x hx => hk x.1 (hP k x hx).lt (Nat.not_le.mpr (hP k x hx).lt))
  refine g_run (vx_runV (As := As) (rest := st) ⟨C.hx, C.hb, C.hml, C.hown, C.hts⟩ (hM H.size) (cwV n C.hts hq rfl hrc hrs hd hR) ⟨PX_blind hexb, hrecv H locs hP hS, px_start C (hsub.1 _ _ _ hP) (rt_true (hsub.2 _ hD)) hS hF (hex H locs hP hS)⟩ rfl hn hl.1 rfl (lv_room hcat) d hroom) hS hF (fun v w H1 locs1 hp hPw hDw hS1 hk => ?_) (fun E q ce w H1 locs1 hp hPw hDw hS1 hk g1 g2 g3 => ?_)
  · exact kk v w hp H1 locs1 ls (keep H1 hk) hD hS1 hl
  · exact kx E q w hp H1 locs1 ls ce (keep H1 hk) hD hS1 hl g1 g2 g3
theorem g_callVU (C : CX p l s m args meth c own cc nL ret D A) (hM : CT l D y (ws_ y bytes maxL rety) rm mc ms va_A (.ref b :: As) wc ex post postX) (hq : GoodIn lw_all (wsV own index Cn y (ws_ y bytes maxL rety))) (hd : (y.cls = Cn ∧ y.cls ≠ "java/lang/invoke/MethodHandle" ∧ y.cls ≠ "java/lang/invoke/VarHandle" ∧ (parseMethodDescriptor y.desc).map (fun d => d.parameters.length) = some n)) (hrc : rm.cells = mc) (hrs : rm.slots = ms) (hR : rm.frames + 1 ≤ R.frames ∧ 8 + (maxL + 11) + rm.locals ≤ R.locals) (hrecv : ∀ (H : Heap) (locs : List Loc), va_P D clX ws H → va_S A s.heap H locs → ∃ cellB : Cell, H[b]? = some cellB ∧ cellB.vm.isStatics = false ∧ s.vm.findClass Cn = some cellB.cls) (hn : As.length = n) (hstk : stk = As.reverse ++ .ref b :: st) (hcat : (st.map fun v => v.category).sum ≤ 8) (hroom : cells + mc ≤ R.cells ∧ slots + ms ≤ R.slots) (d : decode cc pc = .ok (.invokevirtual index, 3)) (hsub : Sb ws (wr ++ wc)) (hexb : ∀ (U : State) (g : JFrame) (mk : MethodId) (a : Array Value), ex U → ex (U.calling g mk a)) (hex : ∀ (H : Heap) (locs : List Loc), va_P D clX ws H → va_S A s.heap H locs → ∀ U : State, U.heap = H → s.WarmedH U.vm → ex U) (kk : ∀ (v : Option Value) (w : va_W), post v w → GO p l e R s m args below meth c nL D A A (cells + mc) (slots + ms) Q (wr ++ w) (pc + 3) (lv) (v.toList ++ st)) (kx : ∀ (E : String) (q : Addr) (w : va_W), postX E q w → GT p l e R s m args below meth c nL D A A (cells + mc) (slots + ms) Q (wr ++ w) (pc) (lv) (st) E q) : GO p l e R s m args below meth c nL D A A (cells) (slots) Q (ws) (pc) (lv) (stk) := by
  intro H locs ls hP0 hD0 hS hl
  subst hstk
  have hP := hsub.1 _ _ _ hP0
  have hD := hsub.2 _ hD0
  have hF : ∀ q, va_A wc H.size q → A q := vaA_in hD C.hA hS
  refine g_run (vx_runV (As := As) (rest := st) ⟨C.hx, C.hb, C.hml, C.hown, C.hts⟩ (hM H.size) (cwV n C.hts hq rfl hrc hrs hd hR) ⟨PX_blind hexb, hrecv H locs hP0 hS, px_start C (sbP_right hP) (rt_true (sb_right hD)) hS hF (hex H locs hP0 hS)⟩ rfl hn hl.1 rfl (lv_room hcat) d hroom) hS hF (fun v w H1 locs1 hp hPw hDw hS1 hk => ?_) (fun E q ce w H1 locs1 hp hPw hDw hS1 hk g1 g2 g3 => ?_)
  · obtain ⟨r1, r2⟩ := sb_after hP hD hF (fun q h => h) hk hPw hDw
    exact kk v w hp H1 locs1 ls r1 r2 hS1 hl
  · obtain ⟨r1, r2⟩ := sb_after hP hD hF (fun q h => h) hk hPw hDw
    exact kx E q w hp H1 locs1 ls ce r1 r2 hS1 hl g1 g2 g3
theorem g_callSR (C : CX p l s m args meth c own cc nL ret D A) (hM : CT l D y (ws_ y bytes maxL rety) rm mc ms mdR As wc ex post postX) (hq : GoodIn lw_all (va_wsS own index y (ws_ y bytes maxL rety))) (hd : (y.cls ≠ "java/lang/invoke/MethodHandle" ∧ y.cls ≠ "java/lang/invoke/VarHandle" ∧ (parseMethodDescriptor y.desc).map (fun d => d.parameters.length) = some n)) (hrc : rm.cells = mc) (hrs : rm.slots = ms) (hR : rm.frames + 1 ≤ R.frames ∧ 8 + (maxL + 11) + rm.locals ≤ R.locals) (hn : As.length = n) (hstk : stk = As.reverse ++ st) (hcat : (st.map fun v => v.category).sum ≤ 8) (hroom : cells + mc ≤ R.cells ∧ slots + ms ≤ R.slots) (d : decode cc pc = .ok (.invokestatic index, 3)) (hsub : Sb ws wc) (hexb : ∀ (U : State) (g : JFrame) (mk : MethodId) (a : Array Value), ex U → ex (U.calling g mk a)) (hex : ∀ (H : Heap) (locs : List Loc), va_P D clX ws H → va_S A s.heap H locs → ∀ U : State, U.heap = H → s.WarmedH U.vm → ex U) (kk : ∀ (v : Option Value) (w : va_W), post v w → GO p l e R s m args below meth c nL D A B (cells + mc) (slots + ms) Q (ws) (pc + 3) (lv) (v.toList ++ st)) (kx : ∀ (E : String) (q : Addr) (w : va_W), postX E q w → GT p l e R s m args below meth c nL D A B (cells + mc) (slots + ms) Q (ws) (pc) (lv) (st) E q) : GO p l e R s m args below meth c nL D A B (cells) (slots) Q (ws) (pc) (lv) (stk) := by
  intro H locs ls hP hD hS hl
  subst hstk
  have hF : ∀ q, mdR wc H.size q → A q := fun q h => C.hA q (Nat.le_trans hS.1 h)
  have keep : ∀ H1 : Heap, (∀ q : Nat, q < H.size → ¬ mdR wc H.size q → H1[q]? = H[q]?) → va_P D clX ws H1 := fun H1 hk => hP.kept (fun k x hx => hk x.1 (hP k x hx).lt (Nat.not_le.mpr (hP k x hx).lt))
  refine g_run (vx_runS (As := As) (rest := st) ⟨C.hx, C.hb, C.hml, C.hown, C.hts⟩ (hM H.size) (va_cwS n C.hts hq rfl hrc hrs hd hR) ⟨PX_blind hexb, px_start C (hsub.1 _ _ _ hP) (rt_true (hsub.2 _ hD)) hS hF (hex H locs hP hS)⟩ rfl hn hl.1 rfl (lv_room hcat) d hroom) hS hF (fun v w H1 locs1 hp hPw hDw hS1 hk => ?_) (fun E q ce w H1 locs1 hp hPw hDw hS1 hk g1 g2 g3 => ?_)
  · exact kk v w hp H1 locs1 ls (keep H1 hk) hD hS1 hl
  · exact kx E q w hp H1 locs1 ls ce (keep H1 hk) hD hS1 hl g1 g2 g3
theorem g_callSU (C : CX p l s m args meth c own cc nL ret D A) (hM : CT l D y (ws_ y bytes maxL rety) rm mc ms va_A As wc ex post postX) (hq : GoodIn lw_all (va_wsS own index y (ws_ y bytes maxL rety))) (hd : (y.cls ≠ "java/lang/invoke/MethodHandle" ∧ y.cls ≠ "java/lang/invoke/VarHandle" ∧ (parseMethodDescriptor y.desc).map (fun d => d.parameters.length) = some n)) (hrc : rm.cells = mc) (hrs : rm.slots = ms) (hR : rm.frames + 1 ≤ R.frames ∧ 8 + (maxL + 11) + rm.locals ≤ R.locals) (hn : As.length = n) (hstk : stk = As.reverse ++ st) (hcat : (st.map fun v => v.category).sum ≤ 8) (hroom : cells + mc ≤ R.cells ∧ slots + ms ≤ R.slots) (d : decode cc pc = .ok (.invokestatic index, 3)) (hsub : Sb ws (wr ++ wc)) (hexb : ∀ (U : State) (g : JFrame) (mk : MethodId) (a : Array Value), ex U → ex (U.calling g mk a)) (hex : ∀ (H : Heap) (locs : List Loc), va_P D clX ws H → va_S A s.heap H locs → ∀ U : State, U.heap = H → s.WarmedH U.vm → ex U) (kk : ∀ (v : Option Value) (w : va_W), post v w → GO p l e R s m args below meth c nL D A A (cells + mc) (slots + ms) Q (wr ++ w) (pc + 3) (lv) (v.toList ++ st)) (kx : ∀ (E : String) (q : Addr) (w : va_W), postX E q w → GT p l e R s m args below meth c nL D A A (cells + mc) (slots + ms) Q (wr ++ w) (pc) (lv) (st) E q) : GO p l e R s m args below meth c nL D A A (cells) (slots) Q (ws) (pc) (lv) (stk) := by
  intro H locs ls hP0 hD0 hS hl
  subst hstk
  have hP := hsub.1 _ _ _ hP0
  have hD := hsub.2 _ hD0
  have hF : ∀ q, va_A wc H.size q → A q := vaA_in hD C.hA hS
  refine g_run (vx_runS (As := As) (rest := st) ⟨C.hx, C.hb, C.hml, C.hown, C.hts⟩ (hM H.size) (va_cwS n C.hts hq rfl hrc hrs hd hR) ⟨PX_blind hexb, px_start C (sbP_right hP) (rt_true (sb_right hD)) hS hF (hex H locs hP0 hS)⟩ rfl hn hl.1 rfl (lv_room hcat) d hroom) hS hF (fun v w H1 locs1 hp hPw hDw hS1 hk => ?_) (fun E q ce w H1 locs1 hp hPw hDw hS1 hk g1 g2 g3 => ?_)
  · obtain ⟨r1, r2⟩ := sb_after hP hD hF (fun q h => h) hk hPw hDw
    exact kk v w hp H1 locs1 ls r1 r2 hS1 hl
  · obtain ⟨r1, r2⟩ := sb_after hP hD hF (fun q h => h) hk hPw hDw
    exact kx E q w hp H1 locs1 ls ce r1 r2 hS1 hl g1 g2 g3
theorem g_callIR (C : CX p l s m args meth c own cc nL ret D A) (hM : CT l D y (ws_ y bytes maxL none) rm mc ms mdR (.ref b :: As) wc ex post postX) (hq : GoodIn lw_all (ws_ y bytes maxL none)) (hini : Cond.initialized y.cls ∈ lw_all) (hlink : Cond.methodLink own index y ∈ lw_all) (hinst : Cond.instanceMethod y ∈ lw_all) (hyn : y.name = "<init>") (hd : (y.cls ≠ "java/lang/invoke/MethodHandle" ∧ y.cls ≠ "java/lang/invoke/VarHandle" ∧ (parseMethodDescriptor y.desc).map (fun d => d.parameters.length) = some n)) (hrc : rm.cells = mc) (hrs : rm.slots = ms) (hR : rm.frames + 1 ≤ R.frames ∧ 8 + (maxL + 11) + rm.locals ≤ R.locals) (hn : As.length = n) (hstk : stk = As.reverse ++ .ref b :: st) (hcat : (st.map fun v => v.category).sum ≤ 8) (hroom : cells + mc ≤ R.cells ∧ slots + ms ≤ R.slots) (d : decode cc pc = .ok (.invokespecial index, 3)) (hsub : Sb ws wc) (hexb : ∀ (U : State) (g : JFrame) (mk : MethodId) (a : Array Value), ex U → ex (U.calling g mk a)) (hex : ∀ (H : Heap) (locs : List Loc), va_P D clX ws H → va_S A s.heap H locs → ∀ U : State, U.heap = H → s.WarmedH U.vm → ex U) (kk : ∀ (v : Option Value) (w : va_W), post v w → GO p l e R s m args below meth c nL D A B (cells + mc) (slots + ms) Q (ws) (pc + 3) (lv) (v.toList ++ st)) (kx : ∀ (E : String) (q : Addr) (w : va_W), postX E q w → GT p l e R s m args below meth c nL D A B (cells + mc) (slots + ms) Q (ws) (pc) (lv) (st) E q) : GO p l e R s m args below meth c nL D A B (cells) (slots) Q (ws) (pc) (lv) (stk) := by
  intro H locs ls hP hD hS hl
  subst hstk
  have hF : ∀ q, mdR wc H.size q → A q := fun q h => C.hA q (Nat.le_trans hS.1 h)
  have keep : ∀ H1 : Heap, (∀ q : Nat, q < H.size → ¬ mdR wc H.size q → H1[q]? = H[q]?) → va_P D clX ws H1 := fun H1 hk => hP.kept (fun k x hx => hk x.1 (hP k x hx).lt (Nat.not_le.mpr (hP k x hx).lt))
  refine g_run (vx_runI (As := As) (rest := st) ⟨C.hx, C.hb, C.hml, C.hown, C.hts⟩ (hM H.size) (cwI n C.hts hq rfl hrc hrs (C.hts _ hini) (C.hts _ hlink) (C.hts _ hinst) hyn hd hR) ⟨PX_blind hexb, px_start C (hsub.1 _ _ _ hP) (rt_true (hsub.2 _ hD)) hS hF (hex H locs hP hS)⟩ rfl hn hl.1 rfl (lv_room hcat) d hroom) hS hF (fun v w H1 locs1 hp hPw hDw hS1 hk => ?_) (fun E q ce w H1 locs1 hp hPw hDw hS1 hk g1 g2 g3 => ?_)
  · exact kk v w hp H1 locs1 ls (keep H1 hk) hD hS1 hl
  · exact kx E q w hp H1 locs1 ls ce (keep H1 hk) hD hS1 hl g1 g2 g3
theorem g_callIU (C : CX p l s m args meth c own cc nL ret D A) (hM : CT l D y (ws_ y bytes maxL none) rm mc ms va_A (.ref b :: As) wc ex post postX) (hq : GoodIn lw_all (ws_ y bytes maxL none)) (hini : Cond.initialized y.cls ∈ lw_all) (hlink : Cond.methodLink own index y ∈ lw_all) (hinst : Cond.instanceMethod y ∈ lw_all) (hyn : y.name = "<init>") (hd : (y.cls ≠ "java/lang/invoke/MethodHandle" ∧ y.cls ≠ "java/lang/invoke/VarHandle" ∧ (parseMethodDescriptor y.desc).map (fun d => d.parameters.length) = some n)) (hrc : rm.cells = mc) (hrs : rm.slots = ms) (hR : rm.frames + 1 ≤ R.frames ∧ 8 + (maxL + 11) + rm.locals ≤ R.locals) (hn : As.length = n) (hstk : stk = As.reverse ++ .ref b :: st) (hcat : (st.map fun v => v.category).sum ≤ 8) (hroom : cells + mc ≤ R.cells ∧ slots + ms ≤ R.slots) (d : decode cc pc = .ok (.invokespecial index, 3)) (hsub : Sb ws (wr ++ wc)) (hexb : ∀ (U : State) (g : JFrame) (mk : MethodId) (a : Array Value), ex U → ex (U.calling g mk a)) (hex : ∀ (H : Heap) (locs : List Loc), va_P D clX ws H → va_S A s.heap H locs → ∀ U : State, U.heap = H → s.WarmedH U.vm → ex U) (kk : ∀ (v : Option Value) (w : va_W), post v w → GO p l e R s m args below meth c nL D A A (cells + mc) (slots + ms) Q (wr ++ w) (pc + 3) (lv) (v.toList ++ st)) (kx : ∀ (E : String) (q : Addr) (w : va_W), postX E q w → GT p l e R s m args below meth c nL D A A (cells + mc) (slots + ms) Q (wr ++ w) (pc) (lv) (st) E q) : GO p l e R s m args below meth c nL D A A (cells) (slots) Q (ws) (pc) (lv) (stk) := by
  intro H locs ls hP0 hD0 hS hl
  subst hstk
  have hP := hsub.1 _ _ _ hP0
  have hD := hsub.2 _ hD0
  have hF : ∀ q, va_A wc H.size q → A q := vaA_in hD C.hA hS
  refine g_run (vx_runI (As := As) (rest := st) ⟨C.hx, C.hb, C.hml, C.hown, C.hts⟩ (hM H.size) (cwI n C.hts hq rfl hrc hrs (C.hts _ hini) (C.hts _ hlink) (C.hts _ hinst) hyn hd hR) ⟨PX_blind hexb, px_start C (sbP_right hP) (rt_true (sb_right hD)) hS hF (hex H locs hP0 hS)⟩ rfl hn hl.1 rfl (lv_room hcat) d hroom) hS hF (fun v w H1 locs1 hp hPw hDw hS1 hk => ?_) (fun E q ce w H1 locs1 hp hPw hDw hS1 hk g1 g2 g3 => ?_)
  · obtain ⟨r1, r2⟩ := sb_after hP hD hF (fun q h => h) hk hPw hDw
    exact kk v w hp H1 locs1 ls r1 r2 hS1 hl
  · obtain ⟨r1, r2⟩ := sb_after hP hD hF (fun q h => h) hk hPw hDw
    exact kx E q w hp H1 locs1 ls ce r1 r2 hS1 hl g1 g2 g3
/-- a receiver by its place -/
theorem rcv (C : CX p l s m args meth c own cc nL ret D A) (q0 : Nat) {ci : Nat} {fs : List Value} {r : vw_C} (he : ws[q0]? = some (b, .inr (ci, fs))) (hc : clX[ci]? = some r) (hr : r.1 = Cn) : ∀ (H : Heap) (locs : List Loc), va_P D clX ws H → va_S A s.heap H locs → ∃ cellB : Cell, H[b]? = some cellB ∧ cellB.vm.isStatics = false ∧ s.vm.findClass Cn = some cellB.cls := fun H _ hP _ => by
  rw [← hr]
  exact va_recv C.hK hP hc he
theorem hex_t : ∀ (H : Heap) (locs : List Loc), va_P D clX ws H → va_S A s.heap H locs → ∀ U : State, U.heap = H → s.WarmedH U.vm → exT U := fun _ _ _ _ _ _ _ => trivial
theorem kx_n : ∀ (E : String) (q : Addr) (w : va_W), xN E q w → GT p l e R s m args below meth c nL D A B cells slots Q ws pc lv st E q := fun _ _ _ h => h.elim
theorem kx_nu : ∀ (E : String) (q : Addr) (w : va_W), xN E q w → GT p l e R s m args below meth c nL D A B cells slots Q (wr ++ w) pc lv st E q := fun _ _ _ h => h.elim
end CALLS
