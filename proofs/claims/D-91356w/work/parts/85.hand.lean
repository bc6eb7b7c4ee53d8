/-! ===== methods with handlers: contracts, catches, calls ===== -/
section HAND
variable {l : Launch} {D : va_G} {y : MethodName} {wsy : List Cond} {rm : Room} {mc ms : Nat} {av : List Value} {ws : va_W} {ex : State → Prop} {post : Option Value → va_W → Prop} {postX : String → Addr → va_W → Prop} {cc : ByteArray} {nL : Nat} {ret : Option FieldType} {lv : List (Nat × Value)} {hh : List (Nat × Nat × Nat × Nat)}
theorem ct_HU (own : String) (hy : plainName y.cls = true) (ho : y.cls = own) (hw : wsy = Cond.codeWith y cc nL ret hh :: lw_all) (hst : l.stackTraces = false) (hlen : (lg_sl av).length ≤ nL) (hlv : lv_args 0 av = lv)
    (body : ∀ (p : Program) (e : Env) (s : State) (m : MethodId) (args : Array Value) (below : List Frame) (meth : Method) (c : Code) (A : Nat → Prop), CX p l s m args meth c own cc nL ret D A → c.exceptionTable.toList = tableOf hh → ex s → GO p l e rm s m args below meth c nL D A A 0 0 (MX below D A post postX args s mc ms) ws 0 lv []) : CT l D y wsy rm mc ms va_A av ws ex post postX := by
  intro sz
  refine vx_ofWH (cc := cc) (maxL := nL) (ret := ret) (hh := hh) (ws' := lw_all) hy hw ?_
  intro p e s m args below meth c s₁ B hml hv
  obtain ⟨rfl, hsz, hP, hK, hD0, hG, hex⟩ := hv
  subst hsz
  have hts0 := atoms_spec (ws := wsy) B.pre
  have htab := vx_table (x := y) B (hts0 _ (by rw [hw]; exact List.mem_cons_self))
  have hts : ∀ w ∈ lw_all, w.before _ s = true := fun w h => hts0 w (by rw [hw]; exact List.mem_cons_of_mem _ h)
  have hown : s.vm.findClass own = some m.cls := by rw [← ho]; exact findClass_of_methodNamed B.named
  have hl := lv_entry av (n := nL) hlen
  rw [lg_entry_eq]
  rw [hlv] at hl
  exact body p e s m _ below meth c (va_A ws s.heap.size) ⟨B.exec, B.bytes, hml, hown, hts, hK, hG, fun q h => Or.inr h, hst, B.returns, B.notSynchronized⟩ htab hex s.heap [] _ hP hD0.self va_S.rf hl
end HAND
section CATCH
variable {p : Program} {l : Launch} {e : Env} {R : Room} {s : State} {m : MethodId} {args : Array Value} {below : List Frame} {meth : Method} {c : Code} {own : String} {cc : ByteArray} {nL : Nat} {ret : Option FieldType} {D : va_G} {A B : Nat → Prop} {cells slots : Nat} {ws : va_W} {pc : Nat} {lv : List (Nat × Value)} {st : List Value} {post : Option Value → va_W → Prop} {postX : String → Addr → va_W → Prop} {mc ms : Nat} {Q : State → Prop}
theorem x_catch (C : CX p l s m args meth c own cc nL ret D A) {name E : String} {q : Addr} (pre : List ExceptionTableEntry) (x : ExceptionTableEntry) (suf : List ExceptionTableEntry) (hsplit : c.exceptionTable.toList = pre ++ x :: suf) (hpass : ∀ z ∈ pre, covers z pc = false ∨ (z.catchType ≠ 0 ∧ ∃ nm : String, Cond.classLink own z.catchType nm ∈ lw_all ∧ (E, nm) ∈ noX)) (hx : covers x pc = true) (h0 : x.catchType ≠ 0) (hlink : Cond.classLink own x.catchType name ∈ lw_all) (hcast : (E, name) ∈ castX) (K : GO p l e R s m args below meth c nL D A B cells slots Q ws x.handlerPc lv [.ref q]) : GT p l e R s m args below meth c nL D A B cells slots Q ws pc lv st E q := by
  intro H locs ls ce hP hD hS hl hcell hv hcl
  exact vx_catch C.hown pre x suf hsplit (fun z hz => (hpass z hz).imp id (fun h => ⟨h.1, h.2.imp fun nm hn => ⟨C.hts _ hn.1, C.hG.1.2.2.2.2 _ hn.2⟩⟩)) hx h0 (C.hts _ hlink) (va_Nw.use rfl (C.hG.1.1 _ hcast)) hcell hv hcl (K H locs ls hP hD hS hl)
theorem x_outH (C : CX p l s m args meth c own cc nL ret D A) {E : String} {q : Addr} (hpass : ∀ z ∈ c.exceptionTable.toList, covers z pc = false ∨ (z.catchType ≠ 0 ∧ ∃ nm : String, Cond.classLink own z.catchType nm ∈ lw_all ∧ (E, nm) ∈ noX)) (hc : cells ≤ mc) (hs : slots ≤ ms) (hp : postX E q ws) : GT p l e R s m args below meth c nL D A A cells slots (MX below D A post postX args s mc ms) ws pc lv st E q := by
  intro H locs ls ce hP hD hS hl hcell hv hcl
  exact vx_outP C.hown C.hlk (fun z hz => (hpass z hz).imp id (fun h => ⟨h.1, h.2.imp fun nm hn => ⟨C.hts _ hn.1, C.hG.1.2.2.2.2 _ hn.2⟩⟩)) hcell hv hcl (fun t ht2 _ => ⟨⟨ws, hp, by rw [ht2]; exact hP, hD⟩, hS.F ht2⟩) hS.2.2 hc hs
end CATCH
section CALLH
variable {p : Program} {l : Launch} {e : Env} {R : Room} {s : State} {m : MethodId} {args : Array Value} {below : List Frame} {meth : Method} {c : Code} {own : String} {cc : ByteArray} {nL : Nat} {ret : Option FieldType} {D : va_G} {A B : Nat → Prop} {cells slots : Nat} {ws : va_W} {pc : Nat} {lv : List (Nat × Value)} {st stk : List Value} {mc ms : Nat} {Q : State → Prop}
variable {y : MethodName} {bytes : ByteArray} {maxL index n : Nat} {rety : Option FieldType} {rm : Room} {post : Option Value → va_W → Prop} {postX : String → Addr → va_W → Prop} {As : List Value} {b : Nat} {ex : State → Prop} {wc wr : va_W} {Cn : String}
variable {hh : List (Nat × Nat × Nat × Nat)}
theorem g_callVUH (C : CX p l s m args meth c own cc nL ret D A) (hM : CT l D y (wsW_ y bytes maxL rety hh) rm mc ms va_A (.ref b :: As) wc ex post postX) (hq : GoodIn lw_all (wsV own index Cn y (wsW_ y bytes maxL rety hh))) (hd : (y.cls = Cn ∧ y.cls ≠ "java/lang/invoke/MethodHandle" ∧ y.cls ≠ "java/lang/invoke/VarHandle" ∧ (parseMethodDescriptor y.desc).map (fun d => d.parameters.length) = some n)) (hrc : rm.cells = mc) (hrs : rm.slots = ms) (hR : rm.frames + 1 ≤ R.frames ∧ 8 + (maxL + 11) + rm.locals ≤ R.locals) (hrecv : ∀ (H : Heap) (locs : List Loc), va_P D clX ws H → va_S A s.heap H locs → ∃ cellB : Cell, H[b]? = some cellB ∧ cellB.vm.isStatics = false ∧ s.vm.findClass Cn = some cellB.cls) (hn : As.length = n) (hstk : stk = As.reverse ++ .ref b :: st) (hcat : (st.map fun v => v.category).sum ≤ 8) (hroom : cells + mc ≤ R.cells ∧ slots + ms ≤ R.slots) (d : decode cc pc = .ok (.invokevirtual index, 3)) (hsub : Sb ws (wr ++ wc)) (hexb : ∀ (U : State) (g : JFrame) (mk : MethodId) (a : Array Value), ex U → ex (U.calling g mk a)) (hex : ∀ (H : Heap) (locs : List Loc), va_P D clX ws H → va_S A s.heap H locs → ∀ U : State, U.heap = H → s.WarmedH U.vm → ex U) (kk : ∀ (v : Option Value) (w : va_W), post v w → GO p l e R s m args below meth c nL D A A (cells + mc) (slots + ms) Q (wr ++ w) (pc + 3) (lv) (v.toList ++ st)) (kx : ∀ (E : String) (q : Addr) (w : va_W), postX E q w → GT p l e R s m args below meth c nL D A A (cells + mc) (slots + ms) Q (wr ++ w) (pc) (lv) (st) E q) : GO p l e R s m args below meth c nL D A A (cells) (slots) Q (ws) (pc) (lv) (stk) := by
  intro H locs ls hP0 hD0 hS hl
  subst hstk
  have hP := hsub.1 _ _ _ hP0
  have hD := hsub.2 _ hD0
  have hF : ∀ q, va_A wc H.size q → A q := vaA_in hD C.hA hS
  refine g_run (vx_runVX (hh := hh) (As := As) (rest := st) ⟨C.hx, C.hb, C.hml, C.hown, C.hts⟩ (hM H.size) (vx_cwVW n C.hts hq rfl hrc hrs hd hR) ⟨PX_blind hexb, hrecv H locs hP0 hS, px_start C (sbP_right hP) (rt_true (sb_right hD)) hS hF (hex H locs hP0 hS)⟩ rfl hn hl.1 rfl (lv_room hcat) d hroom) hS hF (fun v w H1 locs1 hp hPw hDw hS1 hk => ?_) (fun E q ce w H1 locs1 hp hPw hDw hS1 hk g1 g2 g3 => ?_)
  · obtain ⟨r1, r2⟩ := sb_after hP hD hF (fun q h => h) hk hPw hDw
    exact kk v w hp H1 locs1 ls r1 r2 hS1 hl
  · obtain ⟨r1, r2⟩ := sb_after hP hD hF (fun q h => h) hk hPw hDw
    exact kx E q w hp H1 locs1 ls ce r1 r2 hS1 hl g1 g2 g3
theorem g_callSUH (C : CX p l s m args meth c own cc nL ret D A) (hM : CT l D y (wsW_ y bytes maxL rety hh) rm mc ms va_A As wc ex post postX) (hq : GoodIn lw_all (va_wsS own index y (wsW_ y bytes maxL rety hh))) (hd : (y.cls ≠ "java/lang/invoke/MethodHandle" ∧ y.cls ≠ "java/lang/invoke/VarHandle" ∧ (parseMethodDescriptor y.desc).map (fun d => d.parameters.length) = some n)) (hrc : rm.cells = mc) (hrs : rm.slots = ms) (hR : rm.frames + 1 ≤ R.frames ∧ 8 + (maxL + 11) + rm.locals ≤ R.locals) (hn : As.length = n) (hstk : stk = As.reverse ++ st) (hcat : (st.map fun v => v.category).sum ≤ 8) (hroom : cells + mc ≤ R.cells ∧ slots + ms ≤ R.slots) (d : decode cc pc = .ok (.invokestatic index, 3)) (hsub : Sb ws (wr ++ wc)) (hexb : ∀ (U : State) (g : JFrame) (mk : MethodId) (a : Array Value), ex U → ex (U.calling g mk a)) (hex : ∀ (H : Heap) (locs : List Loc), va_P D clX ws H → va_S A s.heap H locs → ∀ U : State, U.heap = H → s.WarmedH U.vm → ex U) (kk : ∀ (v : Option Value) (w : va_W), post v w → GO p l e R s m args below meth c nL D A A (cells + mc) (slots + ms) Q (wr ++ w) (pc + 3) (lv) (v.toList ++ st)) (kx : ∀ (E : String) (q : Addr) (w : va_W), postX E q w → GT p l e R s m args below meth c nL D A A (cells + mc) (slots + ms) Q (wr ++ w) (pc) (lv) (st) E q) : GO p l e R s m args below meth c nL D A A (cells) (slots) Q (ws) (pc) (lv) (stk) := by
  intro H locs ls hP0 hD0 hS hl
  subst hstk
  have hP := hsub.1 _ _ _ hP0
  have hD := hsub.2 _ hD0
  have hF : ∀ q, va_A wc H.size q → A q := vaA_in hD C.hA hS
  refine g_run (vx_runSX (hh := hh) (As := As) (rest := st) ⟨C.hx, C.hb, C.hml, C.hown, C.hts⟩ (hM H.size) (vx_cwSW n C.hts hq rfl hrc hrs hd hR) ⟨PX_blind hexb, px_start C (sbP_right hP) (rt_true (sb_right hD)) hS hF (hex H locs hP0 hS)⟩ rfl hn hl.1 rfl (lv_room hcat) d hroom) hS hF (fun v w H1 locs1 hp hPw hDw hS1 hk => ?_) (fun E q ce w H1 locs1 hp hPw hDw hS1 hk g1 g2 g3 => ?_)
  · obtain ⟨r1, r2⟩ := sb_after hP hD hF (fun q h => h) hk hPw hDw
    exact kk v w hp H1 locs1 ls r1 r2 hS1 hl
  · obtain ⟨r1, r2⟩ := sb_after hP hD hF (fun q h => h) hk hPw hDw
    exact kx E q w hp H1 locs1 ls ce r1 r2 hS1 hl g1 g2 g3
end CALLH
