/-! ===== an exception with a constructor of its own (SewnBook$Fault) ===== -/
/-- the words of 'super()' into Exception's chain, on an object of the class own -/
def sf_at (own : String) (ic N : Nat) (sup : String) (names : List String) : List Cond :=
  Bundle.throwableAtoms ++ Bundle.chain0Atoms sup names ++ [.methodLink own ic (Bundle.init0 sup), .instantiable own N, .selects own Bundle.tFill0 Bundle.tFill0, .selects own Bundle.tFill Bundle.tFill,
   .lays own Bundle.tN "cause" "Ljava/lang/Throwable;", .lays own Bundle.tN "stackTrace" Bundle.steD, .lays own Bundle.tN "suppressedExceptions" Bundle.listD,
   .isRef (.static Bundle.tN "UNASSIGNED_STACK" Bundle.steD), .isRef (.static Bundle.tN "SUPPRESSED_SENTINEL" Bundle.listD),
   .fieldLink Bundle.tN 198 Bundle.tN "backtrace" "Ljava/lang/Object;", .lays Bundle.tN Bundle.tN "backtrace" "Ljava/lang/Object;", .lays own Bundle.tN "backtrace" "Ljava/lang/Object;"]
section SF
variable {p : Program} {l : Launch} {e : Env} {R : Room} {s : State} {m₀ : MethodId} {args : Array Value} {below : List Frame} {meth : Method} {c : Code} {W : State} {locs : List Loc} {cells slots : Nat}
theorem sf_takes {s : State} {cell : Cell} {c : Nat} {k : Class} {f : Field} {v : Value} (hc : cell.cls = c) (hvm : cell.vm = .none) (hk : s.vm.classes[c]? = some k) (hord : k.kind = .ordinary) (hty : k.instanceTypes[f.slot]? = some f.type) (hv : fits f.type v = true) (hsz : f.slot < cell.slots.size) : Takes s cell f v := by
  refine ⟨hsz, ?_⟩
  simp [State.fitsSlot, State.slotType?, hc, hvm, hk, hord, hty, hv]
set_option maxHeartbeats 2000000 in
theorem sf_super (X : Stand p l e R s m₀ args below meth c W locs cells slots) (hexec : p.tables.exec = Jvm.exec) (htr : e.platform.stackTraces = false) {own sup : String} {names : List String} {ic N : Nat}
    (hown : s.vm.findClass own = some m₀.cls) (hsup : Bundle.fit sup = true) (hnames : ∀ n ∈ names, Bundle.fit n = true)
    (h : ∀ a ∈ sf_at own ic N sup names, a.before args s = true)
    (hlocs : ∀ x ∈ locs, ∀ cell, s.heap[x.base]? = some cell → cell.vm.isStatics = false)
    {a : Addr} {cell : Cell} (hcell : W.heap[a]? = some cell) (hcls : cell.cls = m₀.cls) (hvm : cell.vm = .none) (hfree : cell.monitor.owner = none) (hcount : cell.monitor.count = 0)
    (sC : ∀ c k i f, s.fieldFound? Bundle.tN "cause" "Ljava/lang/Throwable;" = some (c, k, i, f) → f.slot < cell.slots.size)
    (sS : ∀ c k i f, s.fieldFound? Bundle.tN "stackTrace" Bundle.steD = some (c, k, i, f) → f.slot < cell.slots.size)
    (sP : ∀ c k i f, s.fieldFound? Bundle.tN "suppressedExceptions" Bundle.listD = some (c, k, i, f) → f.slot < cell.slots.size)
    (sB : ∀ c k i f, s.fieldFound? Bundle.tN "backtrace" "Ljava/lang/Object;" = some (c, k, i, f) → cell.slots[f.slot]? = some .null)
    {g : JFrame} (hg : g.method = m₀) (hsize : g.locals.size = c.maxLocals) {rest : List Value} (hstack : g.stack = .ref a :: rest)
    (hd6 : decode c.code g.pc = .ok (.invokespecial ic, 3))
    (hRframes : names.length + 3 < R.frames) (hRlocals : 2 * g.monitorRoom + (rest.map fun v => v.category).sum + (13 * (names.length + 1) + 41) ≤ R.locals) :
    ∃ (V : State) (ce : Cell) (L : List Loc), Stand p l e R s m₀ args below meth c (V.setCell a ce) (locs ++ L) cells slots ∧ (∀ y ∈ L, y.base = a) ∧ a < V.heap.size ∧ ce.cls = cell.cls ∧ ce.vm = .none ∧ ce.slots.size = cell.slots.size ∧
      ∀ target, Steps p.tables e below ((V.setCell a ce).setTop { g with stack := rest, pc := g.pc + 3 }) target → Steps p.tables e below (W.setTop g) target := by
  have howns : e.platform.frameOwnsMonitors = true := by rw [X.admits.platform]
  have hfin : e.platform.finalization = false := by rw [X.admits.platform]
  have hpl : e.platform.magicAccessors = ({} : Platform).magicAccessors := by rw [X.admits.platform]
  have a' : ∀ x, x ∈ sf_at own ic N sup names → x.holds args s none s [] = true := fun x hx => h x hx
  obtain ⟨T, Z, L, LZ, Y⟩ := ThrowableC.of_atoms (args := args) howns hfin hpl (fun x hx => h x (by simp [sf_at, hx]))
  obtain ⟨P1, Ps, hlen, L1, hL, hP1m, hlink1, hlink⟩ := Bundle.chain0 (args := args) hpl Y.init0 names sup hsup hnames (fun x hx => h x (by simp [sf_at, hx]))
  obtain ⟨c1, kX, hc1, hk, hord, -, -, hn6⟩ := Cond.instantiable_spec (a' (.instantiable own N) (by simp [sf_at]))
  cases Option.some.inj (hc1.symm.trans hown)
  have hsel0 : selectMethod e.platform s.vm cell.cls T.fill0 = .method T.fill0 := by
    obtain ⟨c2, r2, m2, q1, q2, q3, q4, -⟩ := Cond.selects_spec (a' (.selects own Bundle.tFill0 Bundle.tFill0) (by simp [sf_at]))
    cases Option.some.inj (q1.symm.trans hown)
    cases Option.some.inj (q2.symm.trans (State.methodFound?_of_named Y.fill0 (by decide)))
    cases Option.some.inj (q3.symm.trans Y.fill0)
    rw [Launch.admits_selectMethod X.admits, hcls]; exact q4
  have hselF : selectMethod e.platform s.vm cell.cls T.fill = .method T.fill := by
    obtain ⟨c2, r2, m2, q1, q2, q3, q4, -⟩ := Cond.selects_spec (a' (.selects own Bundle.tFill Bundle.tFill) (by simp [sf_at]))
    cases Option.some.inj (q1.symm.trans hown)
    cases Option.some.inj (q2.symm.trans (State.methodFound?_of_named Y.fill (by decide)))
    cases Option.some.inj (q3.symm.trans Y.fill)
    rw [Launch.admits_selectMethod X.admits, hcls]; exact q4
  obtain ⟨cellS0, hcS0, hiss⟩ := Y.statics
  obtain ⟨u0, hu0⟩ := Cond.staticRefV Y.unassigned L.unassignedStatic L.statics hcS0 hiss (a' (.isRef (.static Bundle.tN "UNASSIGNED_STACK" Bundle.steD)) (by simp [sf_at]))
  obtain ⟨sen, hsen⟩ := Cond.staticRefV Y.sentinel L.sentinelStatic L.statics hcS0 hiss (a' (.isRef (.static Bundle.tN "SUPPRESSED_SENTINEL" Bundle.listD)) (by simp [sf_at]))
  obtain ⟨ci198, i198, fB, hk198, hg198, ha198, hsB, -, hnB, htB, hffB⟩ := Cond.ownField (t := .object "java/lang/Object") Y.found L.cls (by decide +kernel) (a' (.fieldLink Bundle.tN 198 Bundle.tN "backtrace" "Ljava/lang/Object;") (by simp [sf_at])) (a' (.lays Bundle.tN Bundle.tN "backtrace" "Ljava/lang/Object;") (by simp [sf_at])) e.platform hpl
  obtain ⟨cellS, hcS', heS, -, hkeep⟩ := X.same.2.2.2.2.2 T.aS cellS0 hcS0
  have hcellS : W.heap[T.aS]? = some cellS := hcS'
  have hout' : ∀ i, (⟨T.aS, i⟩ : Loc) ∉ locs := fun i hmem => by
    have := hlocs _ hmem cellS0 hcS0
    rw [hiss] at this; cases this
  have hknownS : cellS.vm ≠ .unknown := by
    rw [heS]; intro hu
    rw [show cellS0.vm = .unknown from hu] at hiss
    cases hiss
  have hneS : T.aS ≠ a := by
    intro e9
    rw [e9] at hcellS
    cases Option.some.inj (hcellS.symm.trans hcell)
    have h9 : cell.vm = cellS0.vm := by rw [heS]
    rw [← h9, hvm] at hiss
    cases hiss
  obtain ⟨tyC, dC, hdC, hdnC⟩ := Cond.laysAt hown hk Y.cause (a' (.lays own Bundle.tN "cause" "Ljava/lang/Throwable;") (by simp [sf_at]))
  obtain ⟨tyS, dS, hdS, hdnS⟩ := Cond.laysAt hown hk Y.stack (a' (.lays own Bundle.tN "stackTrace" Bundle.steD) (by simp [sf_at]))
  obtain ⟨tyP, dP, hdP, hdnP⟩ := Cond.laysAt hown hk Y.supp (a' (.lays own Bundle.tN "suppressedExceptions" Bundle.listD) (by simp [sf_at]))
  obtain ⟨tyB, dB, hdB, hdnB⟩ := Cond.laysAt hown hk hffB (a' (.lays own Bundle.tN "backtrace" "Ljava/lang/Object;") (by simp [sf_at]))
  have bC := Cond.laysApart hdB hdC hdnB hdnC (by rw [hnB, Y.causeName]; decide)
  have bS := Cond.laysApart hdB hdS hdnB hdnS (by rw [hnB, Y.stackName]; decide)
  have bP := Cond.laysApart hdB hdP hdnB hdnP (by rw [hnB, Y.suppName]; decide)
  have hskip : SkipFacts T e.platform s (fun u => u) u0 ((preparedCellV T.toThrowableT cell a u0 sen).withEntry W.cur) :=
    ⟨{ ci198 := ci198, i198 := i198, fBack := fB }, ⟨hk198, hg198, ha198, hsB⟩, by
      have := sB _ _ _ _ hffB
      simpa [preparedCellV, Cell.setSlot, Cell.withEntry, Array.getElem?_setIfInBounds, bC, bS, bP, bC.symm, bS.symm, bP.symm, defaultValue] using this, fun _ _ => rfl⟩
  obtain ⟨tm, methC, cdC, kC, vm₁, hnC, -, -, -, -, -, -, -, hW₁, st1⟩ := Steps.initCold (tb := p.tables) (e := e) (below := below) (s := s) (U := W) X.here hexec X.warmed hpl hown (t := Bundle.init0 sup) rfl rfl (Bundle.fit_spec hsup).2
    (a' (.methodLink own ic (Bundle.init0 sup)) (by simp [sf_at])) (h (.instanceMethod (Bundle.init0 sup)) (by cases names <;> simp [sf_at, Bundle.chain0Atoms, Bundle.passAtoms])) (bytes := Bundle.five) (maxL := 1) (h (.code (Bundle.init0 sup) Bundle.five 1 none) (by cases names <;> simp [sf_at, Bundle.chain0Atoms, Bundle.passAtoms]))
    (f := g) hg (a := a) (rest := rest) hstack hd6
  cases Option.some.inj (hnC.symm.trans hP1m)
  have X₁ := X.noted hW₁
  obtain ⟨vm₂, X₂, st2⟩ := X₁.ctorPlainOffV hexec (g := { g with stack := rest }) hg hsize T L Z LZ (P1 :: Ps)
    (fun P hP => by rcases List.mem_cons.mp hP with rfl | hP; exact L1; exact hL P hP) ⟨hlink1, hlink⟩ (u0 := u0) (sen := sen) (self := a) (cell := cell) (cellS := cellS)
    hcell (fun _ => by rw [hvm]; intro e9; cases e9) (by rw [hvm]; intro e9; cases e9) hfree hcount hsel0 hselF hcellS hneS hknownS (by rw [hkeep _ (hout' _)]; exact hu0) (by rw [hkeep _ (hout' _)]; exact hsen)
    (sf_takes hcls hvm hk hord tyC (by rw [Y.causeType]; rfl) (sC _ _ _ _ Y.cause)) (sf_takes hcls hvm hk hord tyS (by rw [Y.stackType]; exact fits_refV_array _ u0) (sS _ _ _ _ Y.stack)) (sf_takes hcls hvm hk hord tyP (by rw [Y.suppType]; exact fits_refV_object _ sen) (sP _ _ _ _ Y.supp)) Y.objLocals hskip htr [] hd6
    (by simp only [List.length_cons, hlen]; omega) (by simp only [List.length_cons, hlen]; exact hRlocals)
  have hlt : a < ((W.setVm vm₁).setVm vm₂).heap.size := (Array.getElem?_eq_some_iff.mp hcell).1
  refine ⟨(W.setVm vm₁).setVm vm₂, _, _, X₂, fun y hy => ?_, hlt, rfl, hvm, by simp [preparedCellV, Cell.setSlot], fun target hwalk => st1 _ (fun acts => ?_)⟩
  · simp only [List.mem_cons, List.not_mem_nil, or_false] at hy
    rcases hy with rfl | rfl | rfl | rfl <;> rfl
  · rw [doInvoke_state]
    exact st2 _ hwalk
end SF
def EX : String := "java/lang/Exception"
theorem sfF_in : ∀ w ∈ ((sf_at RX5 1 8 EX []).filter vx_no).filter goodWord, w ∈ lw_tbl := by
  have h : ((((sf_at RX5 1 8 EX []).filter vx_no).filter goodWord).all fun w => lw_tbl.elem w) = true := by decide +kernel
  intro w hw
  exact List.mem_of_elem_eq_true (List.all_eq_true.mp h w hw)
theorem sfF_no : (((sf_at RX5 1 8 EX []).filter vx_no).filter (fun w => !goodWord w)).all (fun w => decide (w ∈ (declX.map Cond.declares ++ castX.map (fun q => Cond.castable q.1 q.2)))) = true := by decide +kernel
theorem sfF_at {p : Program} {l : Launch} {s : State} {m : MethodId} {args : Array Value} {meth : Method} {c : Code} {own : String} {cc : ByteArray} {nL : Nat} {ret : Option FieldType} {D : va_G} {A : Nat → Prop} (C : CX p l s m args meth c own cc nL ret D A) : ∀ w ∈ (sf_at RX5 1 8 EX []).filter vx_no, w.before args s = true := by
  intro w hw
  cases hg : goodWord w with
  | true => exact C.hts w (lw_g (sfF_in w (List.mem_filter.mpr ⟨hw, hg⟩)) hg)
  | false =>
    have h1 := of_decide_eq_true (List.all_eq_true.mp sfF_no w (List.mem_filter.mpr ⟨hw, by rw [hg]; rfl⟩))
    rcases List.mem_append.mp h1 with h2 | h2
    · obtain ⟨q, hq, rfl⟩ := List.mem_map.mp h2
      exact va_Nw.use rfl (C.hG.1.2.2.1 q hq)
    · obtain ⟨q, hq, rfl⟩ := List.mem_map.mp h2
      exact va_Nw.use rfl (C.hG.1.1 q hq)
def DEFF : List Value := [.null, .null, .null, .null, .null, .int (iI 0), .int (iI 0), .int (iI 0)]
def exM (b : Nat) : State → Prop := fun U => ∀ cell : Cell, U.heap[b]? = some cell → cell.monitor.owner = none ∧ cell.monitor.count = 0
theorem exM_b {b : Nat} : ∀ (U : State) (g : JFrame) (mk : MethodId) (a : Array Value), exM b U → exM b (U.calling g mk a) := fun _ _ _ _ h => h
set_option maxHeartbeats 4000000 in
set_option maxRecDepth 100000 in
theorem c_newFault (l : Launch) (D : va_G) (hst : l.stackTraces = false) (b : Nat) (x1 x2 : Int) : CT l D yX5_init (ws_ yX5_init cX5_init 3 none) (rmD 4 0 0) (0) (0) va_A [.ref b, .int (iI x1), .int (iI x2)] [(b, .inr (4, DEFF))] (exM b) (fun v w => v = none ∧ ∃ fs : List Value, fs.length = 8 ∧ w = [(b, .inr (4, (fs.set 6 (.int (iI x1))).set 7 (.int (iI x2))))]) xN := by
  intro sz
  refine vx_ofW (cc := cX5_init) (maxL := 3) (ret := none) (ws' := lw_all) (by decide) rfl ?_
  intro p e s m args below meth c s₁ B hml htab hv
  obtain ⟨rfl, hsz, hP, hK, hD0, hG, hex⟩ := hv
  subst hsz
  have hts := atoms_spec (ws := ws_ yX5_init cX5_init 3 none) B.pre
  have hts : ∀ w ∈ lw_all, w.before _ s = true := fun w h => hts w (List.mem_cons_of_mem _ h)
  have hown : s.vm.findClass RX5 = some m.cls := findClass_of_methodNamed B.named
  have hl := lv_entry [.ref b, .int (iI x1), .int (iI x2)] (n := 3) (Nat.le_of_ble_eq_true rfl)
  rw [lg_entry_eq]
  generalize hls : lg_sl [Value.ref b, .int (iI x1), .int (iI x2)] = sl at hl
  have C : CX p l s m ([Value.ref b, .int (iI x1), .int (iI x2)].toArray) meth c RX5 cX5_init 3 none D (va_A [(b, .inr (4, DEFF))] s.heap.size) := ⟨B.exec, B.bytes, hml, hown, hts, hK, hG, fun q h => Or.inr h, hst, B.returns, B.notSynchronized⟩
  have hnm : (yX5_init.name = "<init>" → meth.name = "<init>") := fun h => (name_of_methodNamed B.named B.method).1.trans h
  have hDA := hD0.self (sz := s.heap.size)
  have hAb := hDA.2 0 _ rfl
  obtain ⟨r, hr, cell, g1, g2, g3, g4⟩ := hP 0 _ rfl
  have hr9 : r = (RX5, TX5, 8) := Option.some.inj (hr.symm.trans rfl)
  subst hr9
  obtain ⟨hS, hfc, -⟩ := hK.1 4 _ rfl
  have hcid : cell.cls = m.cls := by rw [g2]; exact Option.some.inj (hfc.symm.trans hown)
  have hslot : ∀ k, k < 8 → ∀ c k2 i f, s.fieldFound? (TX5 k).1 (TX5 k).2.1 (TX5 k).2.2.1 = some (c, k2, i, f) → cell.slots[f.slot]? = some (vp_V DEFF k) := by
    intro k hk c k2 i f hf
    obtain ⟨cf, kf, fi, fd, h1, h2⟩ := hS k hk
    cases Option.some.inj (h1.symm.trans hf)
    rw [h2]; exact g4 k hk
  refine lv_aload_n C.hx C.hb dX5_init_0 rfl (lv_at hl 0 rfl) ?_
  intro T hT X
  have htr : e.platform.stackTraces = false := (show e.platform.stackTraces = l.stackTraces by rw [X.admits.platform]).trans hst
  have hlt : ∀ k, k < 8 → ∀ c k2 i f, s.fieldFound? (TX5 k).1 (TX5 k).2.1 (TX5 k).2.2.1 = some (c, k2, i, f) → f.slot < cell.slots.size := fun k hk c k2 i f hf => (Array.getElem?_eq_some_iff.mp (hslot k hk c k2 i f hf)).1
  obtain ⟨V, ce, L, Z, hL, hltV, hc9, hv9, hz9, st⟩ := sf_super X C.hx htr (own := RX5) (sup := EX) (names := []) (ic := 1) (N := 8) hown (by decide) (fun _ h => nomatch h)
    (vx_own (sfF_at C) (vx_isRefq C.hG.2.2.2.2.2.2.2.2.1.1) (vx_isRefq C.hG.2.2.2.2.2.2.2.2.2.1.1) C.hG.2.2.2.2.2.2.2.2.1.2.word C.hG.2.2.2.2.2.2.2.2.2.1.2.word) (fun x hx => nomatch hx)
    (a := b) (cell := cell) (by rw [hT]; exact g1) hcid g3 (hex cell g1).1 (hex cell g1).2
    (hlt 0 (by decide)) (hlt 1 (by decide)) (hlt 2 (by decide)) (fun c k2 i f hf => hslot 4 (by decide) c k2 i f hf)
    (g := F0 m 1 _ [.ref b]) rfl (hl.1.trans hml.symm) (rest := []) rfl (by rw [B.bytes]; exact dX5_init_1) (by show 3 < 4; decide) (by show 0 + 0 + (13 * (0 + 1) + 41) ≤ 64 * 4; decide)
  obtain ⟨f1, f2⟩ := vx_frame Z.same
  have hcell : (V.setCell b ce).heap[b]? = some ce := heapAt_setCell_self (s := V) ce hltV
  have hfs : ∀ k, k < 8 → ce.slots[D.2 4 k]? = some (vp_V ((List.range 8).map fun k => (ce.slots[D.2 4 k]?).getD .null) k) := by
    intro k hk
    have h1 := (Array.getElem?_eq_some_iff.mp (g4 k hk)).1
    rw [← hz9] at h1
    rw [Array.getElem?_eq_getElem h1]
    have : ((List.range 8).map fun k => (ce.slots[D.2 4 k]?).getD Value.null)[k]? = some ((ce.slots[D.2 4 k]?).getD .null) := by rw [List.getElem?_map, List.getElem?_range hk]; rfl
    unfold vp_V
    rw [List.getD_eq_getElem?_getD, this, Array.getElem?_eq_getElem h1]; rfl
  have hlen : ((List.range 8).map fun k => (ce.slots[D.2 4 k]?).getD Value.null).length = 8 := by simp
  generalize ((List.range 8).map fun k => (ce.slots[D.2 4 k]?).getD Value.null) = fs at hfs hlen
  have K : GO p l e (rmD 4 0 0) s m ([Value.ref b, .int (iI x1), .int (iI x2)].toArray) below meth c 3 D (va_A [(b, .inr (4, DEFF))] s.heap.size) (va_A [(b, .inr (4, DEFF))] s.heap.size) 0 0 (MX below D (va_A [(b, .inr (4, DEFF))] s.heap.size) (fun v w => v = none ∧ ∃ fs : List Value, fs.length = 8 ∧ w = [(b, .inr (4, (fs.set 6 (.int (iI x1))).set 7 (.int (iI x2))))]) xN ([Value.ref b, .int (iI x1), .int (iI x2)].toArray) s 0 0) [(b, .inr (4, fs))] 4 [(0, .ref b), (1, .int (iI x1)), (2, .int (iI x2))] [] := by
    refine g_aload_n C dX5_init_4 rfl 0 rfl ?_
    refine g_iload_n C dX5_init_5 rfl 1 rfl ?_
    refine g_putF C in_X5 tyX5 tyX5_ok nmX5 (hnm rfl) 0 6 (ws' := [(b, .inr (4, fs.set 6 (.int (iI x1))))]) rfl rfl (Nat.le_of_ble_eq_true rfl) q837 rfl rfl rfl rfl (by rw [hlen]; decide) dX5_init_6 rfl ?_
    refine g_aload_n C dX5_init_9 rfl 0 rfl ?_
    refine g_iload_n C dX5_init_10 rfl 2 rfl ?_
    refine g_putF C in_X5 tyX5 tyX5_ok nmX5 (hnm rfl) 0 7 (ws' := [(b, .inr (4, (fs.set 6 (.int (iI x1))).set 7 (.int (iI x2))))]) rfl rfl (Nat.le_of_ble_eq_true rfl) q839 rfl rfl rfl rfl (by rw [List.length_set, hlen]; decide) dX5_init_11 rfl ?_
    exact g_vret C dX5_init_14 (Nat.le_refl _) (Nat.le_refl _) ⟨rfl, fs, hlen, rfl⟩
  obtain ⟨t, a1, b1⟩ := K (V.setCell b ce).heap L _ (fun k q hq => by
      have hz : k < 1 := (List.getElem?_eq_some_iff.mp hq).1
      rw [show k = 0 by omega] at hq
      cases hq
      exact ⟨_, rfl, ce, hcell, hc9.trans g2, hv9, hfs⟩) (hDA.set' (q0 := 0) rfl) ⟨f1, fun q h1 h2 => f2 q h1 (fun z hz e9 => h2 (by rw [← e9, hL z hz]; exact hAb)), fun z hz => by rw [hL z hz]; exact hAb⟩ hl _ rfl Z
  exact ⟨t, st _ a1, b1⟩
/-! 'throw new Fault(z, x)' in the class -/
set_option maxHeartbeats 2000000 in
theorem g_throwF {p : Program} {l : Launch} {e : Env} {R : Room} {s : State} {mm : MethodId} {args : Array Value} {below : List Frame} {meth : Method} {c : Code} {cc : ByteArray} {nL : Nat} {ret : Option FieldType} {D : va_G} {A : Nat → Prop} {cells slots : Nat} {Q : State → Prop} {pc : Nat} {lv : List (Nat × Value)} {st : List Value} {ws : va_W}
    (C : CX p l s mm args meth c RX1 cc nL ret D A) {z x : Int} {i j : Nat} (hj : lv[j]? = some (i, .int (iI x))) (d0 : decode cc pc = .ok (.new 173, 3)) (d3 : decode cc (pc + 3) = .ok (.dup, 1)) (d4 : decode cc (pc + 4) = .ok (.iconst z, 1)) (d5 : decode cc (pc + 5) = .ok (.iload i, 2)) (d7 : decode cc (pc + 7) = .ok (.invokespecial 175, 3)) (d10 : decode cc (pc + 10) = .ok (.athrow, 1))
    (hR : 4 + 1 ≤ R.frames ∧ 8 + (3 + 11) + 64 * 4 ≤ R.locals) (hcat : (st.map fun v => v.category).sum ≤ 6) (hroom : cells + 1 ≤ R.cells ∧ slots + 8 ≤ R.slots)
    (KX : ∀ (q : Addr) (fs : List Value), fs.length = 8 → GT p l e R s mm args below meth c nL D A A (cells + 1) (slots + 8) Q (ws ++ [(q, .inr (4, (fs.set 6 (.int (iI z))).set 7 (.int (iI x))))]) (pc + 10) lv st RX5 q) :
    GO p l e R s mm args below meth c nL D A A cells slots Q ws pc lv st := by
  intro H locs ls hP hD hS hl
  have hKn := C.hK.1 4 _ rfl
  refine W.newcK C.hx C.hb C.hown (C.hts _ q734) (C.hts _ q825) (C.hts _ q74) rfl d0 hroom.1 hroom.2 hKn.2.1 rfl fun H1 kC hkC e1 z1 o1 => ?_
  have hk : ∀ (k : Nat) (x : Nat × va_E), ws[k]? = some x → H1[x.1]? = H[x.1]? := fun k x hx => o1 x.1 ((hP k x hx).lt)
  have hP1 : va_P D clX (ws ++ [(H.size, .inr (4, DEFF))]) H1 := (hP.kept hk).app (fun k x hx => by
    have hz : k < 1 := (List.getElem?_eq_some_iff.mp hx).1
    rw [show k = 0 by omega] at hx
    cases hx
    refine ⟨_, rfl, (u_born tyX5 C.hts in_X5 hKn hkC e1 tyX5_ok).to ?_⟩
    exact fun j hj => of_decide_eq_true (List.all_eq_true.mp (show (List.range 8).all (fun j => decide (defaultValue (tyX5 j) = vp_V DEFF j)) = true by decide +kernel) j (List.mem_range.mpr hj)))
  have hD1 : va_D A (ws ++ [(H.size, .inr (4, DEFF))]) := hD.push hP rfl (C.hA _ hS.1)
  have hS1 : va_S A s.heap H1 locs := ⟨Nat.le_trans hS.1 (by omega), fun x h1 h2 => (o1 x (Nat.lt_of_lt_of_le h1 hS.1)).trans (hS.2.1 x h1 h2), hS.2.2⟩
  refine lv_dup C.hx C.hb d3 rfl ?_
  refine lv_iconst C.hx C.hb d4 rfl ?_
  refine lv_iload C.hx C.hb d5 (lv_at hl j hj) ?_
  have hexq : ∀ U : State, U.heap = H1 → s.WarmedH U.vm → exM H.size U := fun U hU _ cell hc => by
    rw [hU, e1] at hc
    cases Option.some.inj hc
    exact ⟨rfl, rfl⟩
  have hF : ∀ q, va_A [(H.size, .inr (4, DEFF))] H1.size q → A q := vaA_in hD1 C.hA hS1
  refine g_run (mc := 0) (ms := 0) (vx_runI (As := [.int (iI z), .int (iI x)]) (rest := .ref H.size :: st) ⟨C.hx, C.hb, C.hml, C.hown, C.hts⟩ (c_newFault l D C.hl H.size z x H1.size) (cwI 2 C.hts (lw_I q835) rfl rfl rfl (C.hts _ q74) (C.hts _ q833) (C.hts _ q834) rfl (by decide +kernel) hR) ⟨PX_blind exM_b, px_start C (sbP_right hP1) (rt_true (sb_right hD1)) hS1 hF hexq⟩ rfl rfl hl.1 rfl (lv_room (by show 1 + (st.map fun v => v.category).sum ≤ 8; omega)) d7 ⟨by omega, by omega⟩) hS1 hF (fun v w H2 locs2 hp hPw hDw hS2 hk2 => ?_) (fun E q ce w H2 locs2 hp => hp.elim)
  obtain ⟨rfl, fs, hfs, rfl⟩ := hp
  obtain ⟨r1, r2⟩ := sb_after hP1 hD1 hF (fun q h => h) hk2 hPw hDw
  refine vx_athrow C.hx C.hb d10 ?_
  obtain ⟨r, hr, cell, g1, g2, g3, -⟩ := hPw 0 _ rfl
  have hr9 : r = (RX5, TX5, 8) := Option.some.inj (hr.symm.trans rfl)
  subst hr9
  exact KX H.size fs hfs H2 locs2 ls cell r1 r2 hS2 hl g1 g3 (by rw [g2]; exact hKn.2.1)
