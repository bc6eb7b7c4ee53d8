/-! ===== GO: the walk's state in the goal: world, locals, stack; ints as integers ===== -/
/-- an int of an integer -/
def iI (z : Int) : Int32 := Int32.ofInt z
theorem iI_add (a b : Int) : iI a + iI b = iI (a + b) := (Int32.ofInt_add a b).symm
theorem iI_sub (a b : Int) : iI a - iI b = iI (a - b) := (Int32.ofInt_sub a b).symm
theorem iI_mul (a b : Int) : iI a * iI b = iI (a * b) := (Int32.ofInt_mul a b).symm
theorem iI_neg (a : Int) : -iI a = iI (-a) := (Int32.ofInt_neg a).symm
theorem iI_toInt {a : Int} (h : -2147483648 ≤ a ∧ a < 2147483648) : (iI a).toInt = a := Int32.toInt_ofInt_of_le (by omega) (by omega)
theorem iI_of (x : Int32) : iI x.toInt = x := Int32.ofInt_toInt x
theorem iI_rg (x : Int32) : -2147483648 ≤ x.toInt ∧ x.toInt < 2147483648 := ⟨Int32.le_toInt x, Int32.toInt_lt x⟩
theorem iI_le {a b : Int} (ha : -2147483648 ≤ a ∧ a < 2147483648) (hb : -2147483648 ≤ b ∧ b < 2147483648) : iI a ≤ iI b ↔ a ≤ b := by
  rw [Int32.le_iff_toInt_le, iI_toInt ha, iI_toInt hb]
theorem iI_lt {a b : Int} (ha : -2147483648 ≤ a ∧ a < 2147483648) (hb : -2147483648 ≤ b ∧ b < 2147483648) : iI a < iI b ↔ a < b := by
  rw [Int32.lt_iff_toInt_lt, iI_toInt ha, iI_toInt hb]
theorem iI_eq {a b : Int} (ha : -2147483648 ≤ a ∧ a < 2147483648) (hb : -2147483648 ≤ b ∧ b < 2147483648) : iI a = iI b ↔ a = b := by
  rw [← Int32.toInt_inj, iI_toInt ha, iI_toInt hb]
theorem iI_0 : iI 0 = 0 := rfl
theorem iI_r0 : (-2147483648 : Int) ≤ 0 ∧ (0 : Int) < 2147483648 := ⟨by decide, by decide⟩
theorem iI_tn {a : Int} (h0 : 0 ≤ a) (h : a < 2147483648) : (iI a).toNatClampNeg = a.toNat := by
  show (iI a).toInt.toNat = a.toNat
  rw [iI_toInt ⟨by omega, h⟩]
theorem iI_in {a : Int} {n : Nat} (h0 : 0 ≤ a) (h : a < n) (hn : (n : Int) < 2147483648) : vp_in (iI a) n := by
  intro q
  rcases q with q | q
  · rw [← iI_0, iI_lt ⟨by omega, by omega⟩ ⟨by omega, by omega⟩] at q
    omega
  · rw [iI_tn h0 (by omega)] at q
    omega
theorem iI_div {a b : Int} (h0 : 0 ≤ a) (h1 : a < 2147483648) (h2 : 0 < b) (h3 : b < 2147483648) : iI a / iI b = iI (a / b) := by
  apply Int32.toInt_inj.mp
  rw [Int32.toInt_div_of_ne_left, iI_toInt ⟨by omega, h1⟩, iI_toInt ⟨by omega, h3⟩, Int.tdiv_eq_ediv_of_nonneg h0, iI_toInt]
  · have := Int.ediv_le_self b h0
    have := Int.ediv_nonneg h0 (Int.le_of_lt h2)
    omega
  · intro e
    have := congrArg Int32.toInt e
    rw [iI_toInt ⟨by omega, h1⟩] at this
    have h9 : Int32.minValue.toInt = -2147483648 := by decide
    omega
theorem iI_rem {a b : Int} (h0 : 0 ≤ a) (h1 : a < 2147483648) (h2 : 0 < b) (h3 : b < 2147483648) : iI a - iI a / iI b * iI b = iI (a % b) := by
  rw [iI_div h0 h1 h2 h3, iI_mul, iI_sub, Int.emod_def, Int.mul_comm b]
/-! bit operations on integers, as the machine has them -/
def andI (a b : Int) : Int := (iI a &&& iI b).toInt
def orI (a b : Int) : Int := (iI a ||| iI b).toInt
def xorI (a b : Int) : Int := (iI a ^^^ iI b).toInt
def shlI (a b : Int) : Int := (iI a <<< (iI b &&& 31)).toInt
def shrI (a b : Int) : Int := (iI a >>> (iI b &&& 31)).toInt
theorem andI_rg (a b : Int) : -2147483648 ≤ andI a b ∧ andI a b < 2147483648 := iI_rg _
theorem orI_rg (a b : Int) : -2147483648 ≤ orI a b ∧ orI a b < 2147483648 := iI_rg _
theorem xorI_rg (a b : Int) : -2147483648 ≤ xorI a b ∧ xorI a b < 2147483648 := iI_rg _
theorem shlI_rg (a b : Int) : -2147483648 ≤ shlI a b ∧ shlI a b < 2147483648 := iI_rg _
theorem shrI_rg (a b : Int) : -2147483648 ≤ shrI a b ∧ shrI a b < 2147483648 := iI_rg _
/-- a truth as an int -/
def bI (b : Bool) : Int := cond b 1 0
theorem bI_rg (b : Bool) : 0 ≤ bI b ∧ bI b ≤ 1 := by cases b <;> decide
theorem bI_t : bI true = 1 := rfl
theorem bI_f : bI false = 0 := rfl
theorem bI_1 {b : Bool} : bI b = 1 ↔ b = true := by cases b <;> decide
theorem bI_0 {b : Bool} : bI b = 0 ↔ b = false := by cases b <;> decide
/-- a numbered family of integers, changed at one place -/
def up (f : Nat → Int) (k : Nat) (v : Int) (j : Nat) : Int := cond (Nat.beq j k) v (f j)
/-- a numbered family of arrays, changed at one place -/
def ug (g : Nat → Int → Int) (k : Nat) (v : Int → Int) (j : Nat) : Int → Int := cond (Nat.beq j k) v (g j)
/-- an array's contents, changed at one place -/
def uI (f : Int → Int) (k v : Int) (j : Int) : Int := if j = k then v else f j
theorem uI_s {f : Int → Int} {k v : Int} : uI f k v k = v := if_pos rfl
theorem uI_n {f : Int → Int} {k v j : Int} (h : j ≠ k) : uI f k v j = f j := if_neg h
theorem uI_all {f : Int → Int} {k v : Int} {P : Int → Int → Prop} (h : ∀ j, 0 ≤ j → j < k → P j (f j)) (hk : P k v) : ∀ j, 0 ≤ j → j < k + 1 → P j (uI f k v j) := by
  intro j h0 h1
  by_cases e : j = k
  · subst e; rw [uI_s]; exact hk
  · rw [uI_n e]; exact h j h0 (by omega)
theorem up_s {f : Nat → Int} {k : Nat} {v : Int} : up f k v k = v := by simp [up]
theorem up_n {f : Nat → Int} {k : Nat} {v : Int} {j : Nat} (h : j ≠ k) : up f k v j = f j := by
  unfold up
  have : Nat.beq j k = false := by
    cases hb : Nat.beq j k with
    | false => rfl
    | true => exact absurd (Nat.eq_of_beq_eq_true hb) h
  rw [this]; rfl
theorem ug_s {g : Nat → Int → Int} {k : Nat} {v : Int → Int} : ug g k v k = v := by simp [ug]
theorem ug_n {g : Nat → Int → Int} {k : Nat} {v : Int → Int} {j : Nat} (h : j ≠ k) : ug g k v j = g j := by
  unfold ug
  have : Nat.beq j k = false := by
    cases hb : Nat.beq j k with
    | false => rfl
    | true => exact absurd (Nat.eq_of_beq_eq_true hb) h
  rw [this]; rfl
/-- an int array's contents -/
def aI (f : Int → Int) : Nat → Int32 := fun j => iI (f (j : Int))
theorem aI_at (f : Int → Int) {a : Int} (h0 : 0 ≤ a) (h : a < 2147483648) : aI f (iI a).toNatClampNeg = iI (f a) := by
  rw [iI_tn h0 h]
  show iI (f ((a.toNat : Nat) : Int)) = _
  rw [Int.toNat_of_nonneg h0]
theorem aI_up (f : Int → Int) {a v : Int} (h0 : 0 ≤ a) (h : a < 2147483648) : upd (aI f) (iI a).toNatClampNeg (iI v) = aI (uI f a v) := by
  rw [iI_tn h0 h]
  funext j
  show (if j = a.toNat then iI v else iI (f j)) = iI (uI f a v j)
  unfold uI
  by_cases hj : j = a.toNat
  · rw [if_pos hj, if_pos (by omega)]
  · rw [if_neg hj, if_neg (by omega)]
/-! the classes whose objects the worlds hold; the arrays' classes stand at 100 .. of D.1, other addresses at 1000 .. of D.2 -/
abbrev clX : List vw_C := [(RX3, TX3, 36), (RX1, TX1, 21), (RX2, TX2, 4), (RX4, TX4, 5), (RX5, TX5, 8), (RJ2, TJ2, 3), (RJ17, TJ17, 1)]
abbrev tysX (D : va_G) : List (ClassId × FieldType) := [(D.1 100, .int), (D.1 101, .boolean), (D.1 102, .byte), (D.1 103, .long), (D.1 104, .object "java/lang/Object")]
/-! words that don't ride in the list -/
def castX : List (String × String) := [("SewnBook$Part", "java/lang/Object"), ("SewnBook$Plan", "java/lang/Object"), ("java/lang/Integer", "java/lang/Object"), ("SewnBook$Fault", "SewnBook$Fault"), ("java/util/NoSuchElementException", "java/util/NoSuchElementException"), ("java/lang/IllegalArgumentException", "java/lang/IllegalArgumentException")]
def nestX : List (Nat × String × String × String) := [(130, "SewnBook$Part", "fold", "I"), (133, "SewnBook$Part", "station", "I"), (136, "SewnBook$Part", "kind", "I"), (138, "SewnBook$Part", "isNeeded", "Z"), (178, "SewnBook$Plan", "to", "I"), (185, "SewnBook$Plan", "length", "I"), (190, "SewnBook$Plan", "moves", "Ljava/util/ArrayList;"), (199, "SewnBook$Plan", "places", "Ljava/util/ArrayList;"), (211, "SewnBook$Fault", "kind", "I"), (209, "SewnBook$Fault", "place", "I")]
def declX : List MethodName := [⟨"java/lang/RuntimeException", "<init>", "()V"⟩, ⟨"java/lang/Exception", "<init>", "()V"⟩, ⟨"java/lang/Throwable", "<init>", "()V"⟩, ⟨"java/lang/Object", "getClass", "()Ljava/lang/Class;"⟩]
def noX : List (String × String) := [("java/lang/IllegalArgumentException", "java/util/NoSuchElementException")]
/-- the tables' facts that a method carries -/
def GW (U : State) : Prop := (∀ q ∈ castX, va_Nw (.castable q.1 q.2) U) ∧ (∀ q ∈ nestX, va_Nw (.fieldLinkNest RX1 q.1 q.2.1 q.2.2.1 q.2.2.2 RX1) U) ∧ (∀ q ∈ declX, va_Nw (.declares q) U) ∧ va_AO "java/lang/Object" U ∧ ∀ q ∈ noX, va_Nc q.1 q.2 U
theorem GW.warm {s U : State} (hW : s.WarmedH U.vm) (h : GW s) : GW U :=
  ⟨fun q hq => va_Nw.warmC hW (h.1 q hq), fun q hq => va_Nw.warmF hW (h.2.1 q hq), fun q hq => va_Nw.warmD hW (h.2.2.1 q hq), va_AO.moved hW.alike h.2.2.2.1, fun q hq => va_Nc.moved hW.alike (h.2.2.2.2 q hq)⟩
/-- the constants' facts that a method carries: the boxes' cache, the text of signs, statics -/
def GC (D : va_G) (A : Nat → Prop) (U : State) (H : Heap) : Prop :=
  vb_C (D.2 1000) A U H ∧ va_T (.object "java/lang/Integer") (D.2 1001 0) 256 (fun j => .ref (D.2 1000 j)) A U H ∧
  va_Z "java/lang/Integer$IntegerCache" "cache" "[Ljava/lang/Integer;" (.ref (D.2 1001 0)) A U H ∧ va_Z "java/lang/Integer$IntegerCache" "high" "I" (.int 127) A U H ∧
  vk_S 1 [8] [[110, 117, 100, 85, 68, 111, 43, 45]] (fun _ => D.2 1001 1) (fun _ => D.2 1001 2) A U H ∧ va_Z "java/lang/String" "COMPACT_STRINGS" "Z" (.int 1) A U H ∧
  vx_Zq Bundle.tN "UNASSIGNED_STACK" Bundle.steD A U H ∧ vx_Zq Bundle.tN "SUPPRESSED_SENTINEL" Bundle.listD A U H ∧ va_Zq "jdk/internal/util/Preconditions" "SIOOBE_FORMATTER" "Ljava/util/function/BiFunction;" A U H
theorem GC.moved {D : va_G} {A : Nat → Prop} {u U : State} {H : Heap} (hvm : u.vm.Alike U.vm) (h : GC D A u H) : GC D A U H := by
  obtain ⟨h1, h2, h3, h4, h5, h6, h7, h8, h9⟩ := h
  exact ⟨vb_C.moved hvm h1, va_T.moved hvm h2, va_Z.moved hvm h3, va_Z.moved hvm h4, vk_S.moved hvm h5, va_Z.moved hvm h6, vx_Zq.moved hvm h7, vx_Zq.moved hvm h8, va_Zq.moved hvm h9⟩
theorem GC.kept {D : va_G} {A : Nat → Prop} {U : State} {H H1 : Heap} (h : GC D A U H) (hq : ∀ a : Nat, a < H.size → ¬ A a → H1[a]? = H[a]?) : GC D A U H1 := by
  obtain ⟨h1, h2, h3, h4, h5, h6, h7, h8, h9⟩ := h
  exact ⟨h1.kept hq, h2.kept hq, h3.kept hq, h4.kept hq, h5.kept hq, h6.kept hq, h7.kept hq, h8.kept hq, h9.kept hq⟩
theorem GC.narrow {D : va_G} {A B : Nat → Prop} {U : State} {H : Heap} (h : GC D A U H) (hAB : ∀ q, B q → A q) : GC D B U H := by
  obtain ⟨h1, h2, h3, h4, h5, h6, h7, h8, h9⟩ := h
  exact ⟨h1.narrow hAB, h2.narrow hAB, h3.narrow hAB, h4.narrow hAB, h5.narrow hAB, h6.narrow hAB, h7.narrow hAB, h8.narrow hAB, h9.narrow hAB⟩
/-- the strings' links -/
def GR (D : va_G) (U : State) : Prop := vk_R RX1 166 "nudUDo+-" (D.2 1001 1) U ∧ vk_R RX3 9 "nudUDo+-" (D.2 1001 1) U ∧ va_Mi "[Ljava/lang/Object;" (D.2 1001 3) U
theorem GR.warm {D : va_G} {s U : State} (hW : s.WarmedH U.vm) (h : GR D s) : GR D U := ⟨h.1.warm hW, h.2.1.warm hW, va_Mi.moved hW.alike h.2.2⟩
def GX (D : va_G) (A : Nat → Prop) (U : State) (H : Heap) : Prop := GW U ∧ GR D U ∧ GC D A U H
/-- what a method's walk knows all along -/
def CX (p : Program) (l : Launch) (s : State) (m : MethodId) (args : Array Value) (meth : Method) (c : Code) (own : String) (cc : ByteArray) (nL : Nat) (ret : Option FieldType) (D : va_G) (A : Nat → Prop) : Prop :=
  p.tables.exec = Jvm.exec ∧ c.code = cc ∧ c.maxLocals = nL ∧ s.vm.findClass own = some m.cls ∧ (∀ w ∈ lw_all, w.before args s = true) ∧ va_K D clX (tysX D) s ∧ GX D A s s.heap ∧ (∀ q : Nat, s.heap.size ≤ q → A q) ∧ l.stackTraces = false ∧ meth.sig.returnType = ret ∧ meth.locks = false
section CXS
variable {p : Program} {l : Launch} {s : State} {m : MethodId} {args : Array Value} {meth : Method} {c : Code} {own : String} {cc : ByteArray} {nL : Nat} {ret : Option FieldType} {D : va_G} {A : Nat → Prop}
theorem CX.hx (C : CX p l s m args meth c own cc nL ret D A) : p.tables.exec = Jvm.exec := C.1
theorem CX.hb (C : CX p l s m args meth c own cc nL ret D A) : c.code = cc := C.2.1
theorem CX.hml (C : CX p l s m args meth c own cc nL ret D A) : c.maxLocals = nL := C.2.2.1
theorem CX.hown (C : CX p l s m args meth c own cc nL ret D A) : s.vm.findClass own = some m.cls := C.2.2.2.1
theorem CX.hts (C : CX p l s m args meth c own cc nL ret D A) : ∀ w ∈ lw_all, w.before args s = true := C.2.2.2.2.1
theorem CX.hK (C : CX p l s m args meth c own cc nL ret D A) : va_K D clX (tysX D) s := C.2.2.2.2.2.1
theorem CX.hG (C : CX p l s m args meth c own cc nL ret D A) : GX D A s s.heap := C.2.2.2.2.2.2.1
theorem CX.hA (C : CX p l s m args meth c own cc nL ret D A) : ∀ q : Nat, s.heap.size ≤ q → A q := C.2.2.2.2.2.2.2.1
theorem CX.hl (C : CX p l s m args meth c own cc nL ret D A) : l.stackTraces = false := C.2.2.2.2.2.2.2.2.1
theorem CX.hr (C : CX p l s m args meth c own cc nL ret D A) : meth.sig.returnType = ret := C.2.2.2.2.2.2.2.2.2.1
theorem CX.hlk (C : CX p l s m args meth c own cc nL ret D A) : meth.locks = false := C.2.2.2.2.2.2.2.2.2.2
end CXS
/-- the walk stands at pc with the world ws, the locals lv, the stack st -/
def GO (p : Program) (l : Launch) (e : Env) (R : Room) (s : State) (m : MethodId) (args : Array Value) (below : List Frame) (meth : Method) (c : Code) (nL : Nat) (D : va_G) (A B : Nat → Prop) (cells slots : Nat) (Q : State → Prop) (ws : va_W) (pc : Nat) (lv : List (Nat × Value)) (st : List Value) : Prop :=
  ∀ (H : Heap) (locs : List Loc) (ls : Array Slot), va_P D clX ws H → va_D B ws → va_S A s.heap H locs → lv_has ls nL lv → W p l e R s m args below meth c H locs cells slots Q (F0 m pc ls st)
theorem arrV_cg (cI : ClassId) (N : Nat) {f g : Nat → Value} (h : ∀ j, j < N → f j = g j) : arrV cI N f = arrV cI N g := by
  unfold arrV
  congr 1
  congr 1
  funext j
  exact h j.val j.isLt
theorem va_D.set' {A : Nat → Prop} {ws : va_W} {q0 a : Nat} {e0 e : va_E} (hD : va_D A ws) (h : ws[q0]? = some (a, e0)) : va_D A (ws.set q0 (a, e)) := hD.set h
section GOS
variable {p : Program} {l : Launch} {e : Env} {R : Room} {s : State} {m : MethodId} {args : Array Value} {below : List Frame} {meth : Method} {c : Code} {own : String} {cc : ByteArray} {nL : Nat} {ret : Option FieldType} {D : va_G} {A B : Nat → Prop} {cells slots : Nat} {Q : State → Prop} {ws : va_W} {pc : Nat} {lv : List (Nat × Value)} {st : List Value}
theorem g_iconst (C : CX p l s m args meth c own cc nL ret D A) {n : Int} (d : decode cc pc = .ok (.iconst n, 1)) (K : GO p l e R s m args below meth c nL D A B cells slots Q (ws) (pc + 1) (lv) (.int (iI n) :: st)) : GO p l e R s m args below meth c nL D A B cells slots Q (ws) (pc) (lv) (st) := by
  intro H locs ls hP hD hS hl
  exact lv_iconst C.hx C.hb d rfl (K H locs ls hP hD hS hl)
theorem g_bipush (C : CX p l s m args meth c own cc nL ret D A) {n : Int} (d : decode cc pc = .ok (.bipush n, 2)) {z : Int} (hz : (Int8.ofInt n).toInt32 = iI z) (K : GO p l e R s m args below meth c nL D A B cells slots Q (ws) (pc + 2) (lv) (.int (iI z) :: st)) : GO p l e R s m args below meth c nL D A B cells slots Q (ws) (pc) (lv) (st) := by
  intro H locs ls hP hD hS hl
  exact lv_bipush C.hx C.hb d hz (K H locs ls hP hD hS hl)
theorem g_sipush (C : CX p l s m args meth c own cc nL ret D A) {n : Int} (d : decode cc pc = .ok (.sipush n, 3)) {z : Int} (hz : (Int16.ofInt n).toInt32 = iI z) (K : GO p l e R s m args below meth c nL D A B cells slots Q (ws) (pc + 3) (lv) (.int (iI z) :: st)) : GO p l e R s m args below meth c nL D A B cells slots Q (ws) (pc) (lv) (st) := by
  intro H locs ls hP hD hS hl
  exact lv_sipush C.hx C.hb d hz (K H locs ls hP hD hS hl)
theorem g_ldc (C : CX p l s m args meth c own cc nL ret D A) {i : Nat} {v : Int32} (hw : Cond.constant own i v ∈ lw_all) (d : decode cc pc = .ok (.ldc i, 2)) {z : Int} (hz : v = iI z) (K : GO p l e R s m args below meth c nL D A B cells slots Q (ws) (pc + 2) (lv) (.int (iI z) :: st)) : GO p l e R s m args below meth c nL D A B cells slots Q (ws) (pc) (lv) (st) := by
  intro H locs ls hP hD hS hl
  subst hz
  exact lv_ldc C.hx C.hb C.hown (C.hts _ hw) d (K H locs ls hP hD hS hl)
theorem g_null (C : CX p l s m args meth c own cc nL ret D A) (d : decode cc pc = .ok (.aconst_null, 1)) (K : GO p l e R s m args below meth c nL D A B cells slots Q (ws) (pc + 1) (lv) (.null :: st)) : GO p l e R s m args below meth c nL D A B cells slots Q (ws) (pc) (lv) (st) := by
  intro H locs ls hP hD hS hl
  exact lv_null C.hx C.hb d (K H locs ls hP hD hS hl)
theorem g_lconst (C : CX p l s m args meth c own cc nL ret D A) {n : Fin 2} (d : decode cc pc = .ok (.lconst n, 1)) {v : Int64} (hv : Int64.ofNat (n : Nat) = v) (K : GO p l e R s m args below meth c nL D A B cells slots Q (ws) (pc + 1) (lv) (.long v :: st)) : GO p l e R s m args below meth c nL D A B cells slots Q (ws) (pc) (lv) (st) := by
  intro H locs ls hP hD hS hl
  exact lv_lconst C.hx C.hb d hv (K H locs ls hP hD hS hl)
theorem g_iload_n (C : CX p l s m args meth c own cc nL ret D A) {k : Fin 4} {i : Nat} {x : Int32} (d : decode cc pc = .ok (.iload_n k, 1)) (hi : (k : Nat) = i) (j : Nat) (hj : lv[j]? = some (i, .int x)) (K : GO p l e R s m args below meth c nL D A B cells slots Q (ws) (pc + 1) (lv) (.int x :: st)) : GO p l e R s m args below meth c nL D A B cells slots Q (ws) (pc) (lv) (st) := by
  intro H locs ls hP hD hS hl
  exact lv_iload_n C.hx C.hb d hi (lv_at hl j hj) (K H locs ls hP hD hS hl)
theorem g_iload (C : CX p l s m args meth c own cc nL ret D A) {i : Nat} {x : Int32} (d : decode cc pc = .ok (.iload i, 2)) (j : Nat) (hj : lv[j]? = some (i, .int x)) (K : GO p l e R s m args below meth c nL D A B cells slots Q (ws) (pc + 2) (lv) (.int x :: st)) : GO p l e R s m args below meth c nL D A B cells slots Q (ws) (pc) (lv) (st) := by
  intro H locs ls hP hD hS hl
  exact lv_iload C.hx C.hb d (lv_at hl j hj) (K H locs ls hP hD hS hl)
theorem g_aload_n (C : CX p l s m args meth c own cc nL ret D A) {k : Fin 4} {i : Nat} {x : Nat} (d : decode cc pc = .ok (.aload_n k, 1)) (hi : (k : Nat) = i) (j : Nat) (hj : lv[j]? = some (i, .ref x)) (K : GO p l e R s m args below meth c nL D A B cells slots Q (ws) (pc + 1) (lv) (.ref x :: st)) : GO p l e R s m args below meth c nL D A B cells slots Q (ws) (pc) (lv) (st) := by
  intro H locs ls hP hD hS hl
  exact lv_aload_n C.hx C.hb d hi (lv_at hl j hj) (K H locs ls hP hD hS hl)
theorem g_aload (C : CX p l s m args meth c own cc nL ret D A) {i : Nat} {x : Nat} (d : decode cc pc = .ok (.aload i, 2)) (j : Nat) (hj : lv[j]? = some (i, .ref x)) (K : GO p l e R s m args below meth c nL D A B cells slots Q (ws) (pc + 2) (lv) (.ref x :: st)) : GO p l e R s m args below meth c nL D A B cells slots Q (ws) (pc) (lv) (st) := by
  intro H locs ls hP hD hS hl
  exact lv_aload C.hx C.hb d (lv_at hl j hj) (K H locs ls hP hD hS hl)
theorem g_lload_n (C : CX p l s m args meth c own cc nL ret D A) {k : Fin 4} {i : Nat} {x : Int64} (d : decode cc pc = .ok (.lload_n k, 1)) (hi : (k : Nat) = i) (j : Nat) (hj : lv[j]? = some (i, .long x)) (K : GO p l e R s m args below meth c nL D A B cells slots Q (ws) (pc + 1) (lv) (.long x :: st)) : GO p l e R s m args below meth c nL D A B cells slots Q (ws) (pc) (lv) (st) := by
  intro H locs ls hP hD hS hl
  exact lv_lload_n C.hx C.hb d hi (lv_at hl j hj) (K H locs ls hP hD hS hl)
theorem g_lload (C : CX p l s m args meth c own cc nL ret D A) {i : Nat} {x : Int64} (d : decode cc pc = .ok (.lload i, 2)) (j : Nat) (hj : lv[j]? = some (i, .long x)) (K : GO p l e R s m args below meth c nL D A B cells slots Q (ws) (pc + 2) (lv) (.long x :: st)) : GO p l e R s m args below meth c nL D A B cells slots Q (ws) (pc) (lv) (st) := by
  intro H locs ls hP hD hS hl
  exact lv_lload C.hx C.hb d (lv_at hl j hj) (K H locs ls hP hD hS hl)
theorem g_aload_nN (C : CX p l s m args meth c own cc nL ret D A) {k : Fin 4} {i : Nat} (d : decode cc pc = .ok (.aload_n k, 1)) (hi : (k : Nat) = i) (j : Nat) (hj : lv[j]? = some (i, .null)) (K : GO p l e R s m args below meth c nL D A B cells slots Q (ws) (pc + 1) (lv) (.null :: st)) : GO p l e R s m args below meth c nL D A B cells slots Q (ws) (pc) (lv) (st) := by
  intro H locs ls hP hD hS hl
  exact lv_aload_nN C.hx C.hb d hi (lv_at hl j hj) (K H locs ls hP hD hS hl)
theorem g_istore_n (C : CX p l s m args meth c own cc nL ret D A) {k : Fin 4} {i : Nat} {x : Int32} (d : decode cc pc = .ok (.istore_n k, 1)) (hi : (k : Nat) = i) {lv' : List (Nat × Value)} (ks : List Nat) (hk : lv_pick ((i, Value.int x) :: (lv.filter (fun q => !(q.1 == i) && !(q.1 + 1 == i && q.2.category == 2)))) ks = lv') (hn : i < nL) (K : GO p l e R s m args below meth c nL D A B cells slots Q (ws) (pc + 1) (lv') (st)) : GO p l e R s m args below meth c nL D A B cells slots Q (ws) (pc) (lv) (.int x :: st) := by
  intro H locs ls hP hD hS hl
  exact lv_istore_n C.hx C.hb d hi hl hn rfl (fun ls' hl' => K H locs ls' hP hD hS (lv_sub hl' ks hk))
theorem g_istore (C : CX p l s m args meth c own cc nL ret D A) {i : Nat} {x : Int32} (d : decode cc pc = .ok (.istore i, 2)) {lv' : List (Nat × Value)} (ks : List Nat) (hk : lv_pick ((i, Value.int x) :: (lv.filter (fun q => !(q.1 == i) && !(q.1 + 1 == i && q.2.category == 2)))) ks = lv') (hn : i < nL) (K : GO p l e R s m args below meth c nL D A B cells slots Q (ws) (pc + 2) (lv') (st)) : GO p l e R s m args below meth c nL D A B cells slots Q (ws) (pc) (lv) (.int x :: st) := by
  intro H locs ls hP hD hS hl
  exact lv_istore C.hx C.hb d hl hn rfl (fun ls' hl' => K H locs ls' hP hD hS (lv_sub hl' ks hk))
theorem g_astore_n (C : CX p l s m args meth c own cc nL ret D A) {k : Fin 4} {i : Nat} {x : Nat} (d : decode cc pc = .ok (.astore_n k, 1)) (hi : (k : Nat) = i) {lv' : List (Nat × Value)} (ks : List Nat) (hk : lv_pick ((i, Value.ref x) :: (lv.filter (fun q => !(q.1 == i) && !(q.1 + 1 == i && q.2.category == 2)))) ks = lv') (hn : i < nL) (K : GO p l e R s m args below meth c nL D A B cells slots Q (ws) (pc + 1) (lv') (st)) : GO p l e R s m args below meth c nL D A B cells slots Q (ws) (pc) (lv) (.ref x :: st) := by
  intro H locs ls hP hD hS hl
  exact lv_astore_n C.hx C.hb d hi hl hn rfl (fun ls' hl' => K H locs ls' hP hD hS (lv_sub hl' ks hk))
theorem g_astore (C : CX p l s m args meth c own cc nL ret D A) {i : Nat} {x : Nat} (d : decode cc pc = .ok (.astore i, 2)) {lv' : List (Nat × Value)} (ks : List Nat) (hk : lv_pick ((i, Value.ref x) :: (lv.filter (fun q => !(q.1 == i) && !(q.1 + 1 == i && q.2.category == 2)))) ks = lv') (hn : i < nL) (K : GO p l e R s m args below meth c nL D A B cells slots Q (ws) (pc + 2) (lv') (st)) : GO p l e R s m args below meth c nL D A B cells slots Q (ws) (pc) (lv) (.ref x :: st) := by
  intro H locs ls hP hD hS hl
  exact lv_astore C.hx C.hb d hl hn rfl (fun ls' hl' => K H locs ls' hP hD hS (lv_sub hl' ks hk))
theorem g_lstore_n (C : CX p l s m args meth c own cc nL ret D A) {k : Fin 4} {i : Nat} {x : Int64} (d : decode cc pc = .ok (.lstore_n k, 1)) (hi : (k : Nat) = i) {lv' : List (Nat × Value)} (ks : List Nat) (hk : lv_pick ((i, Value.long x) :: (lv.filter (fun q => !(q.1 == i) && (!(q.1 == i + 1) && !(q.1 + 1 == i && q.2.category == 2))))) ks = lv') (hn : i + 1 < nL) (K : GO p l e R s m args below meth c nL D A B cells slots Q (ws) (pc + 1) (lv') (st)) : GO p l e R s m args below meth c nL D A B cells slots Q (ws) (pc) (lv) (.long x :: st) := by
  intro H locs ls hP hD hS hl
  exact lv_lstore_n C.hx C.hb d hi hl hn rfl (fun ls' hl' => K H locs ls' hP hD hS (lv_sub hl' ks hk))
theorem g_lstore (C : CX p l s m args meth c own cc nL ret D A) {i : Nat} {x : Int64} (d : decode cc pc = .ok (.lstore i, 2)) {lv' : List (Nat × Value)} (ks : List Nat) (hk : lv_pick ((i, Value.long x) :: (lv.filter (fun q => !(q.1 == i) && (!(q.1 == i + 1) && !(q.1 + 1 == i && q.2.category == 2))))) ks = lv') (hn : i + 1 < nL) (K : GO p l e R s m args below meth c nL D A B cells slots Q (ws) (pc + 2) (lv') (st)) : GO p l e R s m args below meth c nL D A B cells slots Q (ws) (pc) (lv) (.long x :: st) := by
  intro H locs ls hP hD hS hl
  exact lv_lstore C.hx C.hb d hl hn rfl (fun ls' hl' => K H locs ls' hP hD hS (lv_sub hl' ks hk))
theorem g_iinc (C : CX p l s m args meth c own cc nL ret D A) {i : Nat} {n : Int} {z : Int} (d : decode cc pc = .ok (.iinc i n, 3)) (j : Nat) (hj : lv[j]? = some (i, .int (iI z))) {lv' : List (Nat × Value)} (ks : List Nat) (hk : lv_pick ((i, Value.int (iI (z + n))) :: (lv.filter (fun q => !(q.1 == i) && !(q.1 + 1 == i && q.2.category == 2)))) ks = lv') (hn : i < nL) (K : GO p l e R s m args below meth c nL D A B cells slots Q (ws) (pc + 3) (lv') (st)) : GO p l e R s m args below meth c nL D A B cells slots Q (ws) (pc) (lv) (st) := by
  intro H locs ls hP hD hS hl
  exact lv_iinc C.hx C.hb d hl hj (show iI z + Int32.ofInt n = iI (z + n) from iI_add z n) hn rfl (fun ls' hl' => K H locs ls' hP hD hS (lv_sub hl' ks hk))
theorem g_iadd (C : CX p l s m args meth c own cc nL ret D A) {a b : Int} (d : decode cc pc = .ok (.iadd, 1)) (K : GO p l e R s m args below meth c nL D A B cells slots Q (ws) (pc + 1) (lv) (.int (iI (a + b)) :: st)) : GO p l e R s m args below meth c nL D A B cells slots Q (ws) (pc) (lv) (.int (iI b) :: .int (iI a) :: st) := by
  intro H locs ls hP hD hS hl
  exact lv_iadd C.hx C.hb d (by rw [iI_add]; exact K H locs ls hP hD hS hl)
theorem g_isub (C : CX p l s m args meth c own cc nL ret D A) {a b : Int} (d : decode cc pc = .ok (.isub, 1)) (K : GO p l e R s m args below meth c nL D A B cells slots Q (ws) (pc + 1) (lv) (.int (iI (a - b)) :: st)) : GO p l e R s m args below meth c nL D A B cells slots Q (ws) (pc) (lv) (.int (iI b) :: .int (iI a) :: st) := by
  intro H locs ls hP hD hS hl
  exact lv_isub C.hx C.hb d (by rw [iI_sub]; exact K H locs ls hP hD hS hl)
theorem g_imul (C : CX p l s m args meth c own cc nL ret D A) {a b : Int} (d : decode cc pc = .ok (.imul, 1)) (K : GO p l e R s m args below meth c nL D A B cells slots Q (ws) (pc + 1) (lv) (.int (iI (a * b)) :: st)) : GO p l e R s m args below meth c nL D A B cells slots Q (ws) (pc) (lv) (.int (iI b) :: .int (iI a) :: st) := by
  intro H locs ls hP hD hS hl
  exact lv_imul C.hx C.hb d (by rw [iI_mul]; exact K H locs ls hP hD hS hl)
theorem g_ineg (C : CX p l s m args meth c own cc nL ret D A) {a : Int} (d : decode cc pc = .ok (.ineg, 1)) (K : GO p l e R s m args below meth c nL D A B cells slots Q (ws) (pc + 1) (lv) (.int (iI (-a)) :: st)) : GO p l e R s m args below meth c nL D A B cells slots Q (ws) (pc) (lv) (.int (iI a) :: st) := by
  intro H locs ls hP hD hS hl
  exact lv_ineg C.hx C.hb d (by rw [iI_neg]; exact K H locs ls hP hD hS hl)
theorem g_idiv (C : CX p l s m args meth c own cc nL ret D A) {a b : Int} (d : decode cc pc = .ok (.idiv, 1)) (h0 : 0 ≤ a ∧ a < 2147483648) (h1 : 0 < b ∧ b < 2147483648) (K : GO p l e R s m args below meth c nL D A B cells slots Q (ws) (pc + 1) (lv) (.int (iI (a / b)) :: st)) : GO p l e R s m args below meth c nL D A B cells slots Q (ws) (pc) (lv) (.int (iI b) :: .int (iI a) :: st) := by
  intro H locs ls hP hD hS hl
  exact lv_idiv C.hx C.hb d (by intro e; rw [← iI_0, iI_eq ⟨by omega, by omega⟩ ⟨by omega, by omega⟩] at e; omega) (by rw [iI_div h0.1 h0.2 h1.1 h1.2]; exact K H locs ls hP hD hS hl)
theorem g_irem (C : CX p l s m args meth c own cc nL ret D A) {a b : Int} (d : decode cc pc = .ok (.irem, 1)) (h0 : 0 ≤ a ∧ a < 2147483648) (h1 : 0 < b ∧ b < 2147483648) (K : GO p l e R s m args below meth c nL D A B cells slots Q (ws) (pc + 1) (lv) (.int (iI (a % b)) :: st)) : GO p l e R s m args below meth c nL D A B cells slots Q (ws) (pc) (lv) (.int (iI b) :: .int (iI a) :: st) := by
  intro H locs ls hP hD hS hl
  exact lv_irem C.hx C.hb d (by intro e; rw [← iI_0, iI_eq ⟨by omega, by omega⟩ ⟨by omega, by omega⟩] at e; omega) (by rw [iI_rem h0.1 h0.2 h1.1 h1.2]; exact K H locs ls hP hD hS hl)
theorem g_iand (C : CX p l s m args meth c own cc nL ret D A) {a b z : Int} (d : decode cc pc = .ok (.iand, 1)) (hz : iI a &&& iI b = iI z) (K : GO p l e R s m args below meth c nL D A B cells slots Q (ws) (pc + 1) (lv) (.int (iI z) :: st)) : GO p l e R s m args below meth c nL D A B cells slots Q (ws) (pc) (lv) (.int (iI b) :: .int (iI a) :: st) := by
  intro H locs ls hP hD hS hl
  exact lv_iand C.hx C.hb d (by rw [hz]; exact K H locs ls hP hD hS hl)
theorem g_ior (C : CX p l s m args meth c own cc nL ret D A) {a b z : Int} (d : decode cc pc = .ok (.ior, 1)) (hz : iI a ||| iI b = iI z) (K : GO p l e R s m args below meth c nL D A B cells slots Q (ws) (pc + 1) (lv) (.int (iI z) :: st)) : GO p l e R s m args below meth c nL D A B cells slots Q (ws) (pc) (lv) (.int (iI b) :: .int (iI a) :: st) := by
  intro H locs ls hP hD hS hl
  exact lv_ior C.hx C.hb d (by rw [hz]; exact K H locs ls hP hD hS hl)
theorem g_ixor (C : CX p l s m args meth c own cc nL ret D A) {a b z : Int} (d : decode cc pc = .ok (.ixor, 1)) (hz : iI a ^^^ iI b = iI z) (K : GO p l e R s m args below meth c nL D A B cells slots Q (ws) (pc + 1) (lv) (.int (iI z) :: st)) : GO p l e R s m args below meth c nL D A B cells slots Q (ws) (pc) (lv) (.int (iI b) :: .int (iI a) :: st) := by
  intro H locs ls hP hD hS hl
  exact lv_ixor C.hx C.hb d (by rw [hz]; exact K H locs ls hP hD hS hl)
theorem g_ishl (C : CX p l s m args meth c own cc nL ret D A) {a b z : Int} (d : decode cc pc = .ok (.ishl, 1)) (hz : iI a <<< (iI b &&& 31) = iI z) (K : GO p l e R s m args below meth c nL D A B cells slots Q (ws) (pc + 1) (lv) (.int (iI z) :: st)) : GO p l e R s m args below meth c nL D A B cells slots Q (ws) (pc) (lv) (.int (iI b) :: .int (iI a) :: st) := by
  intro H locs ls hP hD hS hl
  exact lv_ishl C.hx C.hb d (by rw [hz]; exact K H locs ls hP hD hS hl)
theorem g_ishr (C : CX p l s m args meth c own cc nL ret D A) {a b z : Int} (d : decode cc pc = .ok (.ishr, 1)) (hz : iI a >>> (iI b &&& 31) = iI z) (K : GO p l e R s m args below meth c nL D A B cells slots Q (ws) (pc + 1) (lv) (.int (iI z) :: st)) : GO p l e R s m args below meth c nL D A B cells slots Q (ws) (pc) (lv) (.int (iI b) :: .int (iI a) :: st) := by
  intro H locs ls hP hD hS hl
  exact lv_ishr C.hx C.hb d (by rw [hz]; exact K H locs ls hP hD hS hl)
theorem g_i2b (C : CX p l s m args meth c own cc nL ret D A) {a z : Int} (d : decode cc pc = .ok (.i2b, 1)) (hz : (iI a).toInt8.toInt32 = iI z) (K : GO p l e R s m args below meth c nL D A B cells slots Q (ws) (pc + 1) (lv) (.int (iI z) :: st)) : GO p l e R s m args below meth c nL D A B cells slots Q (ws) (pc) (lv) (.int (iI a) :: st) := by
  intro H locs ls hP hD hS hl
  exact lv_i2b C.hx C.hb d hz (K H locs ls hP hD hS hl)
theorem g_i2l (C : CX p l s m args meth c own cc nL ret D A) {a : Int} {v : Int64} (d : decode cc pc = .ok (.i2l, 1)) (hv : (iI a).toInt64 = v) (K : GO p l e R s m args below meth c nL D A B cells slots Q (ws) (pc + 1) (lv) (.long v :: st)) : GO p l e R s m args below meth c nL D A B cells slots Q (ws) (pc) (lv) (.int (iI a) :: st) := by
  intro H locs ls hP hD hS hl
  exact lv_i2l C.hx C.hb d hv (K H locs ls hP hD hS hl)
theorem g_ladd (C : CX p l s m args meth c own cc nL ret D A) {x y v : Int64} (d : decode cc pc = .ok (.ladd, 1)) (hv : x + y = v) (K : GO p l e R s m args below meth c nL D A B cells slots Q (ws) (pc + 1) (lv) (.long v :: st)) : GO p l e R s m args below meth c nL D A B cells slots Q (ws) (pc) (lv) (.long y :: .long x :: st) := by
  intro H locs ls hP hD hS hl
  subst hv
  exact lv_ladd C.hx C.hb d (K H locs ls hP hD hS hl)
theorem g_land (C : CX p l s m args meth c own cc nL ret D A) {x y v : Int64} (d : decode cc pc = .ok (.land, 1)) (hv : x &&& y = v) (K : GO p l e R s m args below meth c nL D A B cells slots Q (ws) (pc + 1) (lv) (.long v :: st)) : GO p l e R s m args below meth c nL D A B cells slots Q (ws) (pc) (lv) (.long y :: .long x :: st) := by
  intro H locs ls hP hD hS hl
  subst hv
  exact lv_land C.hx C.hb d (K H locs ls hP hD hS hl)
theorem g_lor (C : CX p l s m args meth c own cc nL ret D A) {x y v : Int64} (d : decode cc pc = .ok (.lor, 1)) (hv : x ||| y = v) (K : GO p l e R s m args below meth c nL D A B cells slots Q (ws) (pc + 1) (lv) (.long v :: st)) : GO p l e R s m args below meth c nL D A B cells slots Q (ws) (pc) (lv) (.long y :: .long x :: st) := by
  intro H locs ls hP hD hS hl
  subst hv
  exact lv_lor C.hx C.hb d (K H locs ls hP hD hS hl)
theorem g_lshl (C : CX p l s m args meth c own cc nL ret D A) {x v : Int64} {b : Int} (d : decode cc pc = .ok (.lshl, 1)) (hv : x <<< ((iI b).toInt64 &&& 63) = v) (K : GO p l e R s m args below meth c nL D A B cells slots Q (ws) (pc + 1) (lv) (.long v :: st)) : GO p l e R s m args below meth c nL D A B cells slots Q (ws) (pc) (lv) (.int (iI b) :: .long x :: st) := by
  intro H locs ls hP hD hS hl
  exact lv_lshl C.hx C.hb d hv (K H locs ls hP hD hS hl)
theorem g_lshr (C : CX p l s m args meth c own cc nL ret D A) {x v : Int64} {b : Int} (d : decode cc pc = .ok (.lshr, 1)) (hv : x >>> ((iI b).toInt64 &&& 63) = v) (K : GO p l e R s m args below meth c nL D A B cells slots Q (ws) (pc + 1) (lv) (.long v :: st)) : GO p l e R s m args below meth c nL D A B cells slots Q (ws) (pc) (lv) (.int (iI b) :: .long x :: st) := by
  intro H locs ls hP hD hS hl
  exact lv_lshr C.hx C.hb d hv (K H locs ls hP hD hS hl)
theorem g_lcmp (C : CX p l s m args meth c own cc nL ret D A) {x y : Int64} {z : Int} (d : decode cc pc = .ok (.lcmp, 1)) (hz : lg_cmp x y = iI z) (K : GO p l e R s m args below meth c nL D A B cells slots Q (ws) (pc + 1) (lv) (.int (iI z) :: st)) : GO p l e R s m args below meth c nL D A B cells slots Q (ws) (pc) (lv) (.long y :: .long x :: st) := by
  intro H locs ls hP hD hS hl
  exact W.lcmp C.hx C.hb d (by rw [hz]; exact K H locs ls hP hD hS hl)
theorem g_pop (C : CX p l s m args meth c own cc nL ret D A) {va : Value} (d : decode cc pc = .ok (.pop, 1)) (hva : va.category = 1) (K : GO p l e R s m args below meth c nL D A B cells slots Q (ws) (pc + 1) (lv) (st)) : GO p l e R s m args below meth c nL D A B cells slots Q (ws) (pc) (lv) (va :: st) := by
  intro H locs ls hP hD hS hl
  exact lv_pop C.hx C.hb d hva (K H locs ls hP hD hS hl)
theorem g_dup (C : CX p l s m args meth c own cc nL ret D A) {va : Value} (d : decode cc pc = .ok (.dup, 1)) (hva : va.category = 1) (K : GO p l e R s m args below meth c nL D A B cells slots Q (ws) (pc + 1) (lv) (va :: va :: st)) : GO p l e R s m args below meth c nL D A B cells slots Q (ws) (pc) (lv) (va :: st) := by
  intro H locs ls hP hD hS hl
  exact lv_dup C.hx C.hb d hva (K H locs ls hP hD hS hl)
theorem g_dup_x1 (C : CX p l s m args meth c own cc nL ret D A) {va vb : Value} (d : decode cc pc = .ok (.dup_x1, 1)) (hva : va.category = 1) (hvb : vb.category = 1) (K : GO p l e R s m args below meth c nL D A B cells slots Q (ws) (pc + 1) (lv) (va :: vb :: va :: st)) : GO p l e R s m args below meth c nL D A B cells slots Q (ws) (pc) (lv) (va :: vb :: st) := by
  intro H locs ls hP hD hS hl
  exact lv_dup_x1 C.hx C.hb d hva hvb (K H locs ls hP hD hS hl)
theorem g_dup2 (C : CX p l s m args meth c own cc nL ret D A) {va vb : Value} (d : decode cc pc = .ok (.dup2, 1)) (hva : va.category = 1) (hvb : vb.category = 1) (K : GO p l e R s m args below meth c nL D A B cells slots Q (ws) (pc + 1) (lv) (va :: vb :: va :: vb :: st)) : GO p l e R s m args below meth c nL D A B cells slots Q (ws) (pc) (lv) (va :: vb :: st) := by
  intro H locs ls hP hD hS hl
  exact lv_dup2_11 C.hx C.hb d hva hvb (K H locs ls hP hD hS hl)
theorem g_dup2l (C : CX p l s m args meth c own cc nL ret D A) {va : Value} (d : decode cc pc = .ok (.dup2, 1)) (hva : va.category = 2) (K : GO p l e R s m args below meth c nL D A B cells slots Q (ws) (pc + 1) (lv) (va :: va :: st)) : GO p l e R s m args below meth c nL D A B cells slots Q (ws) (pc) (lv) (va :: st) := by
  intro H locs ls hP hD hS hl
  exact lv_dup2_2 C.hx C.hb d hva (K H locs ls hP hD hS hl)
theorem g_goto (C : CX p l s m args meth c own cc nL ret D A) {off : Int} {tgt : Nat} (d : decode cc pc = .ok (.goto off, 3)) (ht : (pc : Int) + off = (tgt : Int)) (K : GO p l e R s m args below meth c nL D A B cells slots Q (ws) (tgt) (lv) (st)) : GO p l e R s m args below meth c nL D A B cells slots Q (ws) (pc) (lv) (st) := by
  intro H locs ls hP hD hS hl
  exact lv_goto C.hx C.hb d ht (K H locs ls hP hD hS hl)
theorem g_icmp_eq (C : CX p l s m args meth c own cc nL ret D A) {a b : Int} {off : Int} {tgt : Nat} (d : decode cc pc = .ok (.if_icmp .eq off, 3)) (ht : (pc : Int) + off = (tgt : Int)) (ha : -2147483648 ≤ a ∧ a < 2147483648) (hb : -2147483648 ≤ b ∧ b < 2147483648) (kt : a = b → GO p l e R s m args below meth c nL D A B cells slots Q (ws) (tgt) (lv) (st)) (kf : a ≠ b → GO p l e R s m args below meth c nL D A B cells slots Q (ws) (pc + 3) (lv) (st)) : GO p l e R s m args below meth c nL D A B cells slots Q (ws) (pc) (lv) (.int (iI b) :: .int (iI a) :: st) := by
  intro H locs ls hP hD hS hl
  exact lv_icmp_eq C.hx C.hb d ht (fun q => kt ((iI_eq ha hb).mp q) H locs ls hP hD hS hl) (fun q => kf (fun z => q ((iI_eq ha hb).mpr z)) H locs ls hP hD hS hl)
theorem g_if_eq (C : CX p l s m args meth c own cc nL ret D A) {a : Int} {off : Int} {tgt : Nat} (d : decode cc pc = .ok (.ifCond .eq off, 3)) (ht : (pc : Int) + off = (tgt : Int)) (ha : -2147483648 ≤ a ∧ a < 2147483648) (kt : a = 0 → GO p l e R s m args below meth c nL D A B cells slots Q (ws) (tgt) (lv) (st)) (kf : a ≠ 0 → GO p l e R s m args below meth c nL D A B cells slots Q (ws) (pc + 3) (lv) (st)) : GO p l e R s m args below meth c nL D A B cells slots Q (ws) (pc) (lv) (.int (iI a) :: st) := by
  intro H locs ls hP hD hS hl
  exact lv_if_eq C.hx C.hb d ht (fun q => kt ((iI_eq ha iI_r0).mp q) H locs ls hP hD hS hl) (fun q => kf (fun z => q ((iI_eq ha iI_r0).mpr z)) H locs ls hP hD hS hl)
theorem g_icmp_ne (C : CX p l s m args meth c own cc nL ret D A) {a b : Int} {off : Int} {tgt : Nat} (d : decode cc pc = .ok (.if_icmp .ne off, 3)) (ht : (pc : Int) + off = (tgt : Int)) (ha : -2147483648 ≤ a ∧ a < 2147483648) (hb : -2147483648 ≤ b ∧ b < 2147483648) (kt : a ≠ b → GO p l e R s m args below meth c nL D A B cells slots Q (ws) (tgt) (lv) (st)) (kf : a = b → GO p l e R s m args below meth c nL D A B cells slots Q (ws) (pc + 3) (lv) (st)) : GO p l e R s m args below meth c nL D A B cells slots Q (ws) (pc) (lv) (.int (iI b) :: .int (iI a) :: st) := by
  intro H locs ls hP hD hS hl
  exact lv_icmp_ne C.hx C.hb d ht (fun q => kt (fun z => q ((iI_eq ha hb).mpr z)) H locs ls hP hD hS hl) (fun q => kf ((iI_eq ha hb).mp q) H locs ls hP hD hS hl)
theorem g_if_ne (C : CX p l s m args meth c own cc nL ret D A) {a : Int} {off : Int} {tgt : Nat} (d : decode cc pc = .ok (.ifCond .ne off, 3)) (ht : (pc : Int) + off = (tgt : Int)) (ha : -2147483648 ≤ a ∧ a < 2147483648) (kt : a ≠ 0 → GO p l e R s m args below meth c nL D A B cells slots Q (ws) (tgt) (lv) (st)) (kf : a = 0 → GO p l e R s m args below meth c nL D A B cells slots Q (ws) (pc + 3) (lv) (st)) : GO p l e R s m args below meth c nL D A B cells slots Q (ws) (pc) (lv) (.int (iI a) :: st) := by
  intro H locs ls hP hD hS hl
  exact lv_if_ne C.hx C.hb d ht (fun q => kt (fun z => q ((iI_eq ha iI_r0).mpr z)) H locs ls hP hD hS hl) (fun q => kf ((iI_eq ha iI_r0).mp q) H locs ls hP hD hS hl)
theorem g_icmp_lt (C : CX p l s m args meth c own cc nL ret D A) {a b : Int} {off : Int} {tgt : Nat} (d : decode cc pc = .ok (.if_icmp .lt off, 3)) (ht : (pc : Int) + off = (tgt : Int)) (ha : -2147483648 ≤ a ∧ a < 2147483648) (hb : -2147483648 ≤ b ∧ b < 2147483648) (kt : a < b → GO p l e R s m args below meth c nL D A B cells slots Q (ws) (tgt) (lv) (st)) (kf : b ≤ a → GO p l e R s m args below meth c nL D A B cells slots Q (ws) (pc + 3) (lv) (st)) : GO p l e R s m args below meth c nL D A B cells slots Q (ws) (pc) (lv) (.int (iI b) :: .int (iI a) :: st) := by
  intro H locs ls hP hD hS hl
  exact lv_icmp_lt C.hx C.hb d ht (fun q => kt ((iI_lt ha hb).mp q) H locs ls hP hD hS hl) (fun q => kf (Int.not_lt.mp fun z => q ((iI_lt ha hb).mpr z)) H locs ls hP hD hS hl)
theorem g_if_lt (C : CX p l s m args meth c own cc nL ret D A) {a : Int} {off : Int} {tgt : Nat} (d : decode cc pc = .ok (.ifCond .lt off, 3)) (ht : (pc : Int) + off = (tgt : Int)) (ha : -2147483648 ≤ a ∧ a < 2147483648) (kt : a < 0 → GO p l e R s m args below meth c nL D A B cells slots Q (ws) (tgt) (lv) (st)) (kf : 0 ≤ a → GO p l e R s m args below meth c nL D A B cells slots Q (ws) (pc + 3) (lv) (st)) : GO p l e R s m args below meth c nL D A B cells slots Q (ws) (pc) (lv) (.int (iI a) :: st) := by
  intro H locs ls hP hD hS hl
  exact lv_if_lt C.hx C.hb d ht (fun q => kt ((iI_lt ha iI_r0).mp q) H locs ls hP hD hS hl) (fun q => kf (Int.not_lt.mp fun z => q ((iI_lt ha iI_r0).mpr z)) H locs ls hP hD hS hl)
theorem g_icmp_ge (C : CX p l s m args meth c own cc nL ret D A) {a b : Int} {off : Int} {tgt : Nat} (d : decode cc pc = .ok (.if_icmp .ge off, 3)) (ht : (pc : Int) + off = (tgt : Int)) (ha : -2147483648 ≤ a ∧ a < 2147483648) (hb : -2147483648 ≤ b ∧ b < 2147483648) (kt : b ≤ a → GO p l e R s m args below meth c nL D A B cells slots Q (ws) (tgt) (lv) (st)) (kf : a < b → GO p l e R s m args below meth c nL D A B cells slots Q (ws) (pc + 3) (lv) (st)) : GO p l e R s m args below meth c nL D A B cells slots Q (ws) (pc) (lv) (.int (iI b) :: .int (iI a) :: st) := by
  intro H locs ls hP hD hS hl
  exact lv_icmp_ge C.hx C.hb d ht (fun q => kt ((iI_le hb ha).mp q) H locs ls hP hD hS hl) (fun q => kf (Int.not_le.mp fun z => q ((iI_le hb ha).mpr z)) H locs ls hP hD hS hl)
theorem g_if_ge (C : CX p l s m args meth c own cc nL ret D A) {a : Int} {off : Int} {tgt : Nat} (d : decode cc pc = .ok (.ifCond .ge off, 3)) (ht : (pc : Int) + off = (tgt : Int)) (ha : -2147483648 ≤ a ∧ a < 2147483648) (kt : 0 ≤ a → GO p l e R s m args below meth c nL D A B cells slots Q (ws) (tgt) (lv) (st)) (kf : a < 0 → GO p l e R s m args below meth c nL D A B cells slots Q (ws) (pc + 3) (lv) (st)) : GO p l e R s m args below meth c nL D A B cells slots Q (ws) (pc) (lv) (.int (iI a) :: st) := by
  intro H locs ls hP hD hS hl
  exact lv_if_ge C.hx C.hb d ht (fun q => kt ((iI_le iI_r0 ha).mp q) H locs ls hP hD hS hl) (fun q => kf (Int.not_le.mp fun z => q ((iI_le iI_r0 ha).mpr z)) H locs ls hP hD hS hl)
theorem g_icmp_gt (C : CX p l s m args meth c own cc nL ret D A) {a b : Int} {off : Int} {tgt : Nat} (d : decode cc pc = .ok (.if_icmp .gt off, 3)) (ht : (pc : Int) + off = (tgt : Int)) (ha : -2147483648 ≤ a ∧ a < 2147483648) (hb : -2147483648 ≤ b ∧ b < 2147483648) (kt : b < a → GO p l e R s m args below meth c nL D A B cells slots Q (ws) (tgt) (lv) (st)) (kf : a ≤ b → GO p l e R s m args below meth c nL D A B cells slots Q (ws) (pc + 3) (lv) (st)) : GO p l e R s m args below meth c nL D A B cells slots Q (ws) (pc) (lv) (.int (iI b) :: .int (iI a) :: st) := by
  intro H locs ls hP hD hS hl
  exact lv_icmp_gt C.hx C.hb d ht (fun q => kt ((iI_lt hb ha).mp q) H locs ls hP hD hS hl) (fun q => kf (Int.not_lt.mp fun z => q ((iI_lt hb ha).mpr z)) H locs ls hP hD hS hl)
theorem g_if_gt (C : CX p l s m args meth c own cc nL ret D A) {a : Int} {off : Int} {tgt : Nat} (d : decode cc pc = .ok (.ifCond .gt off, 3)) (ht : (pc : Int) + off = (tgt : Int)) (ha : -2147483648 ≤ a ∧ a < 2147483648) (kt : 0 < a → GO p l e R s m args below meth c nL D A B cells slots Q (ws) (tgt) (lv) (st)) (kf : a ≤ 0 → GO p l e R s m args below meth c nL D A B cells slots Q (ws) (pc + 3) (lv) (st)) : GO p l e R s m args below meth c nL D A B cells slots Q (ws) (pc) (lv) (.int (iI a) :: st) := by
  intro H locs ls hP hD hS hl
  exact lv_if_gt C.hx C.hb d ht (fun q => kt ((iI_lt iI_r0 ha).mp q) H locs ls hP hD hS hl) (fun q => kf (Int.not_lt.mp fun z => q ((iI_lt iI_r0 ha).mpr z)) H locs ls hP hD hS hl)
theorem g_icmp_le (C : CX p l s m args meth c own cc nL ret D A) {a b : Int} {off : Int} {tgt : Nat} (d : decode cc pc = .ok (.if_icmp .le off, 3)) (ht : (pc : Int) + off = (tgt : Int)) (ha : -2147483648 ≤ a ∧ a < 2147483648) (hb : -2147483648 ≤ b ∧ b < 2147483648) (kt : a ≤ b → GO p l e R s m args below meth c nL D A B cells slots Q (ws) (tgt) (lv) (st)) (kf : b < a → GO p l e R s m args below meth c nL D A B cells slots Q (ws) (pc + 3) (lv) (st)) : GO p l e R s m args below meth c nL D A B cells slots Q (ws) (pc) (lv) (.int (iI b) :: .int (iI a) :: st) := by
  intro H locs ls hP hD hS hl
  exact lv_icmp_le C.hx C.hb d ht (fun q => kt ((iI_le ha hb).mp q) H locs ls hP hD hS hl) (fun q => kf (Int.not_le.mp fun z => q ((iI_le ha hb).mpr z)) H locs ls hP hD hS hl)
theorem g_if_le (C : CX p l s m args meth c own cc nL ret D A) {a : Int} {off : Int} {tgt : Nat} (d : decode cc pc = .ok (.ifCond .le off, 3)) (ht : (pc : Int) + off = (tgt : Int)) (ha : -2147483648 ≤ a ∧ a < 2147483648) (kt : a ≤ 0 → GO p l e R s m args below meth c nL D A B cells slots Q (ws) (tgt) (lv) (st)) (kf : 0 < a → GO p l e R s m args below meth c nL D A B cells slots Q (ws) (pc + 3) (lv) (st)) : GO p l e R s m args below meth c nL D A B cells slots Q (ws) (pc) (lv) (.int (iI a) :: st) := by
  intro H locs ls hP hD hS hl
  exact lv_if_le C.hx C.hb d ht (fun q => kt ((iI_le ha iI_r0).mp q) H locs ls hP hD hS hl) (fun q => kf (Int.not_le.mp fun z => q ((iI_le ha iI_r0).mpr z)) H locs ls hP hD hS hl)
theorem g_table (C : CX p l s m args meth c own cc nL ret D A) {a : Int} {dflt lo hi : Int} {offs : Array Int} {len : Nat} {off : Int} {tgt : Nat} (d : decode cc pc = .ok (.tableswitch dflt lo hi offs, len)) (ha : -2147483648 ≤ a ∧ a < 2147483648) (h : lo ≤ a ∧ a ≤ hi) (ho : offs[(a - lo).toNat]? = some off) (ht : (pc : Int) + off = (tgt : Int)) (K : GO p l e R s m args below meth c nL D A B cells slots Q (ws) (tgt) (lv) (st)) : GO p l e R s m args below meth c nL D A B cells slots Q (ws) (pc) (lv) (.int (iI a) :: st) := by
  intro H locs ls hP hD hS hl
  exact lv_tableIn C.hx C.hb d (by rw [iI_toInt ha]; omega) (by rw [iI_toInt ha]; omega) (by rw [iI_toInt ha]; exact ho) ht (K H locs ls hP hD hS hl)
theorem g_tableD (C : CX p l s m args meth c own cc nL ret D A) {a : Int} {dflt lo hi : Int} {offs : Array Int} {len : Nat} {tgt : Nat} (d : decode cc pc = .ok (.tableswitch dflt lo hi offs, len)) (ha : -2147483648 ≤ a ∧ a < 2147483648) (h : a < lo ∨ hi < a) (ht : (pc : Int) + dflt = (tgt : Int)) (K : GO p l e R s m args below meth c nL D A B cells slots Q (ws) (tgt) (lv) (st)) : GO p l e R s m args below meth c nL D A B cells slots Q (ws) (pc) (lv) (.int (iI a) :: st) := by
  intro H locs ls hP hD hS hl
  exact lv_tableOut C.hx C.hb d (by rw [iI_toInt ha]; exact h) ht (K H locs ls hP hD hS hl)
theorem g_iald (C : CX p l s m args meth c own cc nL ret D A) (q0 : Nat) {a n : Nat} {f : Int → Int} {i : Int} (ha : ws[q0]? = some (a, .inl (D.1 100, n, .inl (aI f)))) (d : decode cc pc = .ok (.iaload, 1)) (h0 : 0 ≤ i ∧ i < n) (hn : (n : Int) < 2147483648) (K : GO p l e R s m args below meth c nL D A B cells slots Q (ws) (pc + 1) (lv) (.int (iI (f i)) :: st)) : GO p l e R s m args below meth c nL D A B cells slots Q (ws) (pc) (lv) (.int (iI i) :: .ref a :: st) := by
  intro H locs ls hP hD hS hl
  refine va_iald C.hx C.hb C.hK hP q0 0 ha rfl (iI_in h0.1 h0.2 hn) d ?_
  rw [aI_at f h0.1 (by omega)]
  exact K H locs ls hP hD hS hl
theorem g_iast (C : CX p l s m args meth c own cc nL ret D A) (q0 : Nat) {a n : Nat} {f : Int → Int} {i v : Int} {ws' : va_W} (ha : ws[q0]? = some (a, .inl (D.1 100, n, .inl (aI f)))) (d : decode cc pc = .ok (.iastore, 1)) (h0 : 0 ≤ i ∧ i < n) (hn : (n : Int) < 2147483648) (hw : ws.set q0 (a, .inl (D.1 100, n, .inl (aI (uI f i v)))) = ws') (K : GO p l e R s m args below meth c nL D A A cells slots Q (ws') (pc + 1) (lv) (st)) : GO p l e R s m args below meth c nL D A A cells slots Q (ws) (pc) (lv) (.int (iI v) :: .int (iI i) :: .ref a :: st) := by
  intro H locs ls hP hD hS hl
  refine va_iast C.hx C.hb C.hK hP hD hS q0 0 ha rfl (iI_in h0.1 h0.2 hn) d (fun H1 locs1 hP1 hD1 hS1 => ?_)
  rw [aI_up f h0.1 (by omega), hw] at hP1 hD1
  exact K H1 locs1 ls hP1 hD1 hS1 hl
theorem g_zald (C : CX p l s m args meth c own cc nL ret D A) (q0 : Nat) {a n : Nat} {f : Int → Int} {i : Int} (ha : ws[q0]? = some (a, .inl (D.1 101, n, .inl (aI f)))) (d : decode cc pc = .ok (.baload, 1)) (h0 : 0 ≤ i ∧ i < n) (hn : (n : Int) < 2147483648) (K : GO p l e R s m args below meth c nL D A B cells slots Q (ws) (pc + 1) (lv) (.int (iI (f i)) :: st)) : GO p l e R s m args below meth c nL D A B cells slots Q (ws) (pc) (lv) (.int (iI i) :: .ref a :: st) := by
  intro H locs ls hP hD hS hl
  refine va_zald C.hx C.hb C.hK hP q0 1 ha rfl (iI_in h0.1 h0.2 hn) d ?_
  rw [aI_at f h0.1 (by omega)]
  exact K H locs ls hP hD hS hl
theorem g_zast (C : CX p l s m args meth c own cc nL ret D A) (q0 : Nat) {a n : Nat} {f : Int → Int} {i v : Int} {ws' : va_W} (ha : ws[q0]? = some (a, .inl (D.1 101, n, .inl (aI f)))) (d : decode cc pc = .ok (.bastore, 1)) (h0 : 0 ≤ i ∧ i < n) (hn : (n : Int) < 2147483648) (hv : vp_nar .boolean (iI v) = iI v) (hw : ws.set q0 (a, .inl (D.1 101, n, .inl (aI (uI f i v)))) = ws') (K : GO p l e R s m args below meth c nL D A A cells slots Q (ws') (pc + 1) (lv) (st)) : GO p l e R s m args below meth c nL D A A cells slots Q (ws) (pc) (lv) (.int (iI v) :: .int (iI i) :: .ref a :: st) := by
  intro H locs ls hP hD hS hl
  refine va_zast C.hx C.hb C.hK hP hD hS q0 1 ha rfl (iI_in h0.1 h0.2 hn) d (fun H1 locs1 hP1 hD1 hS1 => ?_)
  rw [hv] at hP1 hD1
  rw [aI_up f h0.1 (by omega), hw] at hP1 hD1
  exact K H1 locs1 ls hP1 hD1 hS1 hl
theorem g_bald (C : CX p l s m args meth c own cc nL ret D A) (q0 : Nat) {a n : Nat} {f : Int → Int} {i : Int} (ha : ws[q0]? = some (a, .inl (D.1 102, n, .inl (aI f)))) (d : decode cc pc = .ok (.baload, 1)) (h0 : 0 ≤ i ∧ i < n) (hn : (n : Int) < 2147483648) (K : GO p l e R s m args below meth c nL D A B cells slots Q (ws) (pc + 1) (lv) (.int (iI (f i)) :: st)) : GO p l e R s m args below meth c nL D A B cells slots Q (ws) (pc) (lv) (.int (iI i) :: .ref a :: st) := by
  intro H locs ls hP hD hS hl
  refine va_bald C.hx C.hb C.hK hP q0 2 ha rfl (iI_in h0.1 h0.2 hn) d ?_
  rw [aI_at f h0.1 (by omega)]
  exact K H locs ls hP hD hS hl
theorem g_bast (C : CX p l s m args meth c own cc nL ret D A) (q0 : Nat) {a n : Nat} {f : Int → Int} {i v : Int} {ws' : va_W} (ha : ws[q0]? = some (a, .inl (D.1 102, n, .inl (aI f)))) (d : decode cc pc = .ok (.bastore, 1)) (h0 : 0 ≤ i ∧ i < n) (hn : (n : Int) < 2147483648) (hv : vp_nar .byte (iI v) = iI v) (hw : ws.set q0 (a, .inl (D.1 102, n, .inl (aI (uI f i v)))) = ws') (K : GO p l e R s m args below meth c nL D A A cells slots Q (ws') (pc + 1) (lv) (st)) : GO p l e R s m args below meth c nL D A A cells slots Q (ws) (pc) (lv) (.int (iI v) :: .int (iI i) :: .ref a :: st) := by
  intro H locs ls hP hD hS hl
  refine va_bast C.hx C.hb C.hK hP hD hS q0 2 ha rfl (iI_in h0.1 h0.2 hn) d (fun H1 locs1 hP1 hD1 hS1 => ?_)
  rw [hv] at hP1 hD1
  rw [aI_up f h0.1 (by omega), hw] at hP1 hD1
  exact K H1 locs1 ls hP1 hD1 hS1 hl
theorem g_alen (C : CX p l s m args meth c own cc nL ret D A) (q0 : Nat) {a n : Nat} {cA : ClassId} {x : (Nat → Int32) ⊕ (Nat → Int64) ⊕ (Nat → UInt32) ⊕ (Nat → UInt64) ⊕ (Nat → Option Nat)} (t0 : Nat) {ty : FieldType} (ha : ws[q0]? = some (a, .inl (cA, n, x))) (ht : (tysX D)[t0]? = some (cA, ty)) (d : decode cc pc = .ok (.arraylength, 1)) (K : GO p l e R s m args below meth c nL D A B cells slots Q (ws) (pc + 1) (lv) (.int (iI n) :: st)) : GO p l e R s m args below meth c nL D A B cells slots Q (ws) (pc) (lv) (.ref a :: st) := by
  intro H locs ls hP hD hS hl
  exact va_alen C.hx C.hb C.hK hP q0 t0 ha ht (show Int32.ofNat n = iI n from (Int32.ofInt_eq_ofNat).symm) d (K H locs ls hP hD hS hl)
theorem g_get (C : CX p l s m args meth c own cc nL ret D A) {Cn ref : String} {T : u_T} {N ci i : Nat} (hin : ∀ w ∈ u_ws Cn T N, w ∈ lw_all) (q0 k : Nat) {a : Nat} {fs : List Value} {v : Value} (he : ws[q0]? = some (a, .inr (ci, fs))) (hc : clX[ci]? = some (Cn, T, N)) (hk : k < N) (hv : fs[k]? = some v) (hw : Cond.fieldLink own i ref (T k).2.1 (T k).2.2.1 ∈ lw_all) (hs : (T k).1 = ref) (d : decode cc pc = .ok (.getfield i, 3)) (K : GO p l e R s m args below meth c nL D A B cells slots Q (ws) (pc + 3) (lv) (v :: st)) : GO p l e R s m args below meth c nL D A B cells slots Q (ws) (pc) (lv) (.ref a :: st) := by
  intro H locs ls hP hD hS hl
  exact va_get C.hx C.hb C.hts hin C.hown C.hK hP q0 he hc k hk (C.hts _ hw) (fun x h => by rw [hs] at h; exact h) hv d (K H locs ls hP hD hS hl)
theorem g_put (C : CX p l s m args meth c own cc nL ret D A) {Cn ref : String} {T : u_T} {N ci i : Nat} (hin : ∀ w ∈ u_ws Cn T N, w ∈ lw_all) (ty0 : Nat → FieldType) (hty : ∀ k, k < N → parseFieldDescriptor (T k).2.2.1 = some (ty0 k)) (hnm : ∀ a, a < N → ∀ b, b < N → a ≠ b → (T a).2.1 ≠ (T b).2.1) (q0 k : Nat) {a : Nat} {fs : List Value} {v : Value} {ws' : va_W} (he : ws[q0]? = some (a, .inr (ci, fs))) (hc : clX[ci]? = some (Cn, T, N)) (hk : k < N) (hw : Cond.fieldLink own i ref (T k).2.1 (T k).2.2.1 ∈ lw_all) (hs : (T k).1 = ref) (hf : (T k).2.2.2 = false) (hn : narrow (ty0 k) v = v) (hfit : fits (ty0 k) v = true) (hl9 : k < fs.length) (d : decode cc pc = .ok (.putfield i, 3)) (hws : ws.set q0 (a, .inr (ci, fs.set k v)) = ws') (K : GO p l e R s m args below meth c nL D A A cells slots Q (ws') (pc + 3) (lv) (st)) : GO p l e R s m args below meth c nL D A A cells slots Q (ws) (pc) (lv) (v :: .ref a :: st) := by
  intro H locs ls hP hD hS hl
  refine va_put C.hx C.hb C.hts hin ty0 hty hnm C.hown C.hK hP hD hS q0 he hc k hk (C.hts _ hw) (fun x h => by rw [hs] at h; exact h) hf (hty k hk) hn hfit hl9 d (fun H1 locs1 hP1 hD1 hS1 => ?_)
  rw [hws] at hP1 hD1
  exact K H1 locs1 ls hP1 hD1 hS1 hl
theorem g_widen {k n : Nat} (h1 : cells ≤ k) (h2 : slots ≤ n) (K : GO p l e R s m args below meth c nL D A B k n Q (ws) (pc) (lv) (st)) : GO p l e R s m args below meth c nL D A B cells slots Q (ws) (pc) (lv) (st) := fun H locs ls hP hD hS hl => W.widen h1 h2 (K H locs ls hP hD hS hl)
theorem g_lv {lv' : List (Nat × Value)} (ks : List Nat) (hk : lv_pick lv ks = lv') (K : GO p l e R s m args below meth c nL D A B cells slots Q (ws) (pc) (lv') (st)) : GO p l e R s m args below meth c nL D A B cells slots Q (ws) (pc) (lv) (st) := fun H locs ls hP hD hS hl => K H locs ls hP hD hS (lv_sub hl ks hk)
/-- an array's contents, told by another function -/
theorem g_con (q0 : Nat) {a n : Nat} {cA : ClassId} {f x : Nat → Int32} {ws' : va_W} (he : ws[q0]? = some (a, .inl (cA, n, .inl f))) (hc : ∀ j, j < n → f j = x j) (hw : ws.set q0 (a, .inl (cA, n, .inl x)) = ws') (K : GO p l e R s m args below meth c nL D A B cells slots Q ws' pc lv st) : GO p l e R s m args below meth c nL D A B cells slots Q ws pc lv st := by
  intro H locs ls hP hD hS hl
  subst hw
  refine K H locs ls (hP.set hD he ?_ (fun _ _ => rfl)) (hD.set he) hS hl
  have h1 : H[a]? = some (vp_cell cA (n, .inl f)) := hP q0 _ he
  show H[a]? = some (vp_cell cA (n, .inl x))
  rw [h1, vp_cell_i, vp_cell_i]
  congr 1
  exact arrV_cg cA n (fun j hj => by rw [hc j hj])
theorem g_ws {ws' : va_W} (h : ws = ws') (K : GO p l e R s m args below meth c nL D A B cells slots Q ws' pc lv st) : GO p l e R s m args below meth c nL D A B cells slots Q ws pc lv st := by rw [h]; exact K
end GOS
