/-! ===== the law's own rows: the script, the end ===== -/
/-- the script's numbers -/
def sq (xs : Nat → Int32) (j : Int) : Int := (xs j.toNat).toInt
theorem sq_rg (xs : Nat → Int32) (j : Int) : -2147483648 ≤ sq xs j ∧ sq xs j < 2147483648 := iI_rg _
theorem lcmp_same (x : Int64) : lg_cmp x x = iI 0 := by
  obtain ⟨z, h1, -, -, h4⟩ := lcmp_eq (x := x) (y := x)
  rw [h1, h4.mpr rfl]
section LROWS
variable {p : Program} {l : Launch} {e : Env} {R : Room} {s : State} {m : MethodId} {args : Array Value} {below : List Frame} {meth : Method} {c : Code} {own : String} {cc : ByteArray} {nL : Nat} {ret : Option FieldType} {D : va_G} {A B : Nat → Prop} {cells slots : Nat} {Q : State → Prop} {ws : va_W} {pc : Nat} {lv : List (Nat × Value)} {st : List Value}
theorem g_sld (C : CX p l s m args meth c own cc nL ret D A) {b L : Nat} {xs : Nat → Int32} (hX : va_X b L xs s s.heap) (hbl : b < s.heap.size) (hbA : ¬ A b) (hL : L ≤ 384) {i : Int} (h : 0 ≤ i ∧ i < L) (d : decode cc pc = .ok (.iaload, 1)) (K : GO p l e R s m args below meth c nL D A B cells slots Q ws (pc + 1) lv (.int (iI (sq xs i)) :: st)) : GO p l e R s m args below meth c nL D A B cells slots Q ws pc lv (.int (iI i) :: .ref b :: st) := by
  intro H locs ls hP hD hS hl
  refine va_sld C.hx C.hb hX hbl hbA hS (iI_in h.1 h.2 (by omega)) d ?_
  have e : xs (iI i).toNatClampNeg = iI (sq xs i) := by
    rw [iI_tn h.1 (by omega)]
    exact (iI_of _).symm
  rw [e]
  exact K H locs ls hP hD hS hl
theorem g_slen (C : CX p l s m args meth c own cc nL ret D A) {b L : Nat} {xs : Nat → Int32} (hX : va_X b L xs s s.heap) (hbl : b < s.heap.size) (hbA : ¬ A b) (d : decode cc pc = .ok (.arraylength, 1)) (K : GO p l e R s m args below meth c nL D A B cells slots Q ws (pc + 1) lv (.int (iI (L : Int)) :: st)) : GO p l e R s m args below meth c nL D A B cells slots Q ws pc lv (.ref b :: st) := by
  intro H locs ls hP hD hS hl
  refine va_slen C.hx C.hb hX hbl hbA hS d ?_
  have e : Int32.ofNat L = iI (L : Int) := (Int32.ofInt_eq_ofNat).symm
  rw [e]
  exact K H locs ls hP hD hS hl
theorem g_icmp_same (C : CX p l s m args meth c own cc nL ret D A) {a b : Int} {off : Int} {tgt : Nat} (hab : a = b) (d : decode cc pc = .ok (.if_icmp .eq off, 3)) (ht : (pc : Int) + off = (tgt : Int)) (kt : GO p l e R s m args below meth c nL D A B cells slots Q (ws) (tgt) (lv) (st)) : GO p l e R s m args below meth c nL D A B cells slots Q (ws) (pc) (lv) (.int (iI b) :: .int (iI a) :: st) := by
  subst hab
  intro H locs ls hP hD hS hl
  exact lv_icmp_eq C.hx C.hb d ht (fun q => kt H locs ls hP hD hS hl) (fun q => absurd rfl q)
end LROWS
theorem g_end {p : Program} {l : Launch} {e : Env} {s : State} {m : MethodId} {below : List Frame} {meth : Method} {c : Code} {own : String} {nL : Nat} {D : va_G} {A B : Nat → Prop} {b : Nat} {cells slots : Nat} {ws : va_W} {pc : Nat} {lv : List (Nat × Value)} (C : CX p l s m #[.ref b] meth c own code nL ret D A) (hA : ∀ q, A q → s.heap.size ≤ q) (hc : cells ≤ 601024) (hs : slots ≤ 7293034) (d : decode code pc = .ok (.ireturn, 1)) : GO p l e room_1 s m #[.ref b] below meth c nL D A B cells slots (lw_Z below #[.ref b] s) ws pc lv [.int (iI 1)] := by
  intro H locs ls hP hD hS hl
  refine va_forget (fun q hq => hA _ (hS.2.2 q hq)) ?_
  refine W.widen (k := 601024) (n := 7293034) hc hs ?_
  exact lw_ret C.hx C.hb C.hr C.hlk d
