/-! ===== throws: rows and the class's there, right ===== -/
section JC5
theorem lw_I {y : MethodName} {b : ByteArray} {L : Nat} (h : Cond.code y b L none ∈ lw_all) : GoodIn lw_all (ws_ y b L none) := lw_meth h
theorem thN_at {p : Program} {l : Launch} {s : State} {m : MethodId} {args : Array Value} {meth : Method} {c : Code} {own : String} {cc : ByteArray} {nL : Nat} {ret : Option FieldType} {D : va_G} {A : Nat → Prop} (C : CX p l s m args meth c own cc nL ret D A) : ∀ w ∈ vx_at0 RX1 81 EN exNm, w.before args s = true := by
  intro w hw
  cases hg : goodWord w with
  | true => exact C.hts w (lw_g (thN_in w (List.mem_filter.mpr ⟨hw, hg⟩)) hg)
  | false =>
    have h1 := of_decide_eq_true (List.all_eq_true.mp thN_no w (List.mem_filter.mpr ⟨hw, by rw [hg]; rfl⟩))
    rcases List.mem_append.mp h1 with h2 | h2
    · obtain ⟨q, hq, rfl⟩ := List.mem_map.mp h2
      exact va_Nw.use rfl (C.hG.1.2.2.1 q hq)
    · obtain ⟨q, hq, rfl⟩ := List.mem_map.mp h2
      exact va_Nw.use rfl (C.hG.1.1 q hq)
section TH
variable {p : Program} {l : Launch} {e : Env} {R : Room} {s : State} {m : MethodId} {args : Array Value} {below : List Frame} {meth : Method} {c : Code} {cc : ByteArray} {nL : Nat} {ret : Option FieldType} {D : va_G} {A B : Nat → Prop} {cells slots mc ms : Nat} {ws : va_W} {pc : Nat} {lv : List (Nat × Value)} {st : List Value} {post : Option Value → va_W → Prop} {postX : String → Addr → va_W → Prop}
theorem g_throwN (C : CX p l s m args meth c RX1 cc nL ret D A) (htab : ∀ x ∈ c.exceptionTable.toList, False) (d0 : decode cc pc = .ok (.new 79, 3)) (d3 : decode cc (pc + 3) = .ok (.dup, 1)) (d4 : decode cc (pc + 4) = .ok (.invokespecial 81, 3)) (d7 : decode cc (pc + 7) = .ok (.athrow, 1)) (hf : 5 < R.frames) (hlo : (st.map fun v => v.category).sum + 81 ≤ R.locals) (hRc : cells + 1 ≤ R.cells) (hRs : slots + 6 ≤ R.slots) (hc : cells + 1 ≤ mc) (hs : slots + 6 ≤ ms) (hp : ∀ q : Addr, postX EN q []) : GO p l e R s m args below meth c nL D A B cells slots (MX below D A post postX args s mc ms) ws pc lv st := by
  intro H locs ls hP hD hS hl
  refine vx_throw0 (own := RX1) (cls := EN) (names := exNm) (ik := 79) (ic := 81) (A := A) C.hx C.hb C.hl C.hown (by decide) (by decide) (C.hts _ q676) (C.hts _ q70) (thN_at C) thN_ot C.hG.2.2.2.2.2.2.2.2.1 C.hG.2.2.2.2.2.2.2.2.2.1 hS (by rw [C.hml]; exact hl.1) d0 d3 d4 d7 (fun x hx => (htab x hx).elim) hf (by show _ + (13 * 3 + 42) ≤ _; omega) hRc hRs C.hlk (fun q9 t hvm hsz hk => ⟨⟨[], hp q9, fun k q h => by simp at h, ⟨fun i j p q h => by simp at h, fun k q h => by simp at h⟩⟩, Nat.le_trans hS.1 hsz, fun q h1 h2 => (hk q (Nat.lt_of_lt_of_le h1 hS.1)).trans (hS.2.1 q h1 h2)⟩) hS.2.2 hc hs
end TH
theorem thI_at {p : Program} {l : Launch} {s : State} {m : MethodId} {args : Array Value} {meth : Method} {c : Code} {own : String} {cc : ByteArray} {nL : Nat} {ret : Option FieldType} {D : va_G} {A : Nat → Prop} (C : CX p l s m args meth c own cc nL ret D A) : ∀ w ∈ vx_at0 RX1 78 EI exNm, w.before args s = true := by
  intro w hw
  cases hg : goodWord w with
  | true => exact C.hts w (lw_g (thI_in w (List.mem_filter.mpr ⟨hw, hg⟩)) hg)
  | false =>
    have h1 := of_decide_eq_true (List.all_eq_true.mp thI_no w (List.mem_filter.mpr ⟨hw, by rw [hg]; rfl⟩))
    rcases List.mem_append.mp h1 with h2 | h2
    · obtain ⟨q, hq, rfl⟩ := List.mem_map.mp h2
      exact va_Nw.use rfl (C.hG.1.2.2.1 q hq)
    · obtain ⟨q, hq, rfl⟩ := List.mem_map.mp h2
      exact va_Nw.use rfl (C.hG.1.1 q hq)
section TH
variable {p : Program} {l : Launch} {e : Env} {R : Room} {s : State} {m : MethodId} {args : Array Value} {below : List Frame} {meth : Method} {c : Code} {cc : ByteArray} {nL : Nat} {ret : Option FieldType} {D : va_G} {A B : Nat → Prop} {cells slots mc ms : Nat} {ws : va_W} {pc : Nat} {lv : List (Nat × Value)} {st : List Value} {post : Option Value → va_W → Prop} {postX : String → Addr → va_W → Prop}
theorem g_throwI (C : CX p l s m args meth c RX1 cc nL ret D A) (htab : ∀ x ∈ c.exceptionTable.toList, False) (d0 : decode cc pc = .ok (.new 76, 3)) (d3 : decode cc (pc + 3) = .ok (.dup, 1)) (d4 : decode cc (pc + 4) = .ok (.invokespecial 78, 3)) (d7 : decode cc (pc + 7) = .ok (.athrow, 1)) (hf : 5 < R.frames) (hlo : (st.map fun v => v.category).sum + 81 ≤ R.locals) (hRc : cells + 1 ≤ R.cells) (hRs : slots + 6 ≤ R.slots) (hc : cells + 1 ≤ mc) (hs : slots + 6 ≤ ms) (hp : ∀ q : Addr, postX EI q []) : GO p l e R s m args below meth c nL D A B cells slots (MX below D A post postX args s mc ms) ws pc lv st := by
  intro H locs ls hP hD hS hl
  refine vx_throw0 (own := RX1) (cls := EI) (names := exNm) (ik := 76) (ic := 78) (A := A) C.hx C.hb C.hl C.hown (by decide) (by decide) (C.hts _ q738) (C.hts _ q55) (thI_at C) thI_ot C.hG.2.2.2.2.2.2.2.2.1 C.hG.2.2.2.2.2.2.2.2.2.1 hS (by rw [C.hml]; exact hl.1) d0 d3 d4 d7 (fun x hx => (htab x hx).elim) hf (by show _ + (13 * 3 + 42) ≤ _; omega) hRc hRs C.hlk (fun q9 t hvm hsz hk => ⟨⟨[], hp q9, fun k q h => by simp at h, ⟨fun i j p q h => by simp at h, fun k q h => by simp at h⟩⟩, Nat.le_trans hS.1 hsz, fun q h1 h2 => (hk q (Nat.lt_of_lt_of_le h1 hS.1)).trans (hS.2.1 q h1 h2)⟩) hS.2.2 hc hs
end TH
set_option maxHeartbeats 4000000 in
set_option maxRecDepth 100000 in
theorem c_there (l : Launch) (D : va_G) (hst : l.stackTraces = false) (z : Int) (hz : 0 ≤ z ∧ z ≤ 1) : CT l D yX1_there (ws_ yX1_there cX1_there 1 none) (rmD 6 1 6) (1) (6) mdR [.int (iI z)] ([]) exT (fun v _ => v = none ∧ z = 1) (fun E _ w => E = EN ∧ z = 0 ∧ w = []) := by
  refine ct_R (lv := [(0, .int (iI z))]) RX1 (by decide) rfl rfl hst (Nat.le_of_ble_eq_true rfl) rfl ?_
  intro p e s mm args below meth c A C htab hex
  refine g_iload_n C dX1_there_0 rfl 0 rfl ?_
  refine g_if_ne C (tgt := 12) dX1_there_1 (by decide) (by omega) (fun hc1_1 => ?_) (fun hc1_1 => ?_)
  ·
    refine g_nilA ?_
    exact g_vret C dX1_there_12 (Nat.zero_le _) (Nat.zero_le _) ⟨rfl, by omega⟩
  ·
    exact g_throwN C htab dX1_there_4 dX1_there_7 dX1_there_8 dX1_there_11 (Nat.le_of_ble_eq_true rfl) (Nat.le_of_ble_eq_true rfl) (Nat.le_of_ble_eq_true rfl) (Nat.le_of_ble_eq_true rfl) (Nat.le_of_ble_eq_true rfl) (Nat.le_of_ble_eq_true rfl) (fun q => ⟨rfl, by omega, rfl⟩)

set_option maxHeartbeats 4000000 in
set_option maxRecDepth 100000 in
theorem c_right (l : Launch) (D : va_G) (hst : l.stackTraces = false) (z : Int) (hz : 0 ≤ z ∧ z ≤ 1) : CT l D yX1_right (ws_ yX1_right cX1_right 1 none) (rmD 6 1 6) (1) (6) mdR [.int (iI z)] ([]) exT (fun v _ => v = none ∧ z = 1) (fun E _ w => E = EI ∧ z = 0 ∧ w = []) := by
  refine ct_R (lv := [(0, .int (iI z))]) RX1 (by decide) rfl rfl hst (Nat.le_of_ble_eq_true rfl) rfl ?_
  intro p e s mm args below meth c A C htab hex
  refine g_iload_n C dX1_right_0 rfl 0 rfl ?_
  refine g_if_ne C (tgt := 12) dX1_right_1 (by decide) (by omega) (fun hc1_1 => ?_) (fun hc1_1 => ?_)
  ·
    refine g_nilA ?_
    exact g_vret C dX1_right_12 (Nat.zero_le _) (Nat.zero_le _) ⟨rfl, by omega⟩
  ·
    exact g_throwI C htab dX1_right_4 dX1_right_7 dX1_right_8 dX1_right_11 (Nat.le_of_ble_eq_true rfl) (Nat.le_of_ble_eq_true rfl) (Nat.le_of_ble_eq_true rfl) (Nat.le_of_ble_eq_true rfl) (Nat.le_of_ble_eq_true rfl) (Nat.le_of_ble_eq_true rfl) (fun q => ⟨rfl, by omega, rfl⟩)

section MK
variable {p : Program} {l : Launch} {e : Env} {R : Room} {s : State} {mm : MethodId} {args : Array Value} {below : List Frame} {meth : Method} {c : Code} {cc : ByteArray} {nL : Nat} {ret : Option FieldType} {D : va_G} {A B : Nat → Prop} {cells slots : Nat} {Q : State → Prop} {pc : Nat} {lv : List (Nat × Value)} {st : List Value}
theorem kX1_there {ws : va_W} (z : Int) (C : CX p l s mm args meth c RX1 cc nL ret D A) (hz : 0 ≤ z ∧ z ≤ 1) (hR : 6 + 1 ≤ R.frames ∧ 8 + (1 + 11) + 64 * 6 ≤ R.locals) (hcat : (st.map fun v => v.category).sum ≤ 8) (hroom : cells + 1 ≤ R.cells ∧ slots + 6 ≤ R.slots) (d : decode cc pc = .ok (.invokestatic 106, 3)) (K : z = 1 → GO p l e R s mm args below meth c nL D A B (cells + 1) (slots + 6) Q ws (pc + 3) lv (st)) (KX : z = 0 → ∀ q : Addr, GT p l e R s mm args below meth c nL D A B (cells + 1) (slots + 6) Q ws (pc) lv (st) EN q) : GO p l e R s mm args below meth c nL D A B cells slots Q (ws) (pc) lv (.int (iI z) :: st) := by
  refine g_callSR C (c_there l D C.hl z hz) (As := [.int (iI z)]) (n := 1) (lw_S q673 q674 q48 q675) (by decide +kernel) rfl rfl hR rfl rfl hcat hroom d Sb.nil exT_b hex_t (fun v w hp => ?_) (fun E q w hp => ?_)
  · obtain ⟨rfl, h1⟩ := hp
    exact K h1
  · obtain ⟨rfl, h1, -⟩ := hp
    exact KX h1 q
end MK

section MK
variable {p : Program} {l : Launch} {e : Env} {R : Room} {s : State} {mm : MethodId} {args : Array Value} {below : List Frame} {meth : Method} {c : Code} {cc : ByteArray} {nL : Nat} {ret : Option FieldType} {D : va_G} {A B : Nat → Prop} {cells slots : Nat} {Q : State → Prop} {pc : Nat} {lv : List (Nat × Value)} {st : List Value}
theorem kX1_right {ws : va_W} (z : Int) (C : CX p l s mm args meth c RX1 cc nL ret D A) (hz : 0 ≤ z ∧ z ≤ 1) (hR : 6 + 1 ≤ R.frames ∧ 8 + (1 + 11) + 64 * 6 ≤ R.locals) (hcat : (st.map fun v => v.category).sum ≤ 8) (hroom : cells + 1 ≤ R.cells ∧ slots + 6 ≤ R.slots) (d : decode cc pc = .ok (.invokestatic 202, 3)) (K : z = 1 → GO p l e R s mm args below meth c nL D A B (cells + 1) (slots + 6) Q ws (pc + 3) lv (st)) (KX : z = 0 → ∀ q : Addr, GT p l e R s mm args below meth c nL D A B (cells + 1) (slots + 6) Q ws (pc) lv (st) EI q) : GO p l e R s mm args below meth c nL D A B cells slots Q (ws) (pc) lv (.int (iI z) :: st) := by
  refine g_callSR C (c_right l D C.hl z hz) (As := [.int (iI z)]) (n := 1) (lw_S q735 q736 q48 q737) (by decide +kernel) rfl rfl hR rfl rfl hcat hroom d Sb.nil exT_b hex_t (fun v w hp => ?_) (fun E q w hp => ?_)
  · obtain ⟨rfl, h1⟩ := hp
    exact K h1
  · obtain ⟨rfl, h1, -⟩ := hp
    exact KX h1 q
end MK

end JC5
