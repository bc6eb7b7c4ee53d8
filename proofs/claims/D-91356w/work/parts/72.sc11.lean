/-! ===== contracts of the class: byMove ===== -/
section SC11
def mvS (V ld co gp bt : Int → Int) (set p m cl : Int) : Int :=
  if bhS ld gp bt set (8 * p + m) cl = -1 then 1000000000 else if 1000000000 ≤ V (60 * bhS ld gp bt set (8 * p + m) cl + ld (8 * p + m)) then 1000000000 else V (60 * bhS ld gp bt set (8 * p + m) cl + ld (8 * p + m)) + co (8 * p + m)
theorem bhS_rg {ld gp bt : Int → Int} {set k cl : Int} (hs : 0 ≤ set ∧ set < 1024) (hb : bt (gp k) < 10) (hb0 : gp k ≠ -1 → -1 ≤ bt (gp k)) : bhS ld gp bt set k cl = -1 ∨ (set ≤ bhS ld gp bt set k cl ∧ bhS ld gp bt set k cl < 1024 ∧ ld k ≠ -1) := by
  unfold bhS
  by_cases e : ld k = -1
  · rw [if_pos e]; exact Or.inl rfl
  · rw [if_neg e]
    have h := bhd_rg (set := set) (cv := cvS gp bt k) (cl := cl) (n := 10) (Nat.le_refl _) (by omega) (by unfold cvS; split; omega; split <;> omega)
    rcases h with h | h
    · exact Or.inl h
    · exact Or.inr ⟨h.1, by omega, e⟩
set_option maxHeartbeats 4000000 in
set_option maxRecDepth 100000 in
theorem c_X1_byMove (l : Launch) (D : va_G) (hst : l.stackTraces = false) (h : Nat → Nat) (f : Nat → Int) (g : Nat → Int → Int) (N : Nat → Nat) (M : Nat → Nat → Nat) (T : va_W) (set p0 m0 cl : Int) (hnp : 0 ≤ f 6 ∧ f 6 ≤ 55) (htb : ∀ j, 0 ≤ j → j < 480 → (-1 ≤ g 14 j ∧ g 14 j < 60) ∧ (-1 ≤ g 16 j ∧ g 16 j < f 6)) (hbt : ∀ j, 0 ≤ j → j < f 6 → -1 ≤ g 13 j ∧ g 13 j < 10) (hv : ∀ j, 0 ≤ j → j < 61440 → 0 ≤ g 12 j ∧ g 12 j ≤ 1000000000) (hco : ∀ j, 0 ≤ j → j < 480 → 0 ≤ g 15 j ∧ g 15 j ≤ 1000000) (hs : 0 ≤ set ∧ set < 1024) (hp : 0 ≤ p0 ∧ p0 < 60) (hm : 0 ≤ m0 ∧ m0 < 8) (hcl : 0 ≤ cl ∧ cl ≤ 1) : CT l D yX1_byMove (ws_ yX1_byMove cX1_byMove 8 (some .int)) (rmD 1 0 0) (0) (0) mdR [.ref (h 0), .int (iI set), .int (iI p0), .int (iI m0), .int (iI cl)] (sW D h f g N M T) exT (pI fun z _ => z = mvS (g 12) (g 14) (g 15) (g 16) (g 13) set p0 m0 cl) (xN) := by
  refine ct_R (lv := [(0, .ref (h 0)), (1, .int (iI set)), (2, .int (iI p0)), (3, .int (iI m0)), (4, .int (iI cl))]) RX1 (by decide) rfl rfl hst (Nat.le_of_ble_eq_true rfl) rfl ?_
  intro p e s mm args below meth c A C htab hex
  have ht0 := htb (8 * p0 + m0) (by omega) (by omega)
  have hbr : bhS (g 14) (g 16) (g 13) set (8 * p0 + m0) cl = -1 ∨ (set ≤ bhS (g 14) (g 16) (g 13) set (8 * p0 + m0) cl ∧ bhS (g 14) (g 16) (g 13) set (8 * p0 + m0) cl < 1024 ∧ g 14 (8 * p0 + m0) ≠ -1) := by
    by_cases e : g 16 (8 * p0 + m0) = -1
    · unfold bhS cvS
      rw [if_pos e]
      by_cases e2 : g 14 (8 * p0 + m0) = -1
      · rw [if_pos e2]; exact Or.inl rfl
      · rw [if_neg e2]; unfold bhd; rw [if_pos rfl]; exact Or.inr ⟨Int.le_refl _, hs.2, e2⟩
    · have hb9 := hbt (g 16 (8 * p0 + m0)) (by omega) (by omega)
      exact bhS_rg hs hb9.2 (fun _ => hb9.1)
  refine g_bipush C dX1_byMove_0 (z := 8) rfl ?_
  refine g_iload_n C dX1_byMove_2 rfl 2 rfl ?_
  refine g_imul C dX1_byMove_3 ?_
  refine g_iload_n C dX1_byMove_4 rfl 3 rfl ?_
  refine g_iadd C dX1_byMove_5 ?_
  refine g_istore C dX1_byMove_6 (lv' := [(0, .ref (h 0)), (1, .int (iI set)), (2, .int (iI p0)), (3, .int (iI m0)), (4, .int (iI cl)), (5, .int (iI ((8 * p0) + m0)))]) [1, 2, 3, 4, 5, 0] rfl (Nat.le_of_ble_eq_true rfl) ?_
  refine g_aload_n C dX1_byMove_8 rfl 0 rfl ?_
  refine g_iload_n C dX1_byMove_9 rfl 1 rfl ?_
  refine g_iload C dX1_byMove_10 5 rfl ?_
  refine g_iload C dX1_byMove_12 4 rfl ?_
  refine kX1_X1_behind h f g N M T set ((8 * p0) + m0) cl C hnp htb hbt (by omega) (by omega) (by omega) ⟨Nat.le_of_ble_eq_true rfl, Nat.le_of_ble_eq_true rfl⟩ (Nat.le_of_ble_eq_true rfl) ⟨Nat.le_of_ble_eq_true rfl, Nat.le_of_ble_eq_true rfl⟩ (rv := bhS (g 14) (g 16) (g 13) set ((8 * p0) + m0) cl) rfl Sb.rf dX1_byMove_14 ?_
  refine g_istore C dX1_byMove_17 (lv' := [(0, .ref (h 0)), (1, .int (iI set)), (2, .int (iI p0)), (3, .int (iI m0)), (4, .int (iI cl)), (5, .int (iI ((8 * p0) + m0))), (6, .int (iI (bhS (g 14) (g 16) (g 13) set ((8 * p0) + m0) cl)))]) [1, 2, 3, 4, 5, 6, 0] rfl (Nat.le_of_ble_eq_true rfl) ?_
  refine g_iload C dX1_byMove_19 6 rfl ?_
  refine g_iconst C dX1_byMove_21 ?_
  refine g_icmp_ne C (tgt := 28) dX1_byMove_22 (by decide) (by omega) (by omega) (fun hc22_1 => ?_) (fun hc22_1 => ?_)
  ·
    refine g_aload_n C dX1_byMove_28 rfl 0 rfl ?_
    refine gs_get12 C dX1_byMove_29 ?_
    refine g_bipush C dX1_byMove_32 (z := 60) rfl ?_
    refine g_iload C dX1_byMove_34 6 rfl ?_
    refine g_imul C dX1_byMove_36 ?_
    refine g_aload_n C dX1_byMove_37 rfl 0 rfl ?_
    refine gs_get14 C dX1_byMove_38 ?_
    refine g_iload C dX1_byMove_41 5 rfl ?_
    refine gs_ald14 C (v := (g 14) ((8 * p0) + m0)) rfl dX1_byMove_43 (by omega) ?_
    have hf2 := htb ((8 * p0) + m0) (by omega) (by omega)
    refine g_iadd C dX1_byMove_44 ?_
    refine gs_ald12 C (v := (g 12) ((60 * (bhS (g 14) (g 16) (g 13) set ((8 * p0) + m0) cl)) + ((g 14) ((8 * p0) + m0)))) rfl dX1_byMove_45 (by omega) ?_
    have hf3 := hv ((60 * (bhS (g 14) (g 16) (g 13) set ((8 * p0) + m0) cl)) + ((g 14) ((8 * p0) + m0))) (by omega) (by omega)
    refine g_istore C dX1_byMove_46 (lv' := [(0, .ref (h 0)), (1, .int (iI set)), (2, .int (iI p0)), (3, .int (iI m0)), (4, .int (iI cl)), (5, .int (iI ((8 * p0) + m0))), (6, .int (iI (bhS (g 14) (g 16) (g 13) set ((8 * p0) + m0) cl))), (7, .int (iI ((g 12) ((60 * (bhS (g 14) (g 16) (g 13) set ((8 * p0) + m0) cl)) + ((g 14) ((8 * p0) + m0))))))]) [1, 2, 3, 4, 5, 6, 7, 0] rfl (Nat.le_of_ble_eq_true rfl) ?_
    refine g_iload C dX1_byMove_48 7 rfl ?_
    refine g_ldc C q953 dX1_byMove_50 (z := 1000000000) rfl ?_
    refine g_icmp_lt C (tgt := 60) dX1_byMove_52 (by decide) (by omega) (by omega) (fun hc52_4 => ?_) (fun hc52_4 => ?_)
    ·
      refine g_iload C dX1_byMove_60 7 rfl ?_
      refine g_aload_n C dX1_byMove_62 rfl 0 rfl ?_
      refine gs_get15 C dX1_byMove_63 ?_
      refine g_iload C dX1_byMove_66 5 rfl ?_
      refine gs_ald15 C (v := (g 15) ((8 * p0) + m0)) rfl dX1_byMove_68 (by omega) ?_
      have hf5 := hco ((8 * p0) + m0) (by omega) (by omega)
      refine g_iadd C dX1_byMove_69 ?_
      refine g_nilA ?_
      exact g_iret C dX1_byMove_70 rfl (Nat.le_of_ble_eq_true rfl) (Nat.le_of_ble_eq_true rfl) ⟨_, rfl, by unfold mvS; rw [if_neg (by omega)]; first | rw [if_pos (by omega)] | rw [if_neg (by omega)]⟩
    ·
      refine g_ldc C q953 dX1_byMove_55 (z := 1000000000) rfl ?_
      refine g_goto C (tgt := 70) dX1_byMove_57 (by decide) ?_
      refine g_nilA ?_
      exact g_iret C dX1_byMove_70 rfl (Nat.le_of_ble_eq_true rfl) (Nat.le_of_ble_eq_true rfl) ⟨_, rfl, by unfold mvS; rw [if_neg (by omega)]; first | rw [if_pos (by omega)] | rw [if_neg (by omega)]⟩
  ·
    refine g_ldc C q953 dX1_byMove_25 (z := 1000000000) rfl ?_
    refine g_nilA ?_
    exact g_iret C dX1_byMove_27 rfl (Nat.le_of_ble_eq_true rfl) (Nat.le_of_ble_eq_true rfl) ⟨_, rfl, by unfold mvS; rw [if_pos (by omega)]⟩

section MK
variable {p : Program} {l : Launch} {e : Env} {R : Room} {s : State} {mm : MethodId} {args : Array Value} {below : List Frame} {meth : Method} {c : Code} {cc : ByteArray} {nL : Nat} {ret : Option FieldType} {D : va_G} {A B : Nat → Prop} {cells slots : Nat} {Q : State → Prop} {pc : Nat} {lv : List (Nat × Value)} {st : List Value}
theorem kX1_X1_byMove {ws : va_W} (h : Nat → Nat) (f : Nat → Int) (g : Nat → Int → Int) (N : Nat → Nat) (M : Nat → Nat → Nat) (T : va_W) (set p0 m0 cl : Int) (C : CX p l s mm args meth c RX1 cc nL ret D A) (hnp : 0 ≤ f 6 ∧ f 6 ≤ 55) (htb : ∀ j, 0 ≤ j → j < 480 → (-1 ≤ g 14 j ∧ g 14 j < 60) ∧ (-1 ≤ g 16 j ∧ g 16 j < f 6)) (hbt : ∀ j, 0 ≤ j → j < f 6 → -1 ≤ g 13 j ∧ g 13 j < 10) (hv : ∀ j, 0 ≤ j → j < 61440 → 0 ≤ g 12 j ∧ g 12 j ≤ 1000000000) (hco : ∀ j, 0 ≤ j → j < 480 → 0 ≤ g 15 j ∧ g 15 j ≤ 1000000) (hs : 0 ≤ set ∧ set < 1024) (hp : 0 ≤ p0 ∧ p0 < 60) (hm : 0 ≤ m0 ∧ m0 < 8) (hcl : 0 ≤ cl ∧ cl ≤ 1) (hR : 1 + 1 ≤ R.frames ∧ 8 + (8 + 11) + 64 * 1 ≤ R.locals) (hcat : (st.map fun v => v.category).sum ≤ 8) (hroom : cells ≤ R.cells ∧ slots ≤ R.slots) {rv : Int} (hr : mvS (g 12) (g 14) (g 15) (g 16) (g 13) set p0 m0 cl = rv) (hsb : Sb ws (sW D h f g N M T)) (d : decode cc pc = .ok (.invokevirtual 250, 3)) (K : GO p l e R s mm args below meth c nL D A B cells slots Q (ws) (pc + 3) lv (.int (iI rv) :: st)) : GO p l e R s mm args below meth c nL D A B cells slots Q (ws) (pc) lv (.int (iI cl) :: .int (iI m0) :: .int (iI p0) :: .int (iI set) :: .ref (h 0) :: st) := by
  refine g_callVR C (c_X1_byMove l D C.hl h f g N M T set p0 m0 cl hnp htb hbt hv hco hs hp hm hcl) (As := [.int (iI set), .int (iI p0), .int (iI m0), .int (iI cl)]) (n := 4) (lw_V q958 q960 qs26 q48 q961) (by decide +kernel) rfl rfl hR (rcvH C hsb) rfl rfl hcat ⟨hroom.1, hroom.2⟩ d hsb exT_b hex_t (fun v w hp => ?_) kx_n
  obtain ⟨z, rfl, rfl⟩ := hp
  rw [hr]
  exact K
end MK

end SC11
