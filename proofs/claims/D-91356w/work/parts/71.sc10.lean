/-! ===== contracts of the class: behind ===== -/
section SC10
def cvS (gp bt : Int → Int) (k : Int) : Int := if gp k = -1 then -1 else if bt (gp k) = -1 then -2 else bt (gp k)
def bhS (ld gp bt : Int → Int) (set k cl : Int) : Int := if ld k = -1 then -1 else bhd set (cvS gp bt k) cl
set_option maxHeartbeats 4000000 in
set_option maxRecDepth 100000 in
theorem c_X1_behind (l : Launch) (D : va_G) (hst : l.stackTraces = false) (h : Nat → Nat) (f : Nat → Int) (g : Nat → Int → Int) (N : Nat → Nat) (M : Nat → Nat → Nat) (T : va_W) (set k cl : Int) (hnp : 0 ≤ f 6 ∧ f 6 ≤ 55) (htb : ∀ j, 0 ≤ j → j < 480 → (-1 ≤ g 14 j ∧ g 14 j < 60) ∧ (-1 ≤ g 16 j ∧ g 16 j < f 6)) (hbt : ∀ j, 0 ≤ j → j < f 6 → -1 ≤ g 13 j ∧ g 13 j < 10) (hs : 0 ≤ set ∧ set < 1024) (hk : 0 ≤ k ∧ k < 480) (hcl : 0 ≤ cl ∧ cl ≤ 1) : CT l D yX1_behind (ws_ yX1_behind cX1_behind 5 (some .int)) (rmD 0 0 0) (0) (0) mdR [.ref (h 0), .int (iI set), .int (iI k), .int (iI cl)] (sW D h f g N M T) exT (pI fun z _ => z = bhS (g 14) (g 16) (g 13) set k cl) (xN) := by
  refine ct_R (lv := [(0, .ref (h 0)), (1, .int (iI set)), (2, .int (iI k)), (3, .int (iI cl))]) RX1 (by decide) rfl rfl hst (Nat.le_of_ble_eq_true rfl) rfl ?_
  intro p e s mm args below meth c A C htab hex
  refine g_aload_n C dX1_behind_0 rfl 0 rfl ?_
  refine gs_get14 C dX1_behind_1 ?_
  refine g_iload_n C dX1_behind_4 rfl 2 rfl ?_
  refine gs_ald14 C (v := (g 14) k) rfl dX1_behind_5 (by omega) ?_
  have hf1 := htb (k) (by omega) (by omega)
  refine g_iconst C dX1_behind_6 ?_
  refine g_icmp_ne C (tgt := 12) dX1_behind_7 (by decide) (by omega) (by omega) (fun hc7_2 => ?_) (fun hc7_2 => ?_)
  ·
    refine g_aload_n C dX1_behind_12 rfl 0 rfl ?_
    refine gs_get16 C dX1_behind_13 ?_
    refine g_iload_n C dX1_behind_16 rfl 2 rfl ?_
    refine gs_ald16 C (v := (g 16) k) rfl dX1_behind_17 (by omega) ?_
    have hf3 := htb (k) (by omega) (by omega)
    refine g_iconst C dX1_behind_18 ?_
    refine g_icmp_ne C (tgt := 24) dX1_behind_19 (by decide) (by omega) (by omega) (fun hc19_4 => ?_) (fun hc19_4 => ?_)
    ·
      refine g_aload_n C dX1_behind_24 rfl 0 rfl ?_
      refine gs_get13 C dX1_behind_25 ?_
      refine g_aload_n C dX1_behind_28 rfl 0 rfl ?_
      refine gs_get16 C dX1_behind_29 ?_
      refine g_iload_n C dX1_behind_32 rfl 2 rfl ?_
      refine gs_ald16 C (v := (g 16) k) rfl dX1_behind_33 (by omega) ?_
      have hf5 := htb (k) (by omega) (by omega)
      refine gs_ald13 C (v := (g 13) ((g 16) k)) rfl dX1_behind_34 (by omega) ?_
      have hf6 := hbt ((g 16) k) (by omega) (by omega)
      refine g_istore C dX1_behind_35 (lv' := [(0, .ref (h 0)), (1, .int (iI set)), (2, .int (iI k)), (3, .int (iI cl)), (4, .int (iI ((g 13) ((g 16) k))))]) [1, 2, 3, 4, 0] rfl (Nat.le_of_ble_eq_true rfl) ?_
      refine g_iload_n C dX1_behind_37 rfl 3 rfl ?_
      refine g_if_eq C (tgt := 59) dX1_behind_38 (by decide) (by omega) (fun hc38_7 => ?_) (fun hc38_7 => ?_)
      ·
        refine g_iload C dX1_behind_59 4 rfl ?_
        refine g_iconst C dX1_behind_61 ?_
        refine g_icmp_ne C (tgt := 69) dX1_behind_62 (by decide) (by omega) (by omega) (fun hc62_8 => ?_) (fun hc62_8 => ?_)
        ·
          refine g_iload_n C dX1_behind_69 rfl 1 rfl ?_
          refine g_iconst C dX1_behind_70 ?_
          refine g_iload C dX1_behind_71 4 rfl ?_
          refine g_ishl C dX1_behind_73 (z := shlI 1 ((g 13) ((g 16) k))) (iI_of _).symm ?_
          refine g_ior C dX1_behind_74 (z := orI set (shlI 1 ((g 13) ((g 16) k)))) (iI_of _).symm ?_
          refine g_nilA ?_
          exact g_iret C dX1_behind_75 rfl (Nat.le_of_ble_eq_true rfl) (Nat.le_of_ble_eq_true rfl) ⟨_, rfl, by unfold bhS cvS; rw [if_neg (by omega), if_neg (show ¬ g 16 k = -1 by omega)]; by_cases e9 : g 13 (g 16 k) = -1; (rw [if_pos e9]; unfold bhd; first | omega | (rw [if_neg (by omega), if_pos (by omega), if_neg (by omega)])); (rw [if_neg e9]; unfold bhd; first | omega | (rw [if_neg (by omega), if_neg (by omega), if_neg (by omega)]))⟩
        ·
          refine g_iload_n C dX1_behind_65 rfl 1 rfl ?_
          refine g_goto C (tgt := 75) dX1_behind_66 (by decide) ?_
          refine g_nilA ?_
          exact g_iret C dX1_behind_75 rfl (Nat.le_of_ble_eq_true rfl) (Nat.le_of_ble_eq_true rfl) ⟨_, rfl, by unfold bhS cvS; rw [if_neg (by omega), if_neg (show ¬ g 16 k = -1 by omega)]; by_cases e9 : g 13 (g 16 k) = -1; (rw [if_pos e9]; unfold bhd; first | omega | (rw [if_neg (by omega), if_pos (by omega), if_neg (by omega)])); (rw [if_neg e9]; unfold bhd; first | omega | (rw [if_neg (by omega), if_neg (by omega), if_neg (by omega)]))⟩
      ·
        refine g_iload C dX1_behind_41 4 rfl ?_
        refine g_iconst C dX1_behind_43 ?_
        refine g_icmp_eq C (tgt := 57) dX1_behind_44 (by decide) (by omega) (by omega) (fun hc44_9 => ?_) (fun hc44_9 => ?_)
        ·
          refine g_iconst C dX1_behind_57 ?_
          refine g_nilA ?_
          exact g_iret C dX1_behind_58 rfl (Nat.le_of_ble_eq_true rfl) (Nat.le_of_ble_eq_true rfl) ⟨_, rfl, by unfold bhS cvS; rw [if_neg (by omega), if_neg (show ¬ g 16 k = -1 by omega)]; by_cases e9 : g 13 (g 16 k) = -1; (rw [if_pos e9]; unfold bhd; rw [if_neg (by omega), if_pos (by omega), if_pos (by omega)]); (rw [if_neg e9]; unfold bhd; rw [if_neg (by omega), if_neg (by omega), if_pos (by omega)])⟩
        ·
          refine g_iload_n C dX1_behind_47 rfl 1 rfl ?_
          refine g_iload C dX1_behind_48 4 rfl ?_
          refine g_ishr C dX1_behind_50 (z := shrI set ((g 13) ((g 16) k))) (iI_of _).symm ?_
          refine g_iconst C dX1_behind_51 ?_
          refine g_iand C dX1_behind_52 (z := andI (shrI set ((g 13) ((g 16) k))) 1) (iI_of _).symm ?_
          have ha1 := andI_1 (shrI set (g 13 (g 16 k)))
          refine g_iconst C dX1_behind_53 ?_
          refine g_icmp_ne C (tgt := 59) dX1_behind_54 (by decide) (by omega) (by omega) (fun hc54_10 => ?_) (fun hc54_10 => ?_)
          ·
            refine g_iload C dX1_behind_59 4 rfl ?_
            refine g_iconst C dX1_behind_61 ?_
            refine g_icmp_ne C (tgt := 69) dX1_behind_62 (by decide) (by omega) (by omega) (fun hc62_11 => ?_) (fun hc62_11 => ?_)
            ·
              refine g_iload_n C dX1_behind_69 rfl 1 rfl ?_
              refine g_iconst C dX1_behind_70 ?_
              refine g_iload C dX1_behind_71 4 rfl ?_
              refine g_ishl C dX1_behind_73 (z := shlI 1 ((g 13) ((g 16) k))) (iI_of _).symm ?_
              refine g_ior C dX1_behind_74 (z := orI set (shlI 1 ((g 13) ((g 16) k)))) (iI_of _).symm ?_
              refine g_nilA ?_
              exact g_iret C dX1_behind_75 rfl (Nat.le_of_ble_eq_true rfl) (Nat.le_of_ble_eq_true rfl) ⟨_, rfl, by unfold bhS cvS; rw [if_neg (by omega), if_neg (show ¬ g 16 k = -1 by omega)]; by_cases e9 : g 13 (g 16 k) = -1; (rw [if_pos e9]; unfold bhd; first | omega | (rw [if_neg (by omega), if_pos (by omega), if_neg (by omega)])); (rw [if_neg e9]; unfold bhd; first | omega | (rw [if_neg (by omega), if_neg (by omega), if_neg (by omega)]))⟩
            ·
              refine g_iload_n C dX1_behind_65 rfl 1 rfl ?_
              refine g_goto C (tgt := 75) dX1_behind_66 (by decide) ?_
              refine g_nilA ?_
              exact g_iret C dX1_behind_75 rfl (Nat.le_of_ble_eq_true rfl) (Nat.le_of_ble_eq_true rfl) ⟨_, rfl, by unfold bhS cvS; rw [if_neg (by omega), if_neg (show ¬ g 16 k = -1 by omega)]; by_cases e9 : g 13 (g 16 k) = -1; (rw [if_pos e9]; unfold bhd; first | omega | (rw [if_neg (by omega), if_pos (by omega), if_neg (by omega)])); (rw [if_neg e9]; unfold bhd; first | omega | (rw [if_neg (by omega), if_neg (by omega), if_neg (by omega)]))⟩
          ·
            refine g_iconst C dX1_behind_57 ?_
            refine g_nilA ?_
            exact g_iret C dX1_behind_58 rfl (Nat.le_of_ble_eq_true rfl) (Nat.le_of_ble_eq_true rfl) ⟨_, rfl, by unfold bhS cvS; rw [if_neg (by omega), if_neg (show ¬ g 16 k = -1 by omega)]; by_cases e9 : g 13 (g 16 k) = -1; (rw [if_pos e9]; unfold bhd; rw [if_neg (by omega), if_pos (by omega), if_pos (by omega)]); (rw [if_neg e9]; unfold bhd; rw [if_neg (by omega), if_neg (by omega), if_pos (by omega)])⟩
    ·
      refine g_iload_n C dX1_behind_22 rfl 1 rfl ?_
      refine g_nilA ?_
      exact g_iret C dX1_behind_23 rfl (Nat.le_of_ble_eq_true rfl) (Nat.le_of_ble_eq_true rfl) ⟨_, rfl, by unfold bhS cvS bhd; rw [if_neg (by omega), if_pos (show g 16 k = -1 by omega), if_pos rfl]⟩
  ·
    refine g_iconst C dX1_behind_10 ?_
    refine g_nilA ?_
    exact g_iret C dX1_behind_11 rfl (Nat.le_of_ble_eq_true rfl) (Nat.le_of_ble_eq_true rfl) ⟨_, rfl, by unfold bhS; rw [if_pos (by omega)]⟩

section MK
variable {p : Program} {l : Launch} {e : Env} {R : Room} {s : State} {mm : MethodId} {args : Array Value} {below : List Frame} {meth : Method} {c : Code} {cc : ByteArray} {nL : Nat} {ret : Option FieldType} {D : va_G} {A B : Nat → Prop} {cells slots : Nat} {Q : State → Prop} {pc : Nat} {lv : List (Nat × Value)} {st : List Value}
theorem kX1_X1_behind {ws : va_W} (h : Nat → Nat) (f : Nat → Int) (g : Nat → Int → Int) (N : Nat → Nat) (M : Nat → Nat → Nat) (T : va_W) (set k cl : Int) (C : CX p l s mm args meth c RX1 cc nL ret D A) (hnp : 0 ≤ f 6 ∧ f 6 ≤ 55) (htb : ∀ j, 0 ≤ j → j < 480 → (-1 ≤ g 14 j ∧ g 14 j < 60) ∧ (-1 ≤ g 16 j ∧ g 16 j < f 6)) (hbt : ∀ j, 0 ≤ j → j < f 6 → -1 ≤ g 13 j ∧ g 13 j < 10) (hs : 0 ≤ set ∧ set < 1024) (hk : 0 ≤ k ∧ k < 480) (hcl : 0 ≤ cl ∧ cl ≤ 1) (hR : 0 + 1 ≤ R.frames ∧ 8 + (5 + 11) + 64 * 0 ≤ R.locals) (hcat : (st.map fun v => v.category).sum ≤ 8) (hroom : cells ≤ R.cells ∧ slots ≤ R.slots) {rv : Int} (hr : bhS (g 14) (g 16) (g 13) set k cl = rv) (hsb : Sb ws (sW D h f g N M T)) (d : decode cc pc = .ok (.invokevirtual 246, 3)) (K : GO p l e R s mm args below meth c nL D A B cells slots Q (ws) (pc + 3) lv (.int (iI rv) :: st)) : GO p l e R s mm args below meth c nL D A B cells slots Q (ws) (pc) lv (.int (iI cl) :: .int (iI k) :: .int (iI set) :: .ref (h 0) :: st) := by
  refine g_callVR C (c_X1_behind l D C.hl h f g N M T set k cl hnp htb hbt hs hk hcl) (As := [.int (iI set), .int (iI k), .int (iI cl)]) (n := 3) (lw_V q657 q659 qs13 q48 q660) (by decide +kernel) rfl rfl hR (rcvH C hsb) rfl rfl hcat ⟨hroom.1, hroom.2⟩ d hsb exT_b hex_t (fun v w hp => ?_) kx_n
  obtain ⟨z, rfl, rfl⟩ := hp
  rw [hr]
  exact K
end MK

end SC10
