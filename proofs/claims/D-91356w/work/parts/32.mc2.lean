/-! ===== contracts of the model: the book ===== -/
section MC2
set_option maxHeartbeats 4000000 in
set_option maxRecDepth 100000 in
theorem c_X3_longOf (l : Launch) (D : va_G) (hst : l.stackTraces = false) (h : Nat → Nat) (f : Nat → Int) (g : Nat → Int → Int) (at_ mv : Int) (hF : 1 ≤ f 2 ∧ f 2 ≤ 5) (hS : 2 ≤ f 3 ∧ f 3 ≤ 6) (hth : ∀ j, 0 ≤ j → j < 5 → 1 ≤ g 10 j ∧ g 10 j ≤ 50) (hht : ∀ j, 0 ≤ j → j < 6 → 0 ≤ g 11 j ∧ g 11 j ≤ 400) (hat : 0 ≤ at_ ∧ at_ < 60) (hm : 0 ≤ mv ∧ mv < 8) (hv : lead (f 2) (f 3) (g 12) at_ mv ≠ -1) (hpf : at_ / 2 / 6 < f 2) (hps : at_ / 2 % 6 < f 3) : CT l D yX3_longOf (ws_ yX3_longOf cX3_longOf 5 (some .int)) (rmD 2 0 0) (0) (0) mdR [.ref (h 36), .int (iI at_), .int (iI mv)] (mW D h f g) exT (pI fun z _ => z = leng (g 11) (g 10) at_ mv) xN := by
  refine ct_R (lv := [(0, .ref (h 36)), (1, .int (iI at_)), (2, .int (iI mv))]) RX3 (by decide) rfl rfl hst (Nat.le_of_ble_eq_true rfl) rfl ?_
  intro p e s mm args below meth c A C htab hex
  refine g_iload_n C dX3_longOf_0 rfl 1 rfl ?_
  refine kX3_X3_stationOf at_ C (by omega) ⟨Nat.le_of_ble_eq_true rfl, Nat.le_of_ble_eq_true rfl⟩ (Nat.le_of_ble_eq_true rfl) ⟨Nat.le_of_ble_eq_true rfl, Nat.le_of_ble_eq_true rfl⟩ (rv := at_ / 2 % 6) rfl dX3_longOf_1 ?_
  refine g_istore_n C dX3_longOf_4 rfl (lv' := [(0, .ref (h 36)), (1, .int (iI at_)), (2, .int (iI mv)), (3, .int (iI (at_ / 2 % 6)))]) [1, 2, 3, 0] rfl (Nat.le_of_ble_eq_true rfl) ?_
  refine g_iload_n C dX3_longOf_5 rfl 1 rfl ?_
  refine kX3_X3_foldOf at_ C (by omega) ⟨Nat.le_of_ble_eq_true rfl, Nat.le_of_ble_eq_true rfl⟩ (Nat.le_of_ble_eq_true rfl) ⟨Nat.le_of_ble_eq_true rfl, Nat.le_of_ble_eq_true rfl⟩ (rv := at_ / 2 / 6) rfl dX3_longOf_6 ?_
  refine g_istore C dX3_longOf_9 (lv' := [(0, .ref (h 36)), (1, .int (iI at_)), (2, .int (iI mv)), (3, .int (iI (at_ / 2 % 6))), (4, .int (iI (at_ / 2 / 6)))]) [1, 2, 3, 4, 0] rfl (Nat.le_of_ble_eq_true rfl) ?_
  refine g_iload_n C dX3_longOf_11 rfl 2 rfl ?_
  rcases (show mv = 0 ∨ mv = 1 ∨ mv = 2 ∨ mv = 3 ∨ mv = 4 ∨ mv = 5 ∨ mv = 6 ∨ mv = 7 by omega) with rfl | rfl | rfl | rfl | rfl | rfl | rfl | rfl
  ·
    refine g_table C (tgt := 56) dX3_longOf_12 (by omega) (by omega) rfl (by decide) ?_
    refine g_iconst C dX3_longOf_56 ?_
    refine g_nilA ?_
    exact g_iret C dX3_longOf_57 rfl (Nat.le_of_ble_eq_true rfl) (Nat.le_of_ble_eq_true rfl) ⟨_, rfl, by rw [leng_0]⟩
  ·
    have hq := (leadn_1 hv).1
    refine g_table C (tgt := 58) dX3_longOf_12 (by omega) (by omega) rfl (by decide) ?_
    refine g_aload_n C dX3_longOf_58 rfl 0 rfl ?_
    refine gm_get11 C dX3_longOf_59 ?_
    refine g_iload_n C dX3_longOf_62 rfl 3 rfl ?_
    refine g_iconst C dX3_longOf_63 ?_
    refine g_iadd C dX3_longOf_64 ?_
    refine gm_ald11 C (v := (g 11) ((at_ / 2 % 6) + 1)) rfl dX3_longOf_65 (by omega) ?_
    have hf1 := hht ((at_ / 2 % 6) + 1) (by omega) (by omega)
    refine g_aload_n C dX3_longOf_66 rfl 0 rfl ?_
    refine gm_get11 C dX3_longOf_67 ?_
    refine g_iload_n C dX3_longOf_70 rfl 3 rfl ?_
    refine gm_ald11 C (v := (g 11) (at_ / 2 % 6)) rfl dX3_longOf_71 (by omega) ?_
    have hf2 := hht (at_ / 2 % 6) (by omega) (by omega)
    refine g_isub C dX3_longOf_72 ?_
    refine g_nilA ?_
    exact g_iret C dX3_longOf_73 rfl (Nat.le_of_ble_eq_true rfl) (Nat.le_of_ble_eq_true rfl) ⟨_, rfl, by rw [leng_1]⟩
  ·
    have hq := (leadn_2 hv).1
    refine g_table C (tgt := 74) dX3_longOf_12 (by omega) (by omega) rfl (by decide) ?_
    refine g_aload_n C dX3_longOf_74 rfl 0 rfl ?_
    refine gm_get11 C dX3_longOf_75 ?_
    refine g_iload_n C dX3_longOf_78 rfl 3 rfl ?_
    refine gm_ald11 C (v := (g 11) (at_ / 2 % 6)) rfl dX3_longOf_79 (by omega) ?_
    have hf3 := hht (at_ / 2 % 6) (by omega) (by omega)
    refine g_aload_n C dX3_longOf_80 rfl 0 rfl ?_
    refine gm_get11 C dX3_longOf_81 ?_
    refine g_iload_n C dX3_longOf_84 rfl 3 rfl ?_
    refine g_iconst C dX3_longOf_85 ?_
    refine g_isub C dX3_longOf_86 ?_
    refine gm_ald11 C (v := (g 11) ((at_ / 2 % 6) - 1)) rfl dX3_longOf_87 (by omega) ?_
    have hf4 := hht ((at_ / 2 % 6) - 1) (by omega) (by omega)
    refine g_isub C dX3_longOf_88 ?_
    refine g_nilA ?_
    exact g_iret C dX3_longOf_89 rfl (Nat.le_of_ble_eq_true rfl) (Nat.le_of_ble_eq_true rfl) ⟨_, rfl, by rw [leng_2]⟩
  ·
    have hq := (leadn_3 hv).1
    refine g_table C (tgt := 90) dX3_longOf_12 (by omega) (by omega) rfl (by decide) ?_
    refine g_aload_n C dX3_longOf_90 rfl 0 rfl ?_
    refine gm_get11 C dX3_longOf_91 ?_
    refine g_iload_n C dX3_longOf_94 rfl 3 rfl ?_
    refine g_iconst C dX3_longOf_95 ?_
    refine g_iadd C dX3_longOf_96 ?_
    refine gm_ald11 C (v := (g 11) ((at_ / 2 % 6) + 1)) rfl dX3_longOf_97 (by omega) ?_
    have hf5 := hht ((at_ / 2 % 6) + 1) (by omega) (by omega)
    refine g_aload_n C dX3_longOf_98 rfl 0 rfl ?_
    refine gm_get11 C dX3_longOf_99 ?_
    refine g_iload_n C dX3_longOf_102 rfl 3 rfl ?_
    refine gm_ald11 C (v := (g 11) (at_ / 2 % 6)) rfl dX3_longOf_103 (by omega) ?_
    have hf6 := hht (at_ / 2 % 6) (by omega) (by omega)
    refine g_isub C dX3_longOf_104 ?_
    refine g_iconst C dX3_longOf_105 ?_
    refine g_iadd C dX3_longOf_106 ?_
    refine g_nilA ?_
    exact g_iret C dX3_longOf_107 rfl (Nat.le_of_ble_eq_true rfl) (Nat.le_of_ble_eq_true rfl) ⟨_, rfl, by rw [leng_3]⟩
  ·
    have hq := (leadn_4 hv).1
    refine g_table C (tgt := 108) dX3_longOf_12 (by omega) (by omega) rfl (by decide) ?_
    refine g_aload_n C dX3_longOf_108 rfl 0 rfl ?_
    refine gm_get11 C dX3_longOf_109 ?_
    refine g_iload_n C dX3_longOf_112 rfl 3 rfl ?_
    refine gm_ald11 C (v := (g 11) (at_ / 2 % 6)) rfl dX3_longOf_113 (by omega) ?_
    have hf7 := hht (at_ / 2 % 6) (by omega) (by omega)
    refine g_aload_n C dX3_longOf_114 rfl 0 rfl ?_
    refine gm_get11 C dX3_longOf_115 ?_
    refine g_iload_n C dX3_longOf_118 rfl 3 rfl ?_
    refine g_iconst C dX3_longOf_119 ?_
    refine g_isub C dX3_longOf_120 ?_
    refine gm_ald11 C (v := (g 11) ((at_ / 2 % 6) - 1)) rfl dX3_longOf_121 (by omega) ?_
    have hf8 := hht ((at_ / 2 % 6) - 1) (by omega) (by omega)
    refine g_isub C dX3_longOf_122 ?_
    refine g_iconst C dX3_longOf_123 ?_
    refine g_iadd C dX3_longOf_124 ?_
    refine g_nilA ?_
    exact g_iret C dX3_longOf_125 rfl (Nat.le_of_ble_eq_true rfl) (Nat.le_of_ble_eq_true rfl) ⟨_, rfl, by rw [leng_4]⟩
  ·
    have hq := (leadn_5 hv).1
    refine g_table C (tgt := 126) dX3_longOf_12 (by omega) (by omega) rfl (by decide) ?_
    refine g_iconst C dX3_longOf_126 ?_
    refine g_nilA ?_
    exact g_iret C dX3_longOf_127 rfl (Nat.le_of_ble_eq_true rfl) (Nat.le_of_ble_eq_true rfl) ⟨_, rfl, by rw [leng_5]⟩
  ·
    have hq := (leadn_6 hv).1
    refine g_table C (tgt := 128) dX3_longOf_12 (by omega) (by omega) rfl (by decide) ?_
    refine g_aload_n C dX3_longOf_128 rfl 0 rfl ?_
    refine gm_get10 C dX3_longOf_129 ?_
    refine g_iload C dX3_longOf_132 4 rfl ?_
    refine gm_ald10 C (v := (g 10) (at_ / 2 / 6)) rfl dX3_longOf_134 (by omega) ?_
    have hf9 := hth (at_ / 2 / 6) (by omega) (by omega)
    refine g_aload_n C dX3_longOf_135 rfl 0 rfl ?_
    refine gm_get10 C dX3_longOf_136 ?_
    refine g_iload C dX3_longOf_139 4 rfl ?_
    refine g_iconst C dX3_longOf_141 ?_
    refine g_iadd C dX3_longOf_142 ?_
    refine gm_ald10 C (v := (g 10) ((at_ / 2 / 6) + 1)) rfl dX3_longOf_143 (by omega) ?_
    have hf10 := hth ((at_ / 2 / 6) + 1) (by omega) (by omega)
    refine g_iadd C dX3_longOf_144 ?_
    refine g_iconst C dX3_longOf_145 ?_
    refine g_iadd C dX3_longOf_146 ?_
    refine g_iconst C dX3_longOf_147 ?_
    refine g_idiv C dX3_longOf_148 (by omega) (by omega) ?_
    refine g_nilA ?_
    exact g_iret C dX3_longOf_149 rfl (Nat.le_of_ble_eq_true rfl) (Nat.le_of_ble_eq_true rfl) ⟨_, rfl, by rw [leng_6]⟩
  ·
    have hq := (leadn_7 hv).1
    refine g_tableD C (tgt := 150) dX3_longOf_12 (by omega) (by omega) (by decide) ?_
    refine g_aload_n C dX3_longOf_150 rfl 0 rfl ?_
    refine gm_get10 C dX3_longOf_151 ?_
    refine g_iload C dX3_longOf_154 4 rfl ?_
    refine gm_ald10 C (v := (g 10) (at_ / 2 / 6)) rfl dX3_longOf_156 (by omega) ?_
    have hf11 := hth (at_ / 2 / 6) (by omega) (by omega)
    refine g_aload_n C dX3_longOf_157 rfl 0 rfl ?_
    refine gm_get10 C dX3_longOf_158 ?_
    refine g_iload C dX3_longOf_161 4 rfl ?_
    refine g_iconst C dX3_longOf_163 ?_
    refine g_isub C dX3_longOf_164 ?_
    refine gm_ald10 C (v := (g 10) ((at_ / 2 / 6) - 1)) rfl dX3_longOf_165 (by omega) ?_
    have hf12 := hth ((at_ / 2 / 6) - 1) (by omega) (by omega)
    refine g_iadd C dX3_longOf_166 ?_
    refine g_iconst C dX3_longOf_167 ?_
    refine g_iadd C dX3_longOf_168 ?_
    refine g_iconst C dX3_longOf_169 ?_
    refine g_idiv C dX3_longOf_170 (by omega) (by omega) ?_
    refine g_nilA ?_
    exact g_iret C dX3_longOf_171 rfl (Nat.le_of_ble_eq_true rfl) (Nat.le_of_ble_eq_true rfl) ⟨_, rfl, by rw [leng_7]⟩

section MK
variable {p : Program} {l : Launch} {e : Env} {R : Room} {s : State} {mm : MethodId} {args : Array Value} {below : List Frame} {meth : Method} {c : Code} {cc : ByteArray} {nL : Nat} {ret : Option FieldType} {D : va_G} {A B : Nat → Prop} {cells slots : Nat} {Q : State → Prop} {pc : Nat} {lv : List (Nat × Value)} {st : List Value}
theorem kX3_X3_longOf {h : Nat → Nat} {f : Nat → Int} {g : Nat → Int → Int} (at_ mv : Int) (C : CX p l s mm args meth c RX3 cc nL ret D A) (hF : 1 ≤ f 2 ∧ f 2 ≤ 5) (hS : 2 ≤ f 3 ∧ f 3 ≤ 6) (hth : ∀ j, 0 ≤ j → j < 5 → 1 ≤ g 10 j ∧ g 10 j ≤ 50) (hht : ∀ j, 0 ≤ j → j < 6 → 0 ≤ g 11 j ∧ g 11 j ≤ 400) (hat : 0 ≤ at_ ∧ at_ < 60) (hm : 0 ≤ mv ∧ mv < 8) (hv : lead (f 2) (f 3) (g 12) at_ mv ≠ -1) (hpf : at_ / 2 / 6 < f 2) (hps : at_ / 2 % 6 < f 3) (hR : 2 + 1 ≤ R.frames ∧ 8 + (5 + 11) + 64 * 2 ≤ R.locals) (hcat : (st.map fun v => v.category).sum ≤ 8) (hroom : cells ≤ R.cells ∧ slots ≤ R.slots) {rv : Int} (hr : leng (g 11) (g 10) at_ mv = rv) (d : decode cc pc = .ok (.invokevirtual 178, 3)) (K : GO p l e R s mm args below meth c nL D A B cells slots Q (mW D h f g) (pc + 3) lv (.int (iI rv) :: st)) : GO p l e R s mm args below meth c nL D A B cells slots Q (mW D h f g) (pc) lv (.int (iI mv) :: .int (iI at_) :: .ref (h 36) :: st) := by
  refine g_callVR C (c_X3_longOf l D C.hl h f g at_ mv hF hS hth hht hat hm hv hpf hps) (As := [.int (iI at_), .int (iI mv)]) (n := 2) (lw_V q1228 q1230 qs40 q69 q1231) (by decide +kernel) rfl rfl hR (rcv C 0 rfl rfl rfl) rfl rfl hcat ⟨hroom.1, hroom.2⟩ d Sb.rf exT_b hex_t (fun v w hp => ?_) kx_n
  obtain ⟨z, rfl, rfl⟩ := hp
  rw [hr]
  exact K
end MK
set_option maxHeartbeats 4000000 in
set_option maxRecDepth 100000 in
theorem c_X3_alongOf (l : Launch) (D : va_G) (hst : l.stackTraces = false) (h : Nat → Nat) (f : Nat → Int) (g : Nat → Int → Int) (at_ mv : Int) (hnp : 0 ≤ f 8 ∧ f 8 ≤ 55) (hpt : ∀ j, 0 ≤ j → j < f 8 → (0 ≤ g 14 j ∧ g 14 j ≤ 4) ∧ (0 ≤ g 15 j ∧ g 15 j ≤ 5) ∧ (0 ≤ g 16 j ∧ g 16 j ≤ 2) ∧ (0 ≤ g 17 j ∧ g 17 j ≤ 1)) (hat : 0 ≤ at_ ∧ at_ < 60) (hm : 0 ≤ mv ∧ mv < 8) : CT l D yX3_alongOf (ws_ yX3_alongOf cX3_alongOf 6 (some .int)) (rmD 2 0 0) (0) (0) mdR [.ref (h 36), .int (iI at_), .int (iI mv)] (mW D h f g) exT (pI fun z _ => z = alg (f 8) (g 14) (g 15) (g 16) at_ mv) xN := by
  refine ct_R (lv := [(0, .ref (h 36)), (1, .int (iI at_)), (2, .int (iI mv))]) RX3 (by decide) rfl rfl hst (Nat.le_of_ble_eq_true rfl) rfl ?_
  intro p e s mm args below meth c A C htab hex
  refine g_iload_n C dX3_alongOf_0 rfl 2 rfl ?_
  refine g_if_eq C (tgt := 9) dX3_alongOf_1 (by decide) (by omega) (fun hc1_1 => ?_) (fun hc1_1 => ?_)
  ·
    refine g_iconst C dX3_alongOf_9 ?_
    refine g_nilA ?_
    exact g_iret C dX3_alongOf_10 rfl (Nat.le_of_ble_eq_true rfl) (Nat.le_of_ble_eq_true rfl) ⟨_, rfl, by unfold alg; rw [if_pos (by omega)]⟩
  ·
    refine g_iload_n C dX3_alongOf_4 rfl 2 rfl ?_
    refine g_iconst C dX3_alongOf_5 ?_
    refine g_icmp_le C (tgt := 11) dX3_alongOf_6 (by decide) (by omega) (by omega) (fun hc6_2 => ?_) (fun hc6_2 => ?_)
    ·
      have J3 : ∀ (sv : Int), (sv = if mv = 2 ∨ mv = 4 then at_ / 2 % 6 - 1 else at_ / 2 % 6) → GO p l e (rmD 2 0 0) s mm args below meth c 6 D A (fun _ => True) 0 0 (MX below D A (pI fun z _ => z = alg (f 8) (g 14) (g 15) (g 16) at_ mv) xN args s (0) (0)) (mW D h f g) 34 [(0, .ref (h 36)), (1, .int (iI at_)), (2, .int (iI mv))] [.int (iI sv)] := by
        intro sv hsv
        refine g_istore_n C dX3_alongOf_34 rfl (lv' := [(0, .ref (h 36)), (1, .int (iI at_)), (2, .int (iI mv)), (3, .int (iI sv))]) [1, 2, 3, 0] rfl (Nat.le_of_ble_eq_true rfl) ?_
        have J4 : ∀ (wv : Int), (wv = if mv < 3 then 0 else if mv < 5 then 2 else 1) → GO p l e (rmD 2 0 0) s mm args below meth c 6 D A (fun _ => True) 0 0 (MX below D A (pI fun z _ => z = alg (f 8) (g 14) (g 15) (g 16) at_ mv) xN args s (0) (0)) (mW D h f g) 54 [(0, .ref (h 36)), (1, .int (iI at_)), (2, .int (iI mv)), (3, .int (iI sv))] [.int (iI wv)] := by
          intro wv hwv
          have hwv2 : 0 ≤ wv ∧ wv ≤ 2 := by rw [hwv]; (repeat' split) <;> omega
          have hsv2 : -1 ≤ sv ∧ sv ≤ 5 := by rw [hsv]; split <;> omega
          have hal : alg (f 8) (g 14) (g 15) (g 16) at_ mv = fndF (g 14) (g 15) (g 16) (at_ / 2 / 6) sv wv (f 8 - 0).toNat 0 := by unfold alg fnd; rw [if_neg (by omega), hsv, hwv, Int.sub_zero]
          refine g_istore C dX3_alongOf_54 (lv' := [(0, .ref (h 36)), (1, .int (iI at_)), (2, .int (iI mv)), (3, .int (iI sv)), (4, .int (iI wv))]) [1, 2, 3, 4, 0] rfl (Nat.le_of_ble_eq_true rfl) ?_
          refine g_iconst C dX3_alongOf_56 ?_
          refine g_istore C dX3_alongOf_57 (lv' := [(0, .ref (h 36)), (1, .int (iI at_)), (2, .int (iI mv)), (3, .int (iI sv)), (4, .int (iI wv)), (5, .int (iI 0))]) [1, 2, 3, 4, 5, 0] rfl (Nat.le_of_ble_eq_true rfl) ?_
          have L5 : ∀ (n : Nat) (k : Int), (0 ≤ k ∧ k ≤ f 8) → (alg (f 8) (g 14) (g 15) (g 16) at_ mv = fndF (g 14) (g 15) (g 16) (at_ / 2 / 6) sv wv (f 8 - k).toNat k) → (f 8 - k).toNat < n → GO p l e (rmD 2 0 0) s mm args below meth c 6 D A (fun _ => True) 0 0 (MX below D A (pI fun z _ => z = alg (f 8) (g 14) (g 15) (g 16) at_ mv) xN args s (0) (0)) (mW D h f g) 59 [(0, .ref (h 36)), (1, .int (iI at_)), (2, .int (iI mv)), (3, .int (iI sv)), (4, .int (iI wv)), (5, .int (iI k))] [] := by
            intro n
            induction n with
            | zero => intro k hk hfk hm; exact absurd hm (Nat.not_lt_zero _)
            | succ n ih5 =>
              intro k hk hfk hm5
              refine g_iload C dX3_alongOf_59 5 rfl ?_
              refine g_aload_n C dX3_alongOf_61 rfl 0 rfl ?_
              refine gm_get8 C (v := f 8) rfl dX3_alongOf_62 ?_
              refine g_icmp_ge C (tgt := 114) dX3_alongOf_65 (by decide) (by omega) (by omega) (fun hc65_6 => ?_) (fun hc65_6 => ?_)
              ·
                refine g_iconst C dX3_alongOf_114 ?_
                refine g_nilA ?_
                exact g_iret C dX3_alongOf_115 rfl (Nat.le_of_ble_eq_true rfl) (Nat.le_of_ble_eq_true rfl) ⟨_, rfl, by rw [hfk, fndF_end (by omega)]⟩
              ·
                refine g_aload_n C dX3_alongOf_68 rfl 0 rfl ?_
                refine gm_get14 C dX3_alongOf_69 ?_
                refine g_iload C dX3_alongOf_72 5 rfl ?_
                refine gm_ald14 C (v := (g 14) k) rfl dX3_alongOf_74 (by omega) ?_
                have hf7 := hpt (k) (by omega) (by omega)
                refine g_iload_n C dX3_alongOf_75 rfl 1 rfl ?_
                refine kX3_X3_foldOf at_ C (by omega) ⟨Nat.le_of_ble_eq_true rfl, Nat.le_of_ble_eq_true rfl⟩ (Nat.le_of_ble_eq_true rfl) ⟨Nat.le_of_ble_eq_true rfl, Nat.le_of_ble_eq_true rfl⟩ (rv := at_ / 2 / 6) rfl dX3_alongOf_76 ?_
                refine g_icmp_ne C (tgt := 108) dX3_alongOf_79 (by decide) (by omega) (by omega) (fun hc79_8 => ?_) (fun hc79_8 => ?_)
                ·
                  refine g_iinc C dX3_alongOf_108 5 rfl (lv' := [(0, .ref (h 36)), (1, .int (iI at_)), (2, .int (iI mv)), (3, .int (iI sv)), (4, .int (iI wv)), (5, .int (iI (k + 1)))]) [1, 2, 3, 4, 5, 0] rfl (Nat.le_of_ble_eq_true rfl) ?_
                  refine g_goto C (tgt := 59) dX3_alongOf_111 (by decide) ?_
                  exact ih5 (k + 1) (by omega) (by rw [hfk, fndF_step (by omega), if_neg (by omega)]) (by omega)
                ·
                  refine g_aload_n C dX3_alongOf_82 rfl 0 rfl ?_
                  refine gm_get15 C dX3_alongOf_83 ?_
                  refine g_iload C dX3_alongOf_86 5 rfl ?_
                  refine gm_ald15 C (v := (g 15) k) rfl dX3_alongOf_88 (by omega) ?_
                  have hf9 := hpt (k) (by omega) (by omega)
                  refine g_iload_n C dX3_alongOf_89 rfl 3 rfl ?_
                  refine g_icmp_ne C (tgt := 108) dX3_alongOf_90 (by decide) (by omega) (by omega) (fun hc90_10 => ?_) (fun hc90_10 => ?_)
                  ·
                    refine g_iinc C dX3_alongOf_108 5 rfl (lv' := [(0, .ref (h 36)), (1, .int (iI at_)), (2, .int (iI mv)), (3, .int (iI sv)), (4, .int (iI wv)), (5, .int (iI (k + 1)))]) [1, 2, 3, 4, 5, 0] rfl (Nat.le_of_ble_eq_true rfl) ?_
                    refine g_goto C (tgt := 59) dX3_alongOf_111 (by decide) ?_
                    exact ih5 (k + 1) (by omega) (by rw [hfk, fndF_step (by omega), if_neg (by omega)]) (by omega)
                  ·
                    refine g_aload_n C dX3_alongOf_93 rfl 0 rfl ?_
                    refine gm_get16 C dX3_alongOf_94 ?_
                    refine g_iload C dX3_alongOf_97 5 rfl ?_
                    refine gm_ald16 C (v := (g 16) k) rfl dX3_alongOf_99 (by omega) ?_
                    have hf11 := hpt (k) (by omega) (by omega)
                    refine g_iload C dX3_alongOf_100 4 rfl ?_
                    refine g_icmp_ne C (tgt := 108) dX3_alongOf_102 (by decide) (by omega) (by omega) (fun hc102_12 => ?_) (fun hc102_12 => ?_)
                    ·
                      refine g_iinc C dX3_alongOf_108 5 rfl (lv' := [(0, .ref (h 36)), (1, .int (iI at_)), (2, .int (iI mv)), (3, .int (iI sv)), (4, .int (iI wv)), (5, .int (iI (k + 1)))]) [1, 2, 3, 4, 5, 0] rfl (Nat.le_of_ble_eq_true rfl) ?_
                      refine g_goto C (tgt := 59) dX3_alongOf_111 (by decide) ?_
                      exact ih5 (k + 1) (by omega) (by rw [hfk, fndF_step (by omega), if_neg (by omega)]) (by omega)
                    ·
                      refine g_iload C dX3_alongOf_105 5 rfl ?_
                      refine g_nilA ?_
                      exact g_iret C dX3_alongOf_107 rfl (Nat.le_of_ble_eq_true rfl) (Nat.le_of_ble_eq_true rfl) ⟨_, rfl, by rw [hfk, fndF_step (by omega), if_pos (by omega)]⟩
          exact L5 _ 0 (by omega) hal (Nat.lt_succ_self _)
        refine g_iload_n C dX3_alongOf_35 rfl 2 rfl ?_
        refine g_iconst C dX3_alongOf_36 ?_
        refine g_icmp_ge C (tgt := 44) dX3_alongOf_37 (by decide) (by omega) (by omega) (fun hc37_13 => ?_) (fun hc37_13 => ?_)
        ·
          refine g_iload_n C dX3_alongOf_44 rfl 2 rfl ?_
          refine g_iconst C dX3_alongOf_45 ?_
          refine g_icmp_ge C (tgt := 53) dX3_alongOf_46 (by decide) (by omega) (by omega) (fun hc46_14 => ?_) (fun hc46_14 => ?_)
          ·
            refine g_iconst C dX3_alongOf_53 ?_
            exact J4 1 (by (repeat' split) <;> omega)
          ·
            refine g_iconst C dX3_alongOf_49 ?_
            refine g_goto C (tgt := 54) dX3_alongOf_50 (by decide) ?_
            exact J4 2 (by (repeat' split) <;> omega)
        ·
          refine g_iconst C dX3_alongOf_40 ?_
          refine g_goto C (tgt := 54) dX3_alongOf_41 (by decide) ?_
          exact J4 0 (by (repeat' split) <;> omega)
      refine g_iload_n C dX3_alongOf_11 rfl 2 rfl ?_
      refine g_iconst C dX3_alongOf_12 ?_
      refine g_icmp_eq C (tgt := 21) dX3_alongOf_13 (by decide) (by omega) (by omega) (fun hc13_15 => ?_) (fun hc13_15 => ?_)
      ·
        refine g_iload_n C dX3_alongOf_21 rfl 1 rfl ?_
        refine kX3_X3_stationOf at_ C (by omega) ⟨Nat.le_of_ble_eq_true rfl, Nat.le_of_ble_eq_true rfl⟩ (Nat.le_of_ble_eq_true rfl) ⟨Nat.le_of_ble_eq_true rfl, Nat.le_of_ble_eq_true rfl⟩ (rv := at_ / 2 % 6) rfl dX3_alongOf_22 ?_
        refine g_iconst C dX3_alongOf_25 ?_
        refine g_isub C dX3_alongOf_26 ?_
        refine g_goto C (tgt := 34) dX3_alongOf_27 (by decide) ?_
        exact J3 ((at_ / 2 % 6) - 1) (by (try split) <;> omega)
      ·
        refine g_iload_n C dX3_alongOf_16 rfl 2 rfl ?_
        refine g_iconst C dX3_alongOf_17 ?_
        refine g_icmp_ne C (tgt := 30) dX3_alongOf_18 (by decide) (by omega) (by omega) (fun hc18_16 => ?_) (fun hc18_16 => ?_)
        ·
          refine g_iload_n C dX3_alongOf_30 rfl 1 rfl ?_
          refine kX3_X3_stationOf at_ C (by omega) ⟨Nat.le_of_ble_eq_true rfl, Nat.le_of_ble_eq_true rfl⟩ (Nat.le_of_ble_eq_true rfl) ⟨Nat.le_of_ble_eq_true rfl, Nat.le_of_ble_eq_true rfl⟩ (rv := at_ / 2 % 6) rfl dX3_alongOf_31 ?_
          exact J3 (at_ / 2 % 6) (by (try split) <;> omega)
        ·
          refine g_iload_n C dX3_alongOf_21 rfl 1 rfl ?_
          refine kX3_X3_stationOf at_ C (by omega) ⟨Nat.le_of_ble_eq_true rfl, Nat.le_of_ble_eq_true rfl⟩ (Nat.le_of_ble_eq_true rfl) ⟨Nat.le_of_ble_eq_true rfl, Nat.le_of_ble_eq_true rfl⟩ (rv := at_ / 2 % 6) rfl dX3_alongOf_22 ?_
          refine g_iconst C dX3_alongOf_25 ?_
          refine g_isub C dX3_alongOf_26 ?_
          refine g_goto C (tgt := 34) dX3_alongOf_27 (by decide) ?_
          exact J3 ((at_ / 2 % 6) - 1) (by (try split) <;> omega)
    ·
      refine g_iconst C dX3_alongOf_9 ?_
      refine g_nilA ?_
      exact g_iret C dX3_alongOf_10 rfl (Nat.le_of_ble_eq_true rfl) (Nat.le_of_ble_eq_true rfl) ⟨_, rfl, by unfold alg; rw [if_pos (by omega)]⟩

section MK
variable {p : Program} {l : Launch} {e : Env} {R : Room} {s : State} {mm : MethodId} {args : Array Value} {below : List Frame} {meth : Method} {c : Code} {cc : ByteArray} {nL : Nat} {ret : Option FieldType} {D : va_G} {A B : Nat → Prop} {cells slots : Nat} {Q : State → Prop} {pc : Nat} {lv : List (Nat × Value)} {st : List Value}
theorem kX3_X3_alongOf {h : Nat → Nat} {f : Nat → Int} {g : Nat → Int → Int} (at_ mv : Int) (C : CX p l s mm args meth c RX3 cc nL ret D A) (hnp : 0 ≤ f 8 ∧ f 8 ≤ 55) (hpt : ∀ j, 0 ≤ j → j < f 8 → (0 ≤ g 14 j ∧ g 14 j ≤ 4) ∧ (0 ≤ g 15 j ∧ g 15 j ≤ 5) ∧ (0 ≤ g 16 j ∧ g 16 j ≤ 2) ∧ (0 ≤ g 17 j ∧ g 17 j ≤ 1)) (hat : 0 ≤ at_ ∧ at_ < 60) (hm : 0 ≤ mv ∧ mv < 8) (hR : 2 + 1 ≤ R.frames ∧ 8 + (6 + 11) + 64 * 2 ≤ R.locals) (hcat : (st.map fun v => v.category).sum ≤ 8) (hroom : cells ≤ R.cells ∧ slots ≤ R.slots) {rv : Int} (hr : alg (f 8) (g 14) (g 15) (g 16) at_ mv = rv) (d : decode cc pc = .ok (.invokevirtual 175, 3)) (K : GO p l e R s mm args below meth c nL D A B cells slots Q (mW D h f g) (pc + 3) lv (.int (iI rv) :: st)) : GO p l e R s mm args below meth c nL D A B cells slots Q (mW D h f g) (pc) lv (.int (iI mv) :: .int (iI at_) :: .ref (h 36) :: st) := by
  refine g_callVR C (c_X3_alongOf l D C.hl h f g at_ mv hnp hpt hat hm) (As := [.int (iI at_), .int (iI mv)]) (n := 2) (lw_V q1224 q1226 qs39 q69 q1227) (by decide +kernel) rfl rfl hR (rcv C 0 rfl rfl rfl) rfl rfl hcat ⟨hroom.1, hroom.2⟩ d Sb.rf exT_b hex_t (fun v w hp => ?_) kx_n
  obtain ⟨z, rfl, rfl⟩ := hp
  rw [hr]
  exact K
end MK
end MC2
