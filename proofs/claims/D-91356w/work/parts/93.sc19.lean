/-! ===== contracts of the class: isThread, marks ===== -/
theorem rJ_s {y : Int → Int} {k : Int} {v : Int64} : rJ (uI y k v.toInt) k = v := by
  show Int64.ofInt (uI y k v.toInt k) = v
  rw [uI_s, jof]
theorem rJ_n {y : Int → Int} {k j : Int} {v : Int64} (h : j ≠ k) : rJ (uI y k v.toInt) j = rJ y j := by
  show Int64.ofInt (uI y k v.toInt j) = _
  rw [uI_n h]
section RC2
variable {LD GP bt y : Int → Int} {full start t : Int} {w : Int64}
theorem rJ_up (h : bsub (rJ y t) w) {j q : Int} (h0 : 0 ≤ q) (h1 : q < 60) (h2 : jB (rJ y j) q = true) : jB (rJ (uI y t w.toInt) j) q = true := by
  by_cases e : j = t
  · subst e; rw [rJ_s]; exact h q h0 h1 h2
  · rw [rJ_n e]; exact h2
theorem ClR_up {M : Int} (hT : ∀ j, 0 ≤ j → j < 480 → -1 ≤ LD j ∧ LD j < 60) (hM : M ≤ t) (h : bsub (rJ y t) w) (hC : ClR LD GP bt M y) : ClR LD GP bt M (uI y t w.toInt) := by
  intro m k h0 h1 h2 h3 h4 h5
  rw [rJ_n (by omega)] at h4
  have hk := hT k h2 h3
  have hl : LD k ≠ -1 := fun q => h5 (by unfold bhS; rw [if_pos q])
  exact rJ_up h (by omega) (by omega) (hC m k h0 h1 h2 h3 h4 h5)
theorem SdR_ar (ht : 0 ≤ t ∧ t ≤ full) (hS : SdR LD GP bt full start y) (h : ARd LD GP (rJ y t) w) : SdR LD GP bt full start (uI y t w.toInt) := by
  intro m p m0 m1 p0 p1 hb
  by_cases e : m = t
  · subst e
    rw [rJ_s] at hb
    refine h.2.2 (fun q => Rc LD GP bt full start m q) (fun q q0 q1 q2 => hS m q m0 m1 q0 q1 q2) (fun k k0 k1 k2 k3 k4 => ?_) p p0 p1 hb
    have h9 := bh_free (bt := bt) (m := m) k3 k4
    have := Rc.go (LD := LD) (GP := GP) (bt := bt) ⟨m0, m1⟩ ⟨k0, k1⟩ k2 (by rw [h9]; omega)
    rw [h9] at this; exact this
  · rw [rJ_n e] at hb; exact hS m p m0 m1 p0 p1 hb
theorem SdR_y {M k : Int} (hT : ∀ j, 0 ≤ j → j < 480 → -1 ≤ LD j ∧ LD j < 60) (hM : 0 ≤ M ∧ M ≤ full) (hk : 0 ≤ k ∧ k < 480) (hl : LD k ≠ -1) (hS : SdR LD GP bt full start y) (hb : jB (rJ y M) (k / 8) = true) (hn : bhS LD GP bt M k 1 ≠ -1) : SdR LD GP bt full start (uI y (bhS LD GP bt M k 1) (rJ y (bhS LD GP bt M k 1) ||| ((1 : Int64) <<< ((iI (LD k)).toInt64 &&& 63))).toInt) := by
  intro m p m0 m1 p0 p1 h
  have hr := hT k hk.1 hk.2
  by_cases e : m = bhS LD GP bt M k 1
  · rw [e, rJ_s, jB_or ⟨by omega, by omega⟩ ⟨p0, p1⟩, Bool.or_eq_true] at h
    rcases h with h | h
    · exact hS m p m0 m1 p0 p1 (by rw [e]; exact h)
    · rw [e, of_decide_eq_true h]
      exact Rc.go hM hk (hS M (k / 8) hM.1 hM.2 (by omega) (by omega) hb) hn
  · rw [rJ_n e] at h; exact hS m p m0 m1 p0 p1 h
theorem UpR_x {M K : Int} (h : UpR LD GP bt M K y) (hx : ¬ M < bhS LD GP bt M K 1) : UpR LD GP bt M (K + 1) y := fun k h0 h1 h2 h3 => by
  by_cases e : k = K
  · subst e; exact absurd h3 hx
  · exact h k h0 (by omega) h2 h3
theorem UpR_8 {M p : Int} (h : UpR LD GP bt M (8 * p) y) (hx : jB (rJ y M) p = false) : UpR LD GP bt M (8 * (p + 1)) y := fun k h0 h1 h2 h3 => by
  by_cases e : k < 8 * p
  · exact h k h0 e h2 h3
  · rw [show k / 8 = p by omega, hx] at h2; exact absurd h2 (by decide)
theorem UpR_y {M K : Int} (hT : ∀ j, 0 ≤ j → j < 480 → -1 ≤ LD j ∧ LD j < 60) (hK : 0 ≤ K ∧ K < 480) (hl : LD K ≠ -1) (h : UpR LD GP bt M K y) (hx : M < bhS LD GP bt M K 1) (hld : ∀ k, 0 ≤ k → k < K → M < bhS LD GP bt M k 1 → LD k ≠ -1) : UpR LD GP bt M (K + 1) (uI y (bhS LD GP bt M K 1) (rJ y (bhS LD GP bt M K 1) ||| ((1 : Int64) <<< ((iI (LD K)).toInt64 &&& 63))).toInt) := fun k h0 h1 h2 h3 => by
  have hr := hT K hK.1 hK.2
  rw [rJ_n (by omega)] at h2
  by_cases e : k = K
  · subst e; rw [rJ_s, jB_or ⟨by omega, by omega⟩ ⟨by omega, by omega⟩, decide_eq_true rfl, Bool.or_true]
  · have hrk := hT k h0 (by omega)
    have := hld k h0 (by omega) h3
    exact rJ_up (bsub_or ⟨by omega, by omega⟩) (by omega) (by omega) (h k h0 (by omega) h2 h3)
theorem ClR_s {M : Int} {n : Nat} (hn : n ≤ 10) (hM : 0 ≤ M ∧ M < 2 ^ n) (hb : ∀ k, 0 ≤ k → k < 480 → GP k ≠ -1 → -1 ≤ bt (GP k) ∧ bt (GP k) < n) (hC : ClR LD GP bt M y) (hF : fsK LD GP (rJ y M) (rJ y M) 480) (hU : UpR LD GP bt M 480 y) : ClR LD GP bt (M + 1) y := by
  intro m k h0 h1 h2 h3 h4 h5
  by_cases e : m = M
  · subst e
    rcases bh_rg (LD := LD) (GP := GP) (bt := bt) (k := k) hn hM (hb k h2 h3) with q | ⟨q1, q2, q3, q4⟩
    · exact absurd q h5
    · by_cases z : bhS LD GP bt m k 1 = m
      · rw [z]; exact hF k h2 h3 h4 q1 (q4 z)
      · exact hU k h2 h3 h4 (by omega)
  · exact hC m k h0 (by omega) h2 h3 h4 h5
theorem ClR_0 {M : Int} (hC : ClR LD GP bt M y) (hz : rJ y M = 0) : ClR LD GP bt (M + 1) y := by
  intro m k h0 h1 h2 h3 h4 h5
  by_cases e : m = M
  · subst e; rw [hz, jB_0] at h4; exact absurd h4 (by decide)
  · exact hC m k h0 (by omega) h2 h3 h4 h5
theorem Rc_end {n : Nat} (hn : n ≤ 10) (hT : ∀ j, 0 ≤ j → j < 480 → -1 ≤ LD j ∧ LD j < 60) (hb : ∀ k, 0 ≤ k → k < 480 → GP k ≠ -1 → -1 ≤ bt (GP k) ∧ bt (GP k) < n) (hst : 0 ≤ start ∧ start < 60) (hS : SdR LD GP bt (2 ^ n - 1) start y) (hI : jB (rJ y 0) start = true) (hC : ClR LD GP bt (2 ^ n) y) : jB (rJ y (2 ^ n - 1)) start = true ↔ Rc LD GP bt (2 ^ n - 1) start (2 ^ n - 1) start := by
  have hp1 := p2_pos n
  refine ⟨fun h => hS _ _ (by omega) (by omega) hst.1 hst.2 h, fun h => ?_⟩
  have := h (fun m p => (0 ≤ m ∧ m < 2 ^ n) ∧ (0 ≤ p ∧ p < 60) ∧ jB (rJ y m) p = true) ⟨⟨by omega, by omega⟩, hst, hI⟩ (fun m k m0 m1 k0 k1 hP hne => by
    rcases bh_rg (LD := LD) (GP := GP) (bt := bt) (k := k) hn hP.1 (hb k k0 k1) with q | ⟨q1, q2, q3, q4⟩
    · exact absurd q hne
    · have := hT k k0 k1
      exact ⟨⟨by omega, q3⟩, ⟨by omega, by omega⟩, hC m k hP.1.1 hP.1.2 k0 k1 hP.2.2 hne⟩)
  exact this.2.2
end RC2
section SC19
set_option maxHeartbeats 4000000 in
set_option maxRecDepth 100000 in
theorem c_X1_isThread (l : Launch) (D : va_G) (hst : l.stackTraces = false) (h : Nat → Nat) (f : Nat → Int) (g : Nat → Int → Int) (N : Nat → Nat) (M : Nat → Nat → Nat) (T : va_W) (nb : Nat) (start full : Int) (hnp : 0 ≤ f 6 ∧ f 6 ≤ 55) (htb : ∀ j, 0 ≤ j → j < 480 → (-1 ≤ g 14 j ∧ g 14 j < 60) ∧ (-1 ≤ g 16 j ∧ g 16 j < f 6)) (hnb : nb ≤ 10) (hbn : ∀ j, 0 ≤ j → j < f 6 → -1 ≤ g 13 j ∧ g 13 j < nb) (hst9 : 0 ≤ start ∧ start < 60) (hfu : full = 2 ^ nb - 1) : CT l D yX1_isThread (ws_ yX1_isThread cX1_isThread 7 (some .boolean)) (rmD 1 0 0) (0) (0) va_A [.ref (h 0), .int (iI start), .int (iI full)] (sW D h f g N M T) exT (pI fun z w => z = bP (Rc (g 14) (g 16) (g 13) (2 ^ nb - 1) start (2 ^ nb - 1) start) ∧ ∃ y20 : Int → Int, w = sW D h f (ug g 20 y20) N M T) (xN) := by
  refine ct_U (lv := [(0, .ref (h 0)), (1, .int (iI start)), (2, .int (iI full))]) RX1 (by decide) rfl rfl hst (Nat.le_of_ble_eq_true rfl) rfl ?_
  intro p e s mm args below meth c A C htab hex hnm
  have hp2 := p2_le hnb
  have hp1 := p2_pos nb
  have ht60 : ∀ j, 0 ≤ j → j < 480 → -1 ≤ g 14 j ∧ g 14 j < 60 := fun j h0 h1 => (htb j h0 h1).1
  have hbt : ∀ j, 0 ≤ j → j < f 6 → -1 ≤ g 13 j ∧ g 13 j < 10 := fun j h0 h1 => by have := hbn j h0 h1; omega
  have hbk : ∀ k, 0 ≤ k → k < 480 → g 16 k ≠ -1 → -1 ≤ g 13 (g 16 k) ∧ g 13 (g 16 k) < nb := fun k h0 h1 h2 => hbn _ (by have := (htb k h0 h1).2; omega) (by have := (htb k h0 h1).2; omega)
  refine g_iconst C dX1_isThread_0 ?_
  refine g_istore_n C dX1_isThread_1 rfl (lv' := [(0, .ref (h 0)), (1, .int (iI start)), (2, .int (iI full)), (3, .int (iI 0))]) [1, 2, 3, 0] rfl (Nat.le_of_ble_eq_true rfl) ?_
  have L1 : ∀ (n : Nat) (k : Int) (y20 : Int → Int), (0 ≤ k ∧ k ≤ 2 ^ nb) → (∀ j, 0 ≤ j → j < k → rJ y20 j = 0) → (2 ^ nb - k).toNat < n → GO p l e (rmD 1 0 0) s mm args below meth c 7 D A A 0 0 (MX below D A (pI fun z w => z = bP (Rc (g 14) (g 16) (g 13) (2 ^ nb - 1) start (2 ^ nb - 1) start) ∧ ∃ y20 : Int → Int, w = sW D h f (ug g 20 y20) N M T) (xN) args s (0) (0)) (sW D h f (ug g 20 y20) N M T) 2 [(0, .ref (h 0)), (1, .int (iI start)), (2, .int (iI full)), (3, .int (iI k))] [] := by
    intro n
    induction n with
    | zero => intro k y20 hk hz hm; exact absurd hm (Nat.not_lt_zero _)
    | succ n ih1 =>
      intro k y20 hk hz hm1
      refine g_iload_n C dX1_isThread_2 rfl 3 rfl ?_
      refine g_iload_n C dX1_isThread_3 rfl 2 rfl ?_
      refine g_icmp_gt C (tgt := 20) dX1_isThread_4 (by decide) (by omega) (by omega) (fun hc4_2 => ?_) (fun hc4_2 => ?_)
      ·
        refine g_aload_n C dX1_isThread_20 rfl 0 rfl ?_
        refine gs_get20 C dX1_isThread_21 ?_
        refine g_iconst C dX1_isThread_24 ?_
        refine g_lconst C dX1_isThread_25 (v := 1) rfl ?_
        refine g_iload_n C dX1_isThread_26 rfl 1 rfl ?_
        refine g_lshl C (v := (1 : Int64) <<< ((iI start).toInt64 &&& 63)) dX1_isThread_27 rfl ?_
        refine g_last C 13 (ws' := sW D h f (ug g 20 (uI y20 0 ((1 : Int64) <<< ((iI start).toInt64 &&& 63) : Int64).toInt)) N M T) rfl (by omega) (by decide) (by rw [lJ_up (by omega)]; rfl) dX1_isThread_28 ?_
        refine g_iconst C dX1_isThread_29 ?_
        refine g_istore_n C dX1_isThread_30 rfl (lv' := [(0, .ref (h 0)), (1, .int (iI start)), (2, .int (iI full)), (3, .int (iI 0))]) [1, 2, 3, 0] rfl (Nat.le_of_ble_eq_true rfl) ?_
        have L3 : ∀ (n : Nat) (mk : Int) (y20 : Int → Int), (0 ≤ mk ∧ mk ≤ 2 ^ nb) → (jB (rJ y20 0) start = true) → (SdR (g 14) (g 16) (g 13) (2 ^ nb - 1) start y20) → (ClR (g 14) (g 16) (g 13) mk y20) → (2 ^ nb - mk).toNat < n → GO p l e (rmD 1 0 0) s mm args below meth c 7 D A A 0 0 (MX below D A (pI fun z w => z = bP (Rc (g 14) (g 16) (g 13) (2 ^ nb - 1) start (2 ^ nb - 1) start) ∧ ∃ y20 : Int → Int, w = sW D h f (ug g 20 y20) N M T) (xN) args s (0) (0)) (sW D h f (ug g 20 y20) N M T) 31 [(0, .ref (h 0)), (1, .int (iI start)), (2, .int (iI full)), (3, .int (iI mk))] [] := by
          intro n
          induction n with
          | zero => intro mk y20 hm hI hS hC hm; exact absurd hm (Nat.not_lt_zero _)
          | succ n ih3 =>
            intro mk y20 hm hI hS hC hm3
            refine g_iload_n C dX1_isThread_31 rfl 3 rfl ?_
            refine g_iload_n C dX1_isThread_32 rfl 2 rfl ?_
            refine g_icmp_gt C (tgt := 170) dX1_isThread_33 (by decide) (by omega) (by omega) (fun hc33_4 => ?_) (fun hc33_4 => ?_)
            ·
              have em : mk = 2 ^ nb := by omega
              subst em
              have hend := Rc_end hnb ht60 hbk hst9 hS hI hC
              refine g_aload_n C dX1_isThread_170 rfl 0 rfl ?_
              refine gs_get20 C dX1_isThread_171 ?_
              refine g_iload_n C dX1_isThread_174 rfl 2 rfl ?_
              refine g_lald C 13 (v := rJ y20 full) rfl (by omega) (by decide) (lJ_at (by omega)) dX1_isThread_175 ?_
              refine g_iload_n C dX1_isThread_176 rfl 1 rfl ?_
              refine g_lshr C (v := (rJ y20 full) >>> ((iI start).toInt64 &&& 63)) dX1_isThread_177 rfl ?_
              refine g_lconst C dX1_isThread_178 (v := 1) rfl ?_
              refine g_land C (v := if jB (rJ y20 full) start then 1 else 0) dX1_isThread_179 (jB_sh ⟨by omega, by omega⟩) ?_
              refine g_lconst C dX1_isThread_180 (v := 1) rfl ?_
              refine g_lcmp C (z := if jB (rJ y20 full) start then 0 else -1) dX1_isThread_181 lcmp_01.2 ?_
              refine g_if_ne C (tgt := 189) dX1_isThread_182 (by decide) (jb_rg' _) (fun hc182_5 => ?_) (fun hc182_5 => ?_)
              ·
                have hjb := jb_ne' hc182_5
                refine g_iconst C dX1_isThread_189 ?_
                exact g_iret C dX1_isThread_190 rfl (Nat.le_of_ble_eq_true rfl) (Nat.le_of_ble_eq_true rfl) ⟨_, rfl, (bP_f (fun q9 => by have q8 := hend.mpr q9; rw [← hfu] at q8; rw [q8] at hjb; exact absurd hjb (by decide))).symm, _, rfl⟩
              ·
                have hjb := jb_eq' hc182_5
                refine g_iconst C dX1_isThread_185 ?_
                refine g_goto C (tgt := 190) dX1_isThread_186 (by decide) ?_
                exact g_iret C dX1_isThread_190 rfl (Nat.le_of_ble_eq_true rfl) (Nat.le_of_ble_eq_true rfl) ⟨_, rfl, (bP_t (hend.mp (by rw [← hfu]; exact hjb))).symm, _, rfl⟩
            ·
              refine g_aload_n C dX1_isThread_36 rfl 0 rfl ?_
              refine gs_get20 C dX1_isThread_37 ?_
              refine g_iload_n C dX1_isThread_40 rfl 3 rfl ?_
              refine g_lald C 13 (v := rJ y20 mk) rfl (by omega) (by decide) (lJ_at (by omega)) dX1_isThread_41 ?_
              refine g_lconst C dX1_isThread_42 (v := 0) rfl ?_
              obtain ⟨z6, hz60, hz61, hz62, hz63⟩ := lcmp_eq (x := rJ y20 mk) (y := 0)
              refine g_lcmp C (z := z6) dX1_isThread_43 hz60 ?_
              refine g_if_ne C (tgt := 50) dX1_isThread_44 (by decide) (by omega) (fun hc44_7 => ?_) (fun hc44_7 => ?_)
              ·
                have hve : ¬ _ := fun q9 => hc44_7 (hz63.mpr q9)
                refine g_aload_n C dX1_isThread_50 rfl 0 rfl ?_
                refine gs_get20 C dX1_isThread_51 ?_
                refine g_iload_n C dX1_isThread_54 rfl 3 rfl ?_
                refine g_aload_n C dX1_isThread_55 rfl 0 rfl ?_
                refine g_aload_n C dX1_isThread_56 rfl 0 rfl ?_
                refine gs_get20 C dX1_isThread_57 ?_
                refine g_iload_n C dX1_isThread_60 rfl 3 rfl ?_
                refine g_lald C 13 (v := rJ y20 mk) rfl (by omega) (by decide) (lJ_at (by omega)) dX1_isThread_61 ?_
                refine kX1_around h f (ug g 20 y20) N M T (rJ y20 mk) C hnp htb ⟨Nat.le_of_ble_eq_true rfl, Nat.le_of_ble_eq_true rfl⟩ (Nat.le_of_ble_eq_true rfl) ⟨Nat.le_of_ble_eq_true rfl, Nat.le_of_ble_eq_true rfl⟩ Sb.rf dX1_isThread_62 (fun zr har => ?_)
                refine g_last C 13 (ws' := sW D h f (ug g 20 (uI y20 mk (zr : Int64).toInt)) N M T) rfl (by omega) (by decide) (by rw [lJ_up (by omega)]; rfl) dX1_isThread_65 ?_
                refine g_iconst C dX1_isThread_66 ?_
                refine g_istore C dX1_isThread_67 (lv' := [(0, .ref (h 0)), (1, .int (iI start)), (2, .int (iI full)), (3, .int (iI mk)), (4, .int (iI 0))]) [1, 2, 3, 4, 0] rfl (Nat.le_of_ble_eq_true rfl) ?_
                have L8 : ∀ (n : Nat) (a : Int) (y20 : Int → Int), (0 ≤ a ∧ a ≤ 60) → (jB (rJ y20 0) start = true) → (SdR (g 14) (g 16) (g 13) (2 ^ nb - 1) start y20) → (ClR (g 14) (g 16) (g 13) mk y20) → (fsK (g 14) (g 16) (rJ y20 mk) (rJ y20 mk) 480) → (UpR (g 14) (g 16) (g 13) mk (8 * a) y20) → (60 - a).toNat < n → GO p l e (rmD 1 0 0) s mm args below meth c 7 D A A 0 0 (MX below D A (pI fun z w => z = bP (Rc (g 14) (g 16) (g 13) (2 ^ nb - 1) start (2 ^ nb - 1) start) ∧ ∃ y20 : Int → Int, w = sW D h f (ug g 20 y20) N M T) (xN) args s (0) (0)) (sW D h f (ug g 20 y20) N M T) 69 [(0, .ref (h 0)), (1, .int (iI start)), (2, .int (iI full)), (3, .int (iI mk)), (4, .int (iI a))] [] := by
                  intro n
                  induction n with
                  | zero => intro a y20 ha hI hS hC hF hU hm; exact absurd hm (Nat.not_lt_zero _)
                  | succ n ih8 =>
                    intro a y20 ha hI hS hC hF hU hm8
                    refine g_iload C dX1_isThread_69 4 rfl ?_
                    refine g_bipush C dX1_isThread_71 (z := 60) rfl ?_
                    refine g_icmp_ge C (tgt := 164) dX1_isThread_73 (by decide) (by omega) (by omega) (fun hc73_9 => ?_) (fun hc73_9 => ?_)
                    ·
                      refine g_iinc C dX1_isThread_164 3 rfl (lv' := [(0, .ref (h 0)), (1, .int (iI start)), (2, .int (iI full)), (3, .int (iI (mk + 1))), (4, .int (iI a))]) [1, 2, 3, 0, 4] rfl (Nat.le_of_ble_eq_true rfl) ?_
                      refine g_goto C (tgt := 31) dX1_isThread_167 (by decide) ?_
                      refine g_lv [0, 1, 2, 3] rfl ?_
                      exact ih3 (mk + 1) y20 (by omega) hI hS (ClR_s hnb ⟨by omega, by omega⟩ hbk hC hF (by rw [show (480 : Int) = 8 * a by omega]; exact hU)) (by omega)
                    ·
                      refine g_aload_n C dX1_isThread_76 rfl 0 rfl ?_
                      refine gs_get20 C dX1_isThread_77 ?_
                      refine g_iload_n C dX1_isThread_80 rfl 3 rfl ?_
                      refine g_lald C 13 (v := rJ y20 mk) rfl (by omega) (by decide) (lJ_at (by omega)) dX1_isThread_81 ?_
                      refine g_iload C dX1_isThread_82 4 rfl ?_
                      refine g_lshr C (v := (rJ y20 mk) >>> ((iI a).toInt64 &&& 63)) dX1_isThread_84 rfl ?_
                      refine g_lconst C dX1_isThread_85 (v := 1) rfl ?_
                      refine g_land C (v := if jB (rJ y20 mk) a then 1 else 0) dX1_isThread_86 (jB_sh ⟨by omega, by omega⟩) ?_
                      refine g_lconst C dX1_isThread_87 (v := 0) rfl ?_
                      refine g_lcmp C (z := if jB (rJ y20 mk) a then 1 else 0) dX1_isThread_88 lcmp_01.1 ?_
                      refine g_if_ne C (tgt := 95) dX1_isThread_89 (by decide) (jb_rg _) (fun hc89_10 => ?_) (fun hc89_10 => ?_)
                      ·
                        have hjb := jb_ne hc89_10
                        refine g_iconst C dX1_isThread_95 ?_
                        refine g_istore C dX1_isThread_96 (lv' := [(0, .ref (h 0)), (1, .int (iI start)), (2, .int (iI full)), (3, .int (iI mk)), (4, .int (iI a)), (5, .int (iI 0))]) [1, 2, 3, 4, 5, 0] rfl (Nat.le_of_ble_eq_true rfl) ?_
                        have L11 : ∀ (n : Nat) (m : Int) (y20 : Int → Int), (0 ≤ m ∧ m ≤ 8) → (jB (rJ y20 0) start = true) → (SdR (g 14) (g 16) (g 13) (2 ^ nb - 1) start y20) → (ClR (g 14) (g 16) (g 13) mk y20) → (fsK (g 14) (g 16) (rJ y20 mk) (rJ y20 mk) 480) → (jB (rJ y20 mk) a = true) → (UpR (g 14) (g 16) (g 13) mk (8 * a + m) y20) → (8 - m).toNat < n → GO p l e (rmD 1 0 0) s mm args below meth c 7 D A A 0 0 (MX below D A (pI fun z w => z = bP (Rc (g 14) (g 16) (g 13) (2 ^ nb - 1) start (2 ^ nb - 1) start) ∧ ∃ y20 : Int → Int, w = sW D h f (ug g 20 y20) N M T) (xN) args s (0) (0)) (sW D h f (ug g 20 y20) N M T) 98 [(0, .ref (h 0)), (1, .int (iI start)), (2, .int (iI full)), (3, .int (iI mk)), (4, .int (iI a)), (5, .int (iI m))] [] := by
                          intro n
                          induction n with
                          | zero => intro m y20 hm8 hI hS hC hF hjb hU2 hm; exact absurd hm (Nat.not_lt_zero _)
                          | succ n ih11 =>
                            intro m y20 hm8 hI hS hC hF hjb hU2 hm11
                            refine g_iload C dX1_isThread_98 5 rfl ?_
                            refine g_bipush C dX1_isThread_100 (z := 8) rfl ?_
                            refine g_icmp_ge C (tgt := 158) dX1_isThread_102 (by decide) (by omega) (by omega) (fun hc102_12 => ?_) (fun hc102_12 => ?_)
                            ·
                              refine g_iinc C dX1_isThread_158 4 rfl (lv' := [(0, .ref (h 0)), (1, .int (iI start)), (2, .int (iI full)), (3, .int (iI mk)), (4, .int (iI (a + 1))), (5, .int (iI m))]) [1, 2, 3, 4, 0, 5] rfl (Nat.le_of_ble_eq_true rfl) ?_
                              refine g_goto C (tgt := 69) dX1_isThread_161 (by decide) ?_
                              refine g_lv [0, 1, 2, 3, 4] rfl ?_
                              exact ih8 (a + 1) y20 (by omega) hI hS hC hF (by rw [show 8 * (a + 1) = 8 * a + m by omega]; exact hU2) (by omega)
                            ·
                              have hk8 : (8 * a + m) / 8 = a := by omega
                              have hbr := bh_rg (LD := g 14) (GP := g 16) (bt := g 13) (m := mk) (k := (8 * a + m)) hnb ⟨by omega, by omega⟩ (hbk (8 * a + m) (by omega) (by omega))
                              refine g_aload_n C dX1_isThread_105 rfl 0 rfl ?_
                              refine g_iload_n C dX1_isThread_106 rfl 3 rfl ?_
                              refine g_bipush C dX1_isThread_107 (z := 8) rfl ?_
                              refine g_iload C dX1_isThread_109 4 rfl ?_
                              refine g_imul C dX1_isThread_111 ?_
                              refine g_iload C dX1_isThread_112 5 rfl ?_
                              refine g_iadd C dX1_isThread_114 ?_
                              refine g_iconst C dX1_isThread_115 ?_
                              refine kX1_X1_behind h f (ug g 20 y20) N M T mk ((8 * a) + m) 1 C hnp htb hbt (by omega) (by omega) (by omega) ⟨Nat.le_of_ble_eq_true rfl, Nat.le_of_ble_eq_true rfl⟩ (Nat.le_of_ble_eq_true rfl) ⟨Nat.le_of_ble_eq_true rfl, Nat.le_of_ble_eq_true rfl⟩ (rv := bhS (g 14) (g 16) (g 13) mk ((8 * a) + m) 1) rfl Sb.rf dX1_isThread_116 ?_
                              refine g_istore C dX1_isThread_119 (lv' := [(0, .ref (h 0)), (1, .int (iI start)), (2, .int (iI full)), (3, .int (iI mk)), (4, .int (iI a)), (5, .int (iI m)), (6, .int (iI (bhS (g 14) (g 16) (g 13) mk ((8 * a) + m) 1)))]) [1, 2, 3, 4, 5, 6, 0] rfl (Nat.le_of_ble_eq_true rfl) ?_
                              refine g_iload C dX1_isThread_121 6 rfl ?_
                              refine g_iload_n C dX1_isThread_123 rfl 3 rfl ?_
                              refine g_icmp_le C (tgt := 152) dX1_isThread_124 (by decide) (by omega) (by omega) (fun hc124_13 => ?_) (fun hc124_13 => ?_)
                              ·
                                refine g_iinc C dX1_isThread_152 5 rfl (lv' := [(0, .ref (h 0)), (1, .int (iI start)), (2, .int (iI full)), (3, .int (iI mk)), (4, .int (iI a)), (5, .int (iI (m + 1))), (6, .int (iI (bhS (g 14) (g 16) (g 13) mk ((8 * a) + m) 1)))]) [1, 2, 3, 4, 5, 0, 6] rfl (Nat.le_of_ble_eq_true rfl) ?_
                                refine g_goto C (tgt := 98) dX1_isThread_155 (by decide) ?_
                                refine g_lv [0, 1, 2, 3, 4, 5] rfl ?_
                                exact ih11 (m + 1) y20 (by omega) hI hS hC hF hjb (by rw [← Int.add_assoc]; exact UpR_x hU2 (by omega)) (by omega)
                              ·
                                have hl9 : g 14 (8 * a + m) ≠ -1 := by omega
                                have hlt := ht60 (8 * a + m) (by omega) (by omega)
                                refine g_aload_n C dX1_isThread_127 rfl 0 rfl ?_
                                refine gs_get20 C dX1_isThread_128 ?_
                                refine g_iload C dX1_isThread_131 6 rfl ?_
                                refine g_dup2 C dX1_isThread_133 rfl rfl ?_
                                refine g_lald C 13 (v := rJ y20 (bhS (g 14) (g 16) (g 13) mk ((8 * a) + m) 1)) rfl (by omega) (by decide) (lJ_at (by omega)) dX1_isThread_134 ?_
                                refine g_lconst C dX1_isThread_135 (v := 1) rfl ?_
                                refine g_aload_n C dX1_isThread_136 rfl 0 rfl ?_
                                refine gs_get14 C dX1_isThread_137 ?_
                                refine g_bipush C dX1_isThread_140 (z := 8) rfl ?_
                                refine g_iload C dX1_isThread_142 4 rfl ?_
                                refine g_imul C dX1_isThread_144 ?_
                                refine g_iload C dX1_isThread_145 5 rfl ?_
                                refine g_iadd C dX1_isThread_147 ?_
                                refine gs_ald14 C (v := (g 14) ((8 * a) + m)) rfl dX1_isThread_148 (by omega) ?_
                                have hf14 := htb ((8 * a) + m) (by omega) (by omega)
                                refine g_lshl C (v := (1 : Int64) <<< ((iI ((g 14) ((8 * a) + m))).toInt64 &&& 63)) dX1_isThread_149 rfl ?_
                                refine g_lor C (v := (rJ y20 (bhS (g 14) (g 16) (g 13) mk ((8 * a) + m) 1)) ||| ((1 : Int64) <<< ((iI ((g 14) ((8 * a) + m))).toInt64 &&& 63))) dX1_isThread_150 rfl ?_
                                refine g_last C 13 (ws' := sW D h f (ug g 20 (uI y20 (bhS (g 14) (g 16) (g 13) mk ((8 * a) + m) 1) ((rJ y20 (bhS (g 14) (g 16) (g 13) mk ((8 * a) + m) 1)) ||| ((1 : Int64) <<< ((iI ((g 14) ((8 * a) + m))).toInt64 &&& 63)) : Int64).toInt)) N M T) rfl (by omega) (by decide) (by rw [lJ_up (by omega)]; rfl) dX1_isThread_151 ?_
                                refine g_iinc C dX1_isThread_152 5 rfl (lv' := [(0, .ref (h 0)), (1, .int (iI start)), (2, .int (iI full)), (3, .int (iI mk)), (4, .int (iI a)), (5, .int (iI (m + 1))), (6, .int (iI (bhS (g 14) (g 16) (g 13) mk ((8 * a) + m) 1)))]) [1, 2, 3, 4, 5, 0, 6] rfl (Nat.le_of_ble_eq_true rfl) ?_
                                refine g_goto C (tgt := 98) dX1_isThread_155 (by decide) ?_
                                refine g_lv [0, 1, 2, 3, 4, 5] rfl ?_
                                exact ih11 (m + 1) (uI y20 (bhS (g 14) (g 16) (g 13) mk ((8 * a) + m) 1) ((rJ y20 (bhS (g 14) (g 16) (g 13) mk ((8 * a) + m) 1)) ||| ((1 : Int64) <<< ((iI ((g 14) ((8 * a) + m))).toInt64 &&& 63)) : Int64).toInt) (by omega) (rJ_up (bsub_or ⟨by omega, by omega⟩) hst9.1 hst9.2 hI) (SdR_y ht60 ⟨by omega, by omega⟩ ⟨by omega, by omega⟩ hl9 hS (by rw [hk8]; exact hjb) (by omega)) (ClR_up ht60 (by omega) (bsub_or ⟨by omega, by omega⟩) hC) (by rw [rJ_n (by omega)]; exact hF) (by rw [rJ_n (by omega)]; exact hjb) (by rw [← Int.add_assoc]; exact UpR_y ht60 ⟨by omega, by omega⟩ hl9 hU2 (by omega) (fun k k0 k1 k2 q9 => by unfold bhS at k2; rw [if_pos q9] at k2; omega)) (by omega)
                        exact L11 _ 0 y20 (by omega) hI hS hC hF hjb (by rw [Int.add_zero]; exact hU) (Nat.lt_succ_self _)
                      ·
                        have hjb := jb_eq hc89_10
                        refine g_goto C (tgt := 158) dX1_isThread_92 (by decide) ?_
                        refine g_iinc C dX1_isThread_158 4 rfl (lv' := [(0, .ref (h 0)), (1, .int (iI start)), (2, .int (iI full)), (3, .int (iI mk)), (4, .int (iI (a + 1)))]) [1, 2, 3, 4, 0] rfl (Nat.le_of_ble_eq_true rfl) ?_
                        refine g_goto C (tgt := 69) dX1_isThread_161 (by decide) ?_
                        exact ih8 (a + 1) y20 (by omega) hI hS hC hF (UpR_8 hU hjb) (by omega)
                exact L8 _ 0 (uI y20 mk (zr : Int64).toInt) (by omega) (rJ_up har.1 hst9.1 hst9.2 hI) (SdR_ar ⟨by omega, by omega⟩ hS har) (ClR_up ht60 (Int.le_refl _) har.1 hC) (by rw [rJ_s]; exact har.2.1) (fun k h0 h1 => absurd h1 (by omega)) (Nat.lt_succ_self _)
              ·
                have hve := hz63.mp hc44_7
                refine g_goto C (tgt := 164) dX1_isThread_47 (by decide) ?_
                refine g_iinc C dX1_isThread_164 3 rfl (lv' := [(0, .ref (h 0)), (1, .int (iI start)), (2, .int (iI full)), (3, .int (iI (mk + 1)))]) [1, 2, 3, 0] rfl (Nat.le_of_ble_eq_true rfl) ?_
                refine g_goto C (tgt := 31) dX1_isThread_167 (by decide) ?_
                exact ih3 (mk + 1) y20 (by omega) hI hS (ClR_0 hC hve) (by omega)
        exact L3 _ 0 (uI y20 0 ((1 : Int64) <<< ((iI start).toInt64 &&& 63) : Int64).toInt) (by omega) (by rw [rJ_s, jB_1 hst9 hst9]; exact decide_eq_true rfl) (fun m p m0 m1 p0 p1 hb => by by_cases e9 : m = 0; (subst e9; rw [rJ_s, jB_1 hst9 ⟨p0, p1⟩] at hb; rw [of_decide_eq_true hb]; exact Rc.st); (rw [rJ_n e9, hz m m0 (by omega), jB_0] at hb; exact absurd hb (by decide))) (fun m k h0 h1 => absurd h1 (by omega)) (Nat.lt_succ_self _)
      ·
        refine g_aload_n C dX1_isThread_7 rfl 0 rfl ?_
        refine gs_get20 C dX1_isThread_8 ?_
        refine g_iload_n C dX1_isThread_11 rfl 3 rfl ?_
        refine g_lconst C dX1_isThread_12 (v := 0) rfl ?_
        refine g_last C 13 (ws' := sW D h f (ug g 20 (uI y20 k (0 : Int64).toInt)) N M T) rfl (by omega) (by decide) (by rw [lJ_up (by omega)]; rfl) dX1_isThread_13 ?_
        refine g_iinc C dX1_isThread_14 3 rfl (lv' := [(0, .ref (h 0)), (1, .int (iI start)), (2, .int (iI full)), (3, .int (iI (k + 1)))]) [1, 2, 3, 0] rfl (Nat.le_of_ble_eq_true rfl) ?_
        refine g_goto C (tgt := 2) dX1_isThread_17 (by decide) ?_
        exact ih1 (k + 1) (uI y20 k (0 : Int64).toInt) (by omega) (fun j h0 h1 => by by_cases e9 : j = k; (subst e9; exact rJ_s); (rw [rJ_n e9]; exact hz j h0 (by omega))) (by omega)
  exact L1 _ 0 (g 20) (by omega) (fun j h0 h1 => absurd h1 (by omega)) (Nat.lt_succ_self _)

end SC19
