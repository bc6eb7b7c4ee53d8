/-! ===== contracts of the class: around, isThread ===== -/
def bsub (v w : Int64) : Prop := ∀ q, 0 ≤ q → q < 60 → jB v q = true → jB w q = true
theorem bsub.rf (v : Int64) : bsub v v := fun _ _ _ h => h
theorem bsub.tr {u v w : Int64} (h : bsub u v) (k : bsub v w) : bsub u w := fun q h0 h1 h2 => k q h0 h1 (h q h0 h1 h2)
theorem bsub_or {v : Int64} {p : Int} (hp : 0 ≤ p ∧ p < 60) : bsub v (v ||| ((1 : Int64) <<< ((iI p).toInt64 &&& 63))) := fun q h0 h1 h2 => by rw [jB_or hp ⟨h0, h1⟩, h2]; rfl
/-- free moves from bf's places lead into v, of the first K moves -/
def fsK (LD GP : Int → Int) (bf v : Int64) (K : Int) : Prop := ∀ k, 0 ≤ k → k < K → jB bf (k / 8) = true → LD k ≠ -1 → GP k = -1 → jB v (LD k) = true
def SND (LD GP : Int → Int) (v0 v : Int64) : Prop := ∀ P : Int → Prop, (∀ q, 0 ≤ q → q < 60 → jB v0 q = true → P q) → (∀ k, 0 ≤ k → k < 480 → P (k / 8) → LD k ≠ -1 → GP k = -1 → P (LD k)) → ∀ q, 0 ≤ q → q < 60 → jB v q = true → P q
/-- v: all that can be come to from v0 by free moves -/
def ARd (LD GP : Int → Int) (v0 v : Int64) : Prop := bsub v0 v ∧ fsK LD GP v v 480 ∧ SND LD GP v0 v
section AR
variable {LD GP : Int → Int} {v0 v bf : Int64}
theorem SND.rf : SND LD GP v v := fun P h1 _ q h0 h2 h3 => h1 q h0 h2 h3
theorem fsK_0 {K : Int} (h : K ≤ 0) : fsK LD GP bf v K := fun k h0 h1 => absurd h1 (by omega)
theorem fsK_m {K : Int} {w : Int64} (hT : ∀ j, 0 ≤ j → j < 480 → -1 ≤ LD j ∧ LD j < 60) (hK : K ≤ 480) (h : fsK LD GP bf v K) (hb : bsub v w) : fsK LD GP bf w K := fun k h0 h1 h2 h3 h4 => by
  have := hT k h0 (by omega)
  exact hb _ (by omega) (by omega) (h k h0 h1 h2 h3 h4)
theorem fsK_x {K : Int} (h : fsK LD GP bf v K) (hx : jB bf (K / 8) = true → LD K ≠ -1 → GP K ≠ -1) : fsK LD GP bf v (K + 1) := fun k h0 h1 h2 h3 h4 => by
  by_cases e : k = K
  · subst e; exact absurd h4 (hx h2 h3)
  · exact h k h0 (by omega) h2 h3 h4
theorem fsK_8 {p : Int} (h : fsK LD GP bf v (8 * p)) (hx : jB bf p = false) : fsK LD GP bf v (8 * (p + 1)) := fun k h0 h1 h2 h3 h4 => by
  by_cases e : k < 8 * p
  · exact h k h0 e h2 h3 h4
  · rw [show k / 8 = p by omega, hx] at h2; exact absurd h2 (by decide)
theorem fsK_y {K : Int} (hT : ∀ j, 0 ≤ j → j < 480 → -1 ≤ LD j ∧ LD j < 60) (hK : 0 ≤ K ∧ K < 480) (h : fsK LD GP bf v K) (hl : LD K ≠ -1) : fsK LD GP bf (v ||| ((1 : Int64) <<< ((iI (LD K)).toInt64 &&& 63))) (K + 1) := fun k h0 h1 h2 h3 h4 => by
  have hp := hT K hK.1 hK.2
  by_cases e : k = K
  · subst e; rw [jB_or ⟨by omega, by omega⟩ ⟨by omega, by omega⟩, decide_eq_true rfl, Bool.or_true]
  · have := hT k h0 (by omega)
    exact bsub_or ⟨by omega, by omega⟩ _ (by omega) (by omega) (h k h0 (by omega) h2 h3 h4)
theorem SND_y {K : Int} (hT : ∀ j, 0 ≤ j → j < 480 → -1 ≤ LD j ∧ LD j < 60) (hK : 0 ≤ K ∧ K < 480) (h : SND LD GP v0 v) (hbf : SND LD GP v0 bf) (hb : jB bf (K / 8) = true) (hl : LD K ≠ -1) (hg : GP K = -1) : SND LD GP v0 (v ||| ((1 : Int64) <<< ((iI (LD K)).toInt64 &&& 63))) := by
  intro P h1 h2 q h0 h3 h4
  have hp := hT K hK.1 hK.2
  rw [jB_or ⟨by omega, by omega⟩ ⟨h0, h3⟩, Bool.or_eq_true] at h4
  rcases h4 with h4 | h4
  · exact h P h1 h2 q h0 h3 h4
  · have e := of_decide_eq_true h4
    rw [e]
    exact h2 K hK.1 hK.2 (hbf P h1 h2 _ (by omega) (by omega) hb) hl hg
/-- v grew out of bf: the same, or more bits -/
def GRW (bf v : Int64) : Prop := bsub bf v ∧ (v = bf ∨ nbt bf < nbt v) ∧ nbt bf ≤ nbt v
theorem GRW_0 : GRW v v := ⟨bsub.rf v, Or.inl rfl, Int.le_refl _⟩
theorem GRW_y {p : Int} (hp : 0 ≤ p ∧ p < 60) (h : GRW bf v) : GRW bf (v ||| ((1 : Int64) <<< ((iI p).toInt64 &&& 63))) := by
  by_cases e : jB v p = true
  · rw [jB_id hp e]; exact h
  · have := nbt_lt hp (Bool.eq_false_iff.mpr e)
    exact ⟨h.1.tr (bsub_or hp), Or.inr (by have := h.2.2; omega), by have := h.2.2; omega⟩
end AR
/-- what can be come to: by what is gone along, and place -/
def Rc (LD GP bt : Int → Int) (full start m p : Int) : Prop := ∀ P : Int → Int → Prop, P 0 start → (∀ m k, 0 ≤ m → m ≤ full → 0 ≤ k → k < 480 → P m (k / 8) → bhS LD GP bt m k 1 ≠ -1 → P (bhS LD GP bt m k 1) (LD k)) → P m p
section RC
variable {LD GP bt y : Int → Int} {full start : Int}
theorem Rc.st : Rc LD GP bt full start 0 start := fun P h _ => h
theorem Rc.go {m k : Int} (hm : 0 ≤ m ∧ m ≤ full) (hk : 0 ≤ k ∧ k < 480) (h : Rc LD GP bt full start m (k / 8)) (hb : bhS LD GP bt m k 1 ≠ -1) : Rc LD GP bt full start (bhS LD GP bt m k 1) (LD k) := fun P h1 h2 => h2 m k hm.1 hm.2 hk.1 hk.2 (h P h1 h2) hb
abbrev rJ (y : Int → Int) (m : Int) : Int64 := Int64.ofInt (y m)
def SdR (LD GP bt : Int → Int) (full start : Int) (y : Int → Int) : Prop := ∀ m p, 0 ≤ m → m ≤ full → 0 ≤ p → p < 60 → jB (rJ y m) p = true → Rc LD GP bt full start m p
/-- below M all moves are followed -/
def ClR (LD GP bt : Int → Int) (M : Int) (y : Int → Int) : Prop := ∀ m k, 0 ≤ m → m < M → 0 ≤ k → k < 480 → jB (rJ y m) (k / 8) = true → bhS LD GP bt m k 1 ≠ -1 → jB (rJ y (bhS LD GP bt m k 1)) (LD k) = true
/-- at M, the first K covering moves are followed -/
def UpR (LD GP bt : Int → Int) (M K : Int) (y : Int → Int) : Prop := ∀ k, 0 ≤ k → k < K → jB (rJ y M) (k / 8) = true → M < bhS LD GP bt M k 1 → jB (rJ y (bhS LD GP bt M k 1)) (LD k) = true
theorem bh_free {m k : Int} (h : LD k ≠ -1) (hg : GP k = -1) : bhS LD GP bt m k 1 = m := by unfold bhS cvS bhd; rw [if_neg h, if_pos hg, if_pos rfl]
theorem bh_rg {m k : Int} {n : Nat} (hn : n ≤ 10) (hm : 0 ≤ m ∧ m < 2 ^ n) (hb : GP k ≠ -1 → -1 ≤ bt (GP k) ∧ bt (GP k) < n) : bhS LD GP bt m k 1 = -1 ∨ (LD k ≠ -1 ∧ m ≤ bhS LD GP bt m k 1 ∧ bhS LD GP bt m k 1 < 2 ^ n ∧ (bhS LD GP bt m k 1 = m → GP k = -1)) := by
  unfold bhS
  by_cases e : LD k = -1
  · rw [if_pos e]; exact Or.inl rfl
  · rw [if_neg e]
    have h9 := bhd_rg (set := m) (cv := cvS GP bt k) (cl := 1) hn hm (by unfold cvS; split; omega; (rename_i q; have := hb q; split <;> omega))
    rcases h9 with h9 | h9
    · exact Or.inl h9
    · by_cases z : bhd m (cvS GP bt k) 1 = -1
      · exact Or.inl z
      · refine Or.inr ⟨e, h9.1, h9.2, fun q => ?_⟩
        by_cases g : GP k = -1
        · exact g
        · exfalso
          have hbk := hb g
          have hp2 := p2_le hn
          unfold cvS at q z
          rw [if_neg g] at q z
          unfold bhd at q z
          by_cases b1 : bt (GP k) = -1
          · rw [if_pos b1] at q; rw [if_neg (by decide), if_pos rfl, if_pos (by decide)] at q; omega
          · rw [if_neg b1, if_neg (by omega), if_neg (by omega)] at q
            rw [if_neg b1, if_neg (by omega), if_neg (by omega)] at z
            rcases or_bit (set := m) (b := bt (GP k)) ⟨hm.1, by omega⟩ ⟨by omega, by omega⟩ with ⟨x1, x2⟩ | ⟨x1, x2, x3⟩
            · rw [if_pos ⟨by decide, x1⟩] at z; exact z rfl
            · rw [if_neg (by rw [x1]; rintro ⟨-, w⟩; exact absurd w (by decide)), x2] at q
              have := p2_pos (bt (GP k)).toNat
              omega
end RC
section SC18
set_option maxHeartbeats 4000000 in
set_option maxRecDepth 100000 in
theorem c_X1_around (l : Launch) (D : va_G) (hst : l.stackTraces = false) (h : Nat → Nat) (f : Nat → Int) (g : Nat → Int → Int) (N : Nat → Nat) (M : Nat → Nat → Nat) (T : va_W) (v0 : Int64) (hnp : 0 ≤ f 6 ∧ f 6 ≤ 55) (htb : ∀ j, 0 ≤ j → j < 480 → (-1 ≤ g 14 j ∧ g 14 j < 60) ∧ (-1 ≤ g 16 j ∧ g 16 j < f 6)) : CT l D yX1_around (ws_ yX1_around cX1_around 9 (some .long)) (rmD 0 0 0) (0) (0) mdR [.ref (h 0), .long v0] (sW D h f g N M T) exT (pJ fun z _ => ARd (g 14) (g 16) v0 z) (xN) := by
  refine ct_R (lv := [(0, .ref (h 0)), (1, .long v0)]) RX1 (by decide) rfl rfl hst (Nat.le_of_ble_eq_true rfl) rfl ?_
  intro p e s mm args below meth c A C htab hex
  have ht60 : ∀ j, 0 ≤ j → j < 480 → -1 ≤ g 14 j ∧ g 14 j < 60 := fun j h0 h1 => (htb j h0 h1).1
  refine g_lload_n C dX1_around_0 rfl 1 rfl ?_
  refine g_lstore_n C dX1_around_1 rfl (lv' := [(0, .ref (h 0)), (1, .long v0), (3, .long v0)]) [1, 2, 0] rfl (Nat.le_of_ble_eq_true rfl) ?_
  refine g_lconst C dX1_around_2 (v := 0) rfl ?_
  refine g_lstore C dX1_around_3 (lv' := [(0, .ref (h 0)), (1, .long v0), (3, .long v0), (5, .long 0)]) [1, 2, 3, 0] rfl (Nat.le_of_ble_eq_true rfl) ?_
  have L1 : ∀ (n : Nat) (v : Int64) (bf : Int64), (bsub v0 v) → (SND (g 14) (g 16) v0 v) → (fsK (g 14) (g 16) bf v 480) → (121 - 2 * nbt v + (if v = bf then 0 else 1)).toNat < n → GO p l e (rmD 0 0 0) s mm args below meth c 9 D A (fun _ => True) 0 0 (MX below D A (pJ fun z _ => ARd (g 14) (g 16) v0 z) (xN) args s (0) (0)) (sW D h f g N M T) 5 [(0, .ref (h 0)), (1, .long v0), (3, .long v), (5, .long bf)] [] := by
    intro n
    induction n with
    | zero => intro v bf hb0 hsn hfs hm; exact absurd hm (Nat.not_lt_zero _)
    | succ n ih1 =>
      intro v bf hb0 hsn hfs hm1
      have hnv := nbt_rg v
      refine g_lload_n C dX1_around_5 rfl 2 rfl ?_
      refine g_lload C dX1_around_6 3 rfl ?_
      obtain ⟨z2, hz20, hz21, hz22, hz23⟩ := lcmp_eq (x := v) (y := bf)
      refine g_lcmp C (z := z2) dX1_around_8 hz20 ?_
      refine g_if_eq C (tgt := 117) dX1_around_9 (by decide) (by omega) (fun hc9_3 => ?_) (fun hc9_3 => ?_)
      ·
        have hve := hz23.mp hc9_3
        refine g_lload_n C dX1_around_117 rfl 2 rfl ?_
        refine g_nilA ?_
        exact g_lret C dX1_around_118 (Nat.le_of_ble_eq_true rfl) (Nat.le_of_ble_eq_true rfl) ⟨_, rfl, hb0, (by rw [← hve] at hfs; exact hfs), hsn⟩
      ·
        have hve : ¬ _ := fun q9 => hc9_3 (hz23.mpr q9)
        refine g_lload_n C dX1_around_12 rfl 2 rfl ?_
        refine g_lstore C dX1_around_13 (lv' := [(0, .ref (h 0)), (1, .long v0), (3, .long v), (5, .long v)]) [1, 2, 3, 0] rfl (Nat.le_of_ble_eq_true rfl) ?_
        refine g_iconst C dX1_around_15 ?_
        refine g_istore C dX1_around_16 (lv' := [(0, .ref (h 0)), (1, .long v0), (3, .long v), (5, .long v), (7, .int (iI 0))]) [1, 2, 3, 4, 0] rfl (Nat.le_of_ble_eq_true rfl) ?_
        have L4 : ∀ (n : Nat) (a : Int) (w : Int64), (0 ≤ a ∧ a ≤ 60) → (GRW v w) → (SND (g 14) (g 16) v0 w) → (fsK (g 14) (g 16) v w (8 * a)) → (60 - a).toNat < n → GO p l e (rmD 0 0 0) s mm args below meth c 9 D A (fun _ => True) 0 0 (MX below D A (pJ fun z _ => ARd (g 14) (g 16) v0 z) (xN) args s (0) (0)) (sW D h f g N M T) 18 [(0, .ref (h 0)), (1, .long v0), (3, .long w), (5, .long v), (7, .int (iI a))] [] := by
          intro n
          induction n with
          | zero => intro a w ha hgr hsn2 hfs2 hm; exact absurd hm (Nat.not_lt_zero _)
          | succ n ih4 =>
            intro a w ha hgr hsn2 hfs2 hm4
            refine g_iload C dX1_around_18 4 rfl ?_
            refine g_bipush C dX1_around_20 (z := 60) rfl ?_
            refine g_icmp_ge C (tgt := 114) dX1_around_22 (by decide) (by omega) (by omega) (fun hc22_5 => ?_) (fun hc22_5 => ?_)
            ·
              refine g_goto C (tgt := 5) dX1_around_114 (by decide) ?_
              refine g_lv [0, 1, 2, 3] rfl ?_
              exact ih1 w v (hb0.tr hgr.1) hsn2 (by rw [show (480 : Int) = 8 * a by omega]; exact hfs2) (by have q8 := nbt_rg w; rw [if_neg hve] at hm1; rcases hgr.2.1 with q9 | q9; (rw [q9, if_pos rfl]; omega); (split <;> omega))
            ·
              refine g_lload C dX1_around_25 3 rfl ?_
              refine g_iload C dX1_around_27 4 rfl ?_
              refine g_lshr C (v := v >>> ((iI a).toInt64 &&& 63)) dX1_around_29 rfl ?_
              refine g_lconst C dX1_around_30 (v := 1) rfl ?_
              refine g_land C (v := if jB v a then 1 else 0) dX1_around_31 (jB_sh ⟨by omega, by omega⟩) ?_
              refine g_lconst C dX1_around_32 (v := 0) rfl ?_
              refine g_lcmp C (z := if jB v a then 1 else 0) dX1_around_33 lcmp_01.1 ?_
              refine g_if_ne C (tgt := 40) dX1_around_34 (by decide) (jb_rg _) (fun hc34_6 => ?_) (fun hc34_6 => ?_)
              ·
                have hjb := jb_ne hc34_6
                refine g_iconst C dX1_around_40 ?_
                refine g_istore C dX1_around_41 (lv' := [(0, .ref (h 0)), (1, .long v0), (3, .long w), (5, .long v), (7, .int (iI a)), (8, .int (iI 0))]) [1, 2, 3, 4, 5, 0] rfl (Nat.le_of_ble_eq_true rfl) ?_
                have L7 : ∀ (n : Nat) (m : Int) (w : Int64), (0 ≤ m ∧ m ≤ 8) → (GRW v w) → (SND (g 14) (g 16) v0 w) → (fsK (g 14) (g 16) v w (8 * a + m)) → (8 - m).toNat < n → GO p l e (rmD 0 0 0) s mm args below meth c 9 D A (fun _ => True) 0 0 (MX below D A (pJ fun z _ => ARd (g 14) (g 16) v0 z) (xN) args s (0) (0)) (sW D h f g N M T) 43 [(0, .ref (h 0)), (1, .long v0), (3, .long w), (5, .long v), (7, .int (iI a)), (8, .int (iI m))] [] := by
                  intro n
                  induction n with
                  | zero => intro m w hm hgr hsn2 hfs3 hm; exact absurd hm (Nat.not_lt_zero _)
                  | succ n ih7 =>
                    intro m w hm hgr hsn2 hfs3 hm7
                    refine g_iload C dX1_around_43 5 rfl ?_
                    refine g_bipush C dX1_around_45 (z := 8) rfl ?_
                    refine g_icmp_ge C (tgt := 108) dX1_around_47 (by decide) (by omega) (by omega) (fun hc47_8 => ?_) (fun hc47_8 => ?_)
                    ·
                      refine g_iinc C dX1_around_108 4 rfl (lv' := [(0, .ref (h 0)), (1, .long v0), (3, .long w), (5, .long v), (7, .int (iI (a + 1))), (8, .int (iI m))]) [1, 2, 3, 4, 0, 5] rfl (Nat.le_of_ble_eq_true rfl) ?_
                      refine g_goto C (tgt := 18) dX1_around_111 (by decide) ?_
                      refine g_lv [0, 1, 2, 3, 4] rfl ?_
                      exact ih4 (a + 1) w (by omega) hgr hsn2 (by rw [show 8 * (a + 1) = 8 * a + m by omega]; exact hfs3) (by omega)
                    ·
                      have hk8 : (8 * a + m) / 8 = a := by omega
                      refine g_aload_n C dX1_around_50 rfl 0 rfl ?_
                      refine gs_get14 C dX1_around_51 ?_
                      refine g_bipush C dX1_around_54 (z := 8) rfl ?_
                      refine g_iload C dX1_around_56 4 rfl ?_
                      refine g_imul C dX1_around_58 ?_
                      refine g_iload C dX1_around_59 5 rfl ?_
                      refine g_iadd C dX1_around_61 ?_
                      refine gs_ald14 C (v := (g 14) ((8 * a) + m)) rfl dX1_around_62 (by omega) ?_
                      have hf9 := htb ((8 * a) + m) (by omega) (by omega)
                      refine g_iconst C dX1_around_63 ?_
                      refine g_icmp_eq C (tgt := 102) dX1_around_64 (by decide) (by omega) (by omega) (fun hc64_10 => ?_) (fun hc64_10 => ?_)
                      ·
                        refine g_iinc C dX1_around_102 5 rfl (lv' := [(0, .ref (h 0)), (1, .long v0), (3, .long w), (5, .long v), (7, .int (iI a)), (8, .int (iI (m + 1)))]) [1, 2, 3, 4, 5, 0] rfl (Nat.le_of_ble_eq_true rfl) ?_
                        refine g_goto C (tgt := 43) dX1_around_105 (by decide) ?_
                        exact ih7 (m + 1) w (by omega) hgr hsn2 (by rw [← Int.add_assoc]; exact fsK_x hfs3 (fun _ q9 => by omega)) (by omega)
                      ·
                        refine g_aload_n C dX1_around_67 rfl 0 rfl ?_
                        refine gs_get16 C dX1_around_68 ?_
                        refine g_bipush C dX1_around_71 (z := 8) rfl ?_
                        refine g_iload C dX1_around_73 4 rfl ?_
                        refine g_imul C dX1_around_75 ?_
                        refine g_iload C dX1_around_76 5 rfl ?_
                        refine g_iadd C dX1_around_78 ?_
                        refine gs_ald16 C (v := (g 16) ((8 * a) + m)) rfl dX1_around_79 (by omega) ?_
                        have hf11 := htb ((8 * a) + m) (by omega) (by omega)
                        refine g_iconst C dX1_around_80 ?_
                        refine g_icmp_ne C (tgt := 102) dX1_around_81 (by decide) (by omega) (by omega) (fun hc81_12 => ?_) (fun hc81_12 => ?_)
                        ·
                          refine g_iinc C dX1_around_102 5 rfl (lv' := [(0, .ref (h 0)), (1, .long v0), (3, .long w), (5, .long v), (7, .int (iI a)), (8, .int (iI (m + 1)))]) [1, 2, 3, 4, 5, 0] rfl (Nat.le_of_ble_eq_true rfl) ?_
                          refine g_goto C (tgt := 43) dX1_around_105 (by decide) ?_
                          exact ih7 (m + 1) w (by omega) hgr hsn2 (by rw [← Int.add_assoc]; exact fsK_x hfs3 (fun _ q9 => by omega)) (by omega)
                        ·
                          refine g_lload_n C dX1_around_84 rfl 2 rfl ?_
                          refine g_lconst C dX1_around_85 (v := 1) rfl ?_
                          refine g_aload_n C dX1_around_86 rfl 0 rfl ?_
                          refine gs_get14 C dX1_around_87 ?_
                          refine g_bipush C dX1_around_90 (z := 8) rfl ?_
                          refine g_iload C dX1_around_92 4 rfl ?_
                          refine g_imul C dX1_around_94 ?_
                          refine g_iload C dX1_around_95 5 rfl ?_
                          refine g_iadd C dX1_around_97 ?_
                          refine gs_ald14 C (v := (g 14) ((8 * a) + m)) rfl dX1_around_98 (by omega) ?_
                          have hf13 := htb ((8 * a) + m) (by omega) (by omega)
                          refine g_lshl C (v := (1 : Int64) <<< ((iI ((g 14) ((8 * a) + m))).toInt64 &&& 63)) dX1_around_99 rfl ?_
                          refine g_lor C (v := w ||| ((1 : Int64) <<< ((iI ((g 14) ((8 * a) + m))).toInt64 &&& 63))) dX1_around_100 rfl ?_
                          refine g_lstore_n C dX1_around_101 rfl (lv' := [(0, .ref (h 0)), (1, .long v0), (3, .long (w ||| ((1 : Int64) <<< ((iI ((g 14) ((8 * a) + m))).toInt64 &&& 63)))), (5, .long v), (7, .int (iI a)), (8, .int (iI m))]) [1, 2, 0, 3, 4, 5] rfl (Nat.le_of_ble_eq_true rfl) ?_
                          refine g_iinc C dX1_around_102 5 rfl (lv' := [(0, .ref (h 0)), (1, .long v0), (3, .long (w ||| ((1 : Int64) <<< ((iI ((g 14) ((8 * a) + m))).toInt64 &&& 63)))), (5, .long v), (7, .int (iI a)), (8, .int (iI (m + 1)))]) [1, 2, 3, 4, 5, 0] rfl (Nat.le_of_ble_eq_true rfl) ?_
                          refine g_goto C (tgt := 43) dX1_around_105 (by decide) ?_
                          exact ih7 (m + 1) (w ||| ((1 : Int64) <<< ((iI ((g 14) ((8 * a) + m))).toInt64 &&& 63))) (by omega) (GRW_y ⟨by omega, by omega⟩ hgr) (SND_y ht60 ⟨by omega, by omega⟩ hsn2 hsn (by rw [hk8]; exact hjb) (by omega) (by omega)) (by rw [← Int.add_assoc]; exact fsK_y ht60 ⟨by omega, by omega⟩ hfs3 (by omega)) (by omega)
                exact L7 _ 0 w (by omega) hgr hsn2 (by rw [Int.add_zero]; exact hfs2) (Nat.lt_succ_self _)
              ·
                have hjb := jb_eq hc34_6
                refine g_goto C (tgt := 108) dX1_around_37 (by decide) ?_
                refine g_iinc C dX1_around_108 4 rfl (lv' := [(0, .ref (h 0)), (1, .long v0), (3, .long w), (5, .long v), (7, .int (iI (a + 1)))]) [1, 2, 3, 4, 0] rfl (Nat.le_of_ble_eq_true rfl) ?_
                refine g_goto C (tgt := 18) dX1_around_111 (by decide) ?_
                exact ih4 (a + 1) w (by omega) hgr hsn2 (fsK_8 hfs2 hjb) (by omega)
        exact L4 _ 0 v (by omega) GRW_0 hsn (fsK_0 (by omega)) (Nat.lt_succ_self _)
  exact L1 _ v0 0 (bsub.rf _) SND.rf (fun k h0 h1 h2 => absurd h2 (by rw [jB_0]; decide)) (Nat.lt_succ_self _)

section MK
variable {p : Program} {l : Launch} {e : Env} {R : Room} {s : State} {mm : MethodId} {args : Array Value} {below : List Frame} {meth : Method} {c : Code} {cc : ByteArray} {nL : Nat} {ret : Option FieldType} {D : va_G} {A B : Nat → Prop} {cells slots : Nat} {Q : State → Prop} {pc : Nat} {lv : List (Nat × Value)} {st : List Value}
theorem kX1_around {ws : va_W} (h : Nat → Nat) (f : Nat → Int) (g : Nat → Int → Int) (N : Nat → Nat) (M : Nat → Nat → Nat) (T : va_W) (v0 : Int64) (C : CX p l s mm args meth c RX1 cc nL ret D A) (hnp : 0 ≤ f 6 ∧ f 6 ≤ 55) (htb : ∀ j, 0 ≤ j → j < 480 → (-1 ≤ g 14 j ∧ g 14 j < 60) ∧ (-1 ≤ g 16 j ∧ g 16 j < f 6)) (hR : 0 + 1 ≤ R.frames ∧ 8 + (9 + 11) + 64 * 0 ≤ R.locals) (hcat : (st.map fun v => v.category).sum ≤ 8) (hroom : cells ≤ R.cells ∧ slots ≤ R.slots) (hsb : Sb ws (sW D h f g N M T)) (d : decode cc pc = .ok (.invokevirtual 269, 3)) (K : ∀ z : Int64, ARd (g 14) (g 16) v0 z → GO p l e R s mm args below meth c nL D A B cells slots Q (ws) (pc + 3) lv (.long z :: st)) : GO p l e R s mm args below meth c nL D A B cells slots Q (ws) (pc) lv (.long v0 :: .ref (h 0) :: st) := by
  refine g_callVR C (c_X1_around l D C.hl h f g N M T v0 hnp htb) (As := [.long v0]) (n := 1) (lw_V q653 q655 qs12 q48 q656) (by decide +kernel) rfl rfl hR (rcvH C hsb) rfl rfl hcat ⟨hroom.1, hroom.2⟩ d hsb exT_b hex_t (fun v w hp => ?_) kx_n
  obtain ⟨z, rfl, hz⟩ := hp
  exact K z hz
end MK
end SC18
