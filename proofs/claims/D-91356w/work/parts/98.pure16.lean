/-! ===== marks: one thread, both ways ===== -/
/-- a part that is marked -/
def Sm (np bits : Int) (i : Nat) : Bool := decide (((0 : Int) ≤ i ∧ (i : Int) < np ∧ (i : Int) < 31) ∧ mkb bits i = 1)
theorem Sm_iff {np bits : Int} {i : Nat} : Sm np bits i = true ↔ mks np bits i := by
  unfold Sm mks; exact decide_eq_true_iff
/-- which bits a set of parts has -/
def MB (bt : Int → Int) (n : Nat) (m : Int) (T : List Nat) : Prop := (0 ≤ m ∧ m < 2 ^ n) ∧ ∀ b : Nat, b < n → ((m.toNat / 2 ^ b) % 2 = 1 ↔ ∃ e ∈ T, bt (e : Int) = (b : Int))
section MQ
variable {F S np bits : Int} {kd pf ps pk bt a b c ht th : Int → Int} {n : Nat}
def BTs (np bits : Int) (n : Nat) (bt : Int → Int) : Prop := (∀ j, 0 ≤ j → j < np → bt j = if j < 31 ∧ mkb bits j = 1 then mcn bits j else -1) ∧ mcn bits (m31 np) = n ∧ n ≤ 10
theorem bt_m (h : BTs np bits n bt) {e : Int} (he : mks np bits e) : bt e = mcn bits e ∧ 0 ≤ bt e ∧ bt e < n := by
  obtain ⟨⟨h0, h1, h2⟩, h3⟩ := he
  have h4 := mcn_lt (np := np) h0 h1 ⟨h2, h3⟩
  have h5 := mcn_rg (bits := bits) h0
  rw [h.1 e h0 h1, if_pos ⟨h2, h3⟩]
  have := h.2.1
  omega
theorem bt_u (h : BTs np bits n bt) {e : Int} (h0 : 0 ≤ e) (h1 : e < np) (he : ¬ mks np bits e) : bt e = -1 := by
  rw [h.1 e h0 h1, if_neg (fun q => he ⟨⟨h0, h1, q.1⟩, q.2⟩)]
theorem mcn_st {i j : Int} (h0 : 0 ≤ i) (h1 : i < j) (hm : mkb bits i = 1) : mcn bits i < mcn bits j := by
  have h2 := mcn_mono (bits := bits) (a := i + 1) (by omega) (j - (i + 1)).toNat
  rw [show i + 1 + (((j - (i + 1)).toNat : Nat) : Int) = j by omega, mcn_s h0, hm] at h2
  omega
theorem bt_inj (h : BTs np bits n bt) {i j : Int} (hi : mks np bits i) (hj : mks np bits j) (e : bt i = bt j) : i = j := by
  rw [(bt_m h hi).1, (bt_m h hj).1] at e
  rcases Int.lt_trichotomy i j with q | q | q
  · have := mcn_st (bits := bits) hi.1.1 q hi.2; omega
  · exact q
  · have := mcn_st (bits := bits) hj.1.1 q hj.2; omega
theorem mcn_sur {bits : Int} : ∀ (K : Nat) (b : Int), 0 ≤ b → b < mcn bits K → ∃ j : Nat, j < K ∧ mkb bits j = 1 ∧ mcn bits j = b
  | 0, b, h0, h1 => absurd h1 (by show ¬ b < 0; omega)
  | K + 1, b, h0, h1 => by
    have hk := mkb_rg bits (K : Int)
    rw [show ((K + 1 : Nat) : Int) = (K : Int) + 1 by omega, mcn_s (by omega)] at h1
    by_cases q : b < mcn bits K
    · obtain ⟨j, h2, h3⟩ := mcn_sur K b h0 q
      exact ⟨j, by omega, h3⟩
    · exact ⟨K, by omega, by omega, by omega⟩
theorem bt_sur (hnp : 0 ≤ np) (h : BTs np bits n bt) {b : Nat} (hb : b < n) : ∃ e : Nat, mks np bits e ∧ bt e = b := by
  have hm : 0 ≤ m31 np ∧ m31 np ≤ 31 ∧ m31 np ≤ np := by unfold m31; split <;> omega
  obtain ⟨j, h1, h2, h3⟩ := mcn_sur (bits := bits) (m31 np).toNat b (by omega) (by rw [Int.toNat_of_nonneg hm.1, h.2.1]; omega)
  have hmk : mks np bits j := ⟨⟨by omega, by omega, by omega⟩, h2⟩
  exact ⟨j, hmk, by rw [(bt_m h hmk).1]; exact h3⟩
theorem MB_0 : MB bt n 0 [] := ⟨⟨Int.le_refl _, p2_pos n⟩, fun b hb => ⟨fun q => by simp at q, fun ⟨e, he, _⟩ => nomatch he⟩⟩
theorem MB_bit (h : BTs np bits n bt) {m : Int} {T : List Nat} (hM : MB bt n m T) (hT : ∀ e ∈ T, mks np bits e) {e : Nat} (he : mks np bits e) : (m.toNat / 2 ^ (bt e).toNat) % 2 = 1 ↔ e ∈ T := by
  have hb := bt_m h he
  rw [hM.2 (bt e).toNat (by omega)]
  constructor
  · rintro ⟨x, x1, x2⟩
    have := bt_inj h (hT x x1) he (by omega)
    have e2 : x = e := by omega
    rw [← e2]; exact x1
  · intro q; exact ⟨e, q, by omega⟩
theorem MB_s (h : BTs np bits n bt) {m : Int} {T : List Nat} (hM : MB bt n m T) (hT : ∀ e ∈ T, mks np bits e) {e : Nat} (he : mks np bits e) (hne : e ∉ T) : MB bt n (m + 2 ^ (bt e).toNat) (T ++ [e]) := by
  have hb := bt_m h he
  have hbit : (m.toNat / 2 ^ (bt e).toNat) % 2 = 0 := by
    have := MB_bit h hM hT he
    by_cases q : (m.toNat / 2 ^ (bt e).toNat) % 2 = 1
    · exact absurd (this.mp q) hne
    · omega
  have h8 : ((2 ^ n : Nat) : Int) = 2 ^ n := by simp
  have h9 : ((2 ^ (bt e).toNat : Nat) : Int) = 2 ^ (bt e).toNat := by simp
  have hlt := bit_lt (set := m.toNat) (n := n) (b := (bt e).toNat) (by have := hM.1; omega) (by omega) hbit
  have hp := p2_pos (bt e).toNat
  have hM1 := hM.1
  have e1 : (m + 2 ^ (bt e).toNat).toNat = m.toNat + 2 ^ (bt e).toNat := by omega
  refine ⟨⟨by omega, by omega⟩, fun b hbn => ?_⟩
  have hn10 := h.2.2
  rw [e1, bit_add (by omega) (by omega) hbit, hM.2 b hbn]
  constructor
  · rintro (⟨x, x1, x2⟩ | q)
    · exact ⟨x, List.mem_append_left _ x1, x2⟩
    · exact ⟨e, List.mem_append_right _ (List.mem_singleton.mpr rfl), by omega⟩
  · rintro ⟨x, x1, x2⟩
    rcases List.mem_append.mp x1 with q | q
    · exact Or.inl ⟨x, q, x2⟩
    · rw [List.mem_singleton.mp q] at x2; exact Or.inr (by omega)
theorem MB_full (hnp : 0 ≤ np) (h : BTs np bits n bt) {m : Int} {T : List Nat} (hM : MB bt n m T) (hT : ∀ e ∈ T, mks np bits e) : m = 2 ^ n - 1 ↔ ∀ e : Nat, mks np bits e → e ∈ T := by
  have hn10 := h.2.2
  have h8 : ((2 ^ n : Nat) : Int) = 2 ^ n := by simp
  have hp := Nat.pow_pos (n := n) (show 0 < 2 by decide)
  have hM1 := hM.1
  constructor
  · intro hm e he
    have hb := bt_m h he
    refine (MB_bit h hM hT he).mp ?_
    have := bit_full ⟨n, by omega⟩ ⟨(bt e).toNat, by omega⟩ (by show (bt e).toNat < n; omega)
    rw [show m.toNat = 2 ^ n - 1 by omega]
    exact this
  · intro hall
    have := bit_all (n := n) (m := m.toNat) hn10 (by omega) (fun b hb => by
      obtain ⟨e, he, hbe⟩ := bt_sur hnp h hb
      exact (hM.2 b hb).mpr ⟨e, hall e he, hbe⟩)
    omega
/-- a move along a part: it must be marked, and not gone along -/
theorem bh_cov {m k : Int} {n : Nat} (hn : n ≤ 10) (hm : 0 ≤ m ∧ m < 2 ^ n) (hl : a k ≠ -1) (hc : c k ≠ -1) (hb : bt (c k) = -1 ∨ (0 ≤ bt (c k) ∧ bt (c k) < n)) : bhS a c bt m k 1 = if bt (c k) = -1 then -1 else if (m.toNat / 2 ^ (bt (c k)).toNat) % 2 = 1 then -1 else m + 2 ^ (bt (c k)).toNat := by
  have hp2 := p2_le hn
  unfold bhS cvS bhd
  rw [if_neg hl, if_neg hc]
  by_cases e : bt (c k) = -1
  · rw [if_pos e, if_pos e, if_neg (by decide), if_pos rfl, if_pos (by decide)]
  · rw [if_neg e, if_neg e, if_neg e, if_neg (show ¬ bt (c k) = -2 by omega)]
    obtain ⟨x, hx⟩ := iI_nat (N := 1024) (p := m) (by omega)
    obtain ⟨y, hy⟩ := iI_nat (N := 10) (p := bt (c k)) (by omega)
    obtain ⟨h1, h2⟩ := set_ok y x
    rw [hx, hy, h2, h1]
    rw [show ((x.val : Int)).toNat = x.val by omega, show ((y.val : Int)).toNat = y.val by omega]
    by_cases q : (x.val / 2 ^ y.val) % 2 = 1
    · rw [if_pos ⟨by decide, by omega⟩, if_pos q]
    · rw [if_neg (by rintro ⟨-, w⟩; omega), if_neg q, if_neg q, Int.natCast_add]
      simp
noncomputable def rU (F S : Int) (kd pf ps : Int → Int) (e : Nat) : Int := rp (LkE F S kd) (nA pf ps e)
noncomputable def rV (F S : Int) (kd pf ps pk : Int → Int) (e : Nat) : Int := rp (LkE F S kd) (nB pf ps pk e)
/-- what the search comes to is a trail -/
theorem Rc_trail (hF : 1 ≤ F ∧ F ≤ 5) (hS : 2 ≤ S ∧ S ≤ 6) (hP : PLs F S kd np pf ps pk) (hT : TSk F S kd ht th np pf ps pk 480 a b c) (hB : BTs np bits n bt) {start m p : Int} (h : Rc a c bt (2 ^ n - 1) start m p) : ∃ T : List Nat, T.Nodup ∧ (∀ e ∈ T, mks np bits e) ∧ MB bt n m T ∧ Wk (rU F S kd pf ps) (rV F S kd pf ps pk) (rp (LkE F S kd) (start / 2)) T (rp (LkE F S kd) (p / 2)) := by
  refine h (fun m p => ∃ T : List Nat, T.Nodup ∧ (∀ e ∈ T, mks np bits e) ∧ MB bt n m T ∧ Wk (rU F S kd pf ps) (rV F S kd pf ps pk) (rp (LkE F S kd) (start / 2)) T (rp (LkE F S kd) (p / 2))) ⟨[], List.nodup_nil, (fun _ he => absurd he List.not_mem_nil), MB_0, rfl⟩ ?_
  rintro m k m0 m1 k0 k1 ⟨T, t1, t2, t3, t4⟩ hne
  have hl : a k ≠ -1 := fun q => hne (by unfold bhS; rw [if_pos q])
  obtain ⟨-, -, g⟩ := mv_kind hF hS hP hT k0 k1 hl
  rcases g with ⟨g1, g2⟩ | ⟨g1, g2⟩
  · rw [bh_free hl g1]
    exact ⟨T, t1, t2, t3, by rw [← rp_eq.mpr g2]; exact t4⟩
  · have hcne : c k ≠ -1 := by omega
    obtain ⟨e, he⟩ := Int.eq_ofNat_of_zero_le g1.1
    have hbb : bt (c k) = -1 ∨ (0 ≤ bt (c k) ∧ bt (c k) < n) := by
      by_cases q : mks np bits (c k)
      · exact Or.inr (bt_m hB q).2
      · exact Or.inl (bt_u hB g1.1 g1.2 q)
    have hv := bh_cov (bt := bt) hB.2.2 t3.1 hl hcne hbb
    rw [hv] at hne
    by_cases q1 : bt (c k) = -1
    · rw [if_pos q1] at hne; exact absurd rfl hne
    · rw [if_neg q1] at hne hv
      by_cases q2 : (m.toNat / 2 ^ (bt (c k)).toNat) % 2 = 1
      · rw [if_pos q2] at hne; exact absurd rfl hne
      · rw [if_neg q2] at hv
        have hmk : mks np bits (c k) := by
          by_cases q : mks np bits (c k)
          · exact q
          · exact absurd (bt_u hB g1.1 g1.2 q) q1
        rw [he] at hmk q2 hv g2
        have hnm : e ∉ T := fun q => q2 ((MB_bit hB t3 t2 hmk).mpr q)
        rw [hv]
        refine ⟨T ++ [e], ?_, ?_, MB_s hB t3 t2 hmk hnm, ?_⟩
        · rw [List.nodup_append]
          exact ⟨t1, List.nodup_cons.mpr ⟨List.not_mem_nil, List.nodup_nil⟩, fun x hx y hy q => hnm (by rw [List.mem_singleton.mp hy] at q; rw [← q]; exact hx)⟩
        · intro x hx
          rcases List.mem_append.mp hx with q | q
          · exact t2 x q
          · rw [List.mem_singleton.mp q]; exact hmk
        · refine (Wk_app T [e] _ _).mpr ⟨_, t4, ?_⟩
          rcases g2 with ⟨w1, w2⟩ | ⟨w1, w2⟩
          · rw [w1, w2]; exact Or.inl ⟨rfl, rfl⟩
          · rw [w1, w2]; exact Or.inr ⟨rfl, rfl⟩
/-- free moves within a heap -/
theorem Rc_free (hF : 1 ≤ F ∧ F ≤ 5) (hS : 2 ≤ S ∧ S ≤ 6) (hT : TSk F S kd ht th np pf ps pk 480 a b c) {full start m p q : Int} (hm : 0 ≤ m ∧ m ≤ full) (hp : PIn F S p) (hq : PIn F S q) (he : rp (LkE F S kd) (p / 2) = rp (LkE F S kd) (q / 2)) (h : Rc a c bt full start m p) : Rc a c bt full start m q := by
  have go : ∀ {x mv : Int}, PIn F S x → 0 ≤ mv ∧ mv < 8 → (mv = 0 ∨ 5 < mv) → lead F S kd x mv ≠ -1 → Rc a c bt full start m x → Rc a c bt full start m (lead F S kd x mv) := by
    intro x mv hx hmv hfr hl hr
    obtain ⟨y1, y2, y3, y4⟩ := mv_at hT hx hmv hl
    rw [alg_f hfr] at y4
    have hf := bh_free (bt := bt) (m := m) (LD := a) (GP := c) (k := 8 * x + mv) (by rw [y3]; exact hl) y4
    have := Rc.go (LD := a) (GP := c) (bt := bt) (start := start) hm y1 (by rw [y2]; exact hr) (by rw [hf]; omega)
    rw [hf, y3] at this
    exact this
  have thr : ∀ x, PIn F S x → (Rc a c bt full start m x ↔ Rc a c bt full start m (2 * (x / 2))) := by
    intro x hx
    have hx0 := hx
    unfold PIn at hx0
    by_cases o : x % 2 = 1
    · have e1 : lead F S kd x 0 = 2 * (x / 2) := by rw [lead_0, if_pos o]; omega
      have e2 : lead F S kd (2 * (x / 2)) 0 = x := by rw [lead_0, if_neg (by omega)]; omega
      refine ⟨fun hr => ?_, fun hr => ?_⟩
      · rw [← e1]; exact go hx ⟨by omega, by omega⟩ (Or.inl rfl) (by omega) hr
      · have := go (x := 2 * (x / 2)) (mv := 0) (by unfold PIn; omega) ⟨by omega, by omega⟩ (Or.inl rfl) (by omega) hr
        rw [e2] at this; exact this
    · rw [show 2 * (x / 2) = x by omega]
  refine (thr q hq).mpr ?_
  refine (rp_eq.mp he (fun x y => (Rc a c bt full start m (2 * x) ↔ Rc a c bt full start m (2 * y))) (fun _ => Iff.rfl) (fun _ _ z => z.symm) (fun _ _ _ z z' => z.trans z') ?_).mp ((thr p hp).mp h)
  rintro x y ⟨f, s, f0, f1, s0, s1, k1, rfl, rfl⟩
  have e1 : lead F S kd (2 * (6 * f + s)) 6 = 2 * (6 * (f + 1) + s) := by rw [lead_6, if_pos ⟨by omega, by rw [show 2 * (6 * f + s) / 2 % 6 = s by omega]; exact k1, by omega⟩]; omega
  have e2 : lead F S kd (2 * (6 * (f + 1) + s)) 7 = 2 * (6 * f + s) := by rw [lead_7, if_pos ⟨by omega, by rw [show 2 * (6 * (f + 1) + s) / 2 % 6 = s by omega]; exact k1, by omega⟩]; omega
  refine ⟨fun hr => ?_, fun hr => ?_⟩
  · have := go (x := 2 * (6 * f + s)) (mv := 6) (by unfold PIn; omega) ⟨by omega, by omega⟩ (Or.inr (by omega)) (by omega) hr
    rw [e1] at this; exact this
  · have := go (x := 2 * (6 * (f + 1) + s)) (mv := 7) (by unfold PIn; omega) ⟨by omega, by omega⟩ (Or.inr (by omega)) (by omega) hr
    rw [e2] at this; exact this
/-- a trail is what the search comes to -/
theorem trail_Rc (hF : 1 ≤ F ∧ F ≤ 5) (hS : 2 ≤ S ∧ S ≤ 6) (hnp : 0 ≤ np) (hP : PLs F S kd np pf ps pk) (hT : TSk F S kd ht th np pf ps pk 480 a b c) (hB : BTs np bits n bt) {start : Int} : ∀ (T A : List Nat) (m z : Int), (A ++ T).Nodup → (∀ e ∈ A ++ T, mks np bits e) → MB bt n m A → (∀ p, PIn F S p → rp (LkE F S kd) (p / 2) = z → Rc a c bt (2 ^ n - 1) start m p) → ∀ y, Wk (rU F S kd pf ps) (rV F S kd pf ps pk) z T y → ∃ m', MB bt n m' (A ++ T) ∧ ∀ p, PIn F S p → rp (LkE F S kd) (p / 2) = y → Rc a c bt (2 ^ n - 1) start m' p
  | [], A, m, z, hn, hk, hM, hz, y, hw => by
    have e : z = y := hw
    rw [List.append_nil] at *
    exact ⟨m, hM, by rw [← e]; exact hz⟩
  | e :: T, A, m, z, hn, hk, hM, hz, y, hw => by
    have he : mks np bits e := hk e (List.mem_append_right _ List.mem_cons_self)
    have hA : ∀ x ∈ A, mks np bits x := fun x hx => hk x (List.mem_append_left _ hx)
    have hne : e ∉ A := fun q => by
      have := (List.nodup_append.mp hn).2.2 e q e List.mem_cons_self
      exact this rfl
    have hMs := MB_s hB hM hA he hne
    have hbt := bt_m hB he
    obtain ⟨⟨k1, a1, a2, a3, a4, a5⟩, k2, b1, b2, b3, b4, b5⟩ := part_fw hP hF hS hT he.1.1 he.1.2.1
    have hp1 := p2_pos n
    have hM1 := hM.1
    have hbit : ¬ (m.toNat / 2 ^ (bt e).toNat) % 2 = 1 := fun q => hne ((MB_bit hB hM hA he).mp q)
    have step : ∀ k : Int, 0 ≤ k ∧ k < 480 → a k ≠ -1 → c k = e → rp (LkE F S kd) (k / 8 / 2) = z → ∀ p, PIn F S p → rp (LkE F S kd) (p / 2) = rp (LkE F S kd) (a k / 2) → Rc a c bt (2 ^ n - 1) start (m + 2 ^ (bt e).toNat) p := by
      intro k hk0 hl hc hz2 p hp hpe
      obtain ⟨g1, g2, -⟩ := mv_kind hF hS hP hT hk0.1 hk0.2 hl
      have hv := bh_cov (a := a) (c := c) (bt := bt) (m := m) (k := k) hB.2.2 hM.1 hl (by omega) (by rw [hc]; exact Or.inr hbt.2)
      rw [hc, if_neg (by omega), if_neg hbit] at hv
      have hr := Rc.go (LD := a) (GP := c) (bt := bt) (start := start) (full := 2 ^ n - 1) (m := m) ⟨by omega, by omega⟩ hk0 (hz _ g1 hz2) (by rw [hv]; have := p2_pos (bt e).toNat; omega)
      rw [hv] at hr
      exact Rc_free hF hS hT ⟨by have := hMs.1; omega, by have := hMs.1; omega⟩ g2 hp hpe.symm hr
    have happ : A ++ e :: T = (A ++ [e]) ++ T := by simp
    rw [happ] at hn hk ⊢
    rcases hw with ⟨w1, w2⟩ | ⟨w1, w2⟩
    · exact trail_Rc hF hS hnp hP hT hB T (A ++ [e]) _ _ hn hk hMs (fun p hp hpe => step k1 a1 a2 a3 (by rw [a4, w1]; rfl) p hp (by rw [hpe, a5]; rfl)) y w2
    · exact trail_Rc hF hS hnp hP hT hB T (A ++ [e]) _ _ hn hk hMs (fun p hp hpe => step k2 b1 b2 b3 (by rw [b4, w1]; rfl) p hp (by rw [hpe, b5]; rfl)) y w2
end MQ
