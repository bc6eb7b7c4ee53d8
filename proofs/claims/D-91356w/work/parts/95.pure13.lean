/-! ===== the best way: both reckonings agree ===== -/
section BEQ
variable {LD LN CV V : Int → Int} {cl en set : Int} {n : Nat}
/-- one layer's value, in the other measure -/
def Wv (V : Int → Int) (q : Int) : Int := if 1000000000 ≤ V q then 1073741824 else 2048 * (V q / 1024) + V q % 1024
/-- how a value below FAR comes about -/
theorem bel_step {FAR ST : Int} {t p : Int} (hST : 0 ≤ ST) (hn : n ≤ 10) (hT : TBok n LD LN CV) (ht : 0 ≤ t ∧ t < 2 ^ n) (hp : 0 ≤ p ∧ p < 60) (hB : Bel FAR ST LD LN CV cl (2 ^ n) en V) (h0 : 0 < V (60 * t + p)) (h1 : V (60 * t + p) < FAR) :
    ∃ t' p' L : Int, (0 ≤ t' ∧ t' < 2 ^ n) ∧ (0 ≤ p' ∧ p' < 60) ∧ (1 ≤ L ∧ L ≤ 402) ∧ V (60 * t + p) = V (60 * t' + p') + ST * L + 1 ∧ V (60 * t' + p') < V (60 * t + p) ∧ mbd V t' p' + 1 ≤ mbd V t p := by
  obtain ⟨s1, s2, s3, s4, s5, s6, s7, s8⟩ := pstep hST hn hT ht hp hB h0 h1
  have hL := ((hT (8 * p + fstM FAR ST V LD LN CV cl t p 0 8) (by omega) (by omega)).2 (by omega)).1
  exact ⟨_, _, _, s4, s3, hL, s6.symm, s7, s8⟩
theorem bel_cnt (hn : n ≤ 10) (hT : TBok n LD LN CV) (hB : Bel 1000000000 1024 LD LN CV cl (2 ^ n) en V) : ∀ (N : Nat) (t p : Int), 0 ≤ t → t < 2 ^ n → 0 ≤ p → p < 60 → V (60 * t + p) < 1000000000 → V (60 * t + p) < N → V (60 * t + p) % 1024 ≤ mbd V t p ∧ V (60 * t + p) ≤ 411649 * mbd V t p
  | 0, t, p, t0, t1, p0, p1, _, hN => by
    have := hB.1 (60 * t + p) (by omega) (by omega)
    exact absurd hN (by omega)
  | N + 1, t, p, t0, t1, p0, p1, hf, hN => by
    have hr := hB.1 (60 * t + p) (by omega) (by omega)
    have hm := mbd_rg (V := V) (set := t) (at_ := p) ⟨p0, p1⟩
    by_cases e : V (60 * t + p) = 0
    · rw [e]; omega
    · obtain ⟨t', p', L, h1, h2, h3, h4, h5, h6⟩ := bel_step (by omega) hn hT ⟨t0, t1⟩ ⟨p0, p1⟩ hB (by omega) hf
      have ih := bel_cnt hn hT hB N t' p' h1.1 h1.2 h2.1 h2.2 (by omega) (by omega)
      have hr' := hB.1 (60 * t' + p') (by omega) (by omega)
      omega
theorem bel_c (hn : n ≤ 10) (hT : TBok n LD LN CV) (hB : Bel 1000000000 1024 LD LN CV cl (2 ^ n) en V) {t p : Int} (ht : 0 ≤ t ∧ t < 2 ^ n) (hp : 0 ≤ p ∧ p < 60) (hf : V (60 * t + p) < 1000000000) : 0 ≤ V (60 * t + p) ∧ V (60 * t + p) % 1024 ≤ 659 ∧ V (60 * t + p) ≤ 271276691 := by
  have hr := hB.1 (60 * t + p) (by omega) (by omega)
  have h1 := bel_cnt hn hT hB (V (60 * t + p) + 1).toNat t p ht.1 ht.2 hp.1 hp.2 hf (by omega)
  have hm := mbd_rg (V := V) (set := t) (at_ := p) hp
  omega
theorem Wv_lt {q : Int} (h : V q < 1000000000) : Wv V q = 2048 * (V q / 1024) + V q % 1024 := by unfold Wv; rw [if_neg (by omega)]
theorem Wv_ge {q : Int} (h : 1000000000 ≤ V q) : Wv V q = 1073741824 := by unfold Wv; rw [if_pos h]
/-- moves in both measures -/
theorem mv_W (hn : n ≤ 10) (hT : TBok n LD LN CV) (hB : Bel 1000000000 1024 LD LN CV cl (2 ^ n) en V) {t p : Int} (ht : 0 ≤ t ∧ t < 2 ^ n) (hp : 0 ≤ p ∧ p < 60) (m : Nat) (hm : m < 8) :
    (mvV 1000000000 1024 V LD LN CV cl t p m = 1000000000 ∧ mvV 1073741824 2048 (Wv V) LD LN CV cl t p m = 1073741824) ∨
    ∃ v L : Int, (0 ≤ v ∧ v % 1024 ≤ 659 ∧ v ≤ 271276691) ∧ (1 ≤ L ∧ L ≤ 402) ∧ mvV 1000000000 1024 V LD LN CV cl t p m = v + 1024 * L + 1 ∧ mvV 1073741824 2048 (Wv V) LD LN CV cl t p m = 2048 * (v / 1024) + v % 1024 + 2048 * L + 1 := by
  obtain ⟨t1, t2⟩ := hT (8 * p + m) (by omega) (by omega)
  unfold mvV
  by_cases q : LD (8 * p + m) = -1
  · rw [if_pos q, if_pos q]; exact Or.inl ⟨rfl, rfl⟩
  · rw [if_neg q, if_neg q]
    obtain ⟨t3, t4⟩ := t2 q
    rcases bhd_rg (cl := cl) hn ht t4 with z | z
    · rw [if_pos z, if_pos z]; exact Or.inl ⟨rfl, rfl⟩
    · have zn : ¬ bhd t (CV (8 * p + m)) cl = -1 := by omega
      rw [if_neg zn, if_neg zn]
      by_cases f : 1000000000 ≤ V (60 * bhd t (CV (8 * p + m)) cl + LD (8 * p + m))
      · rw [if_pos f, Wv_ge f, if_pos (Int.le_refl _)]; exact Or.inl ⟨rfl, rfl⟩
      · have hc := bel_c hn hT hB (t := bhd t (CV (8 * p + m)) cl) (p := LD (8 * p + m)) ⟨by omega, z.2⟩ ⟨by omega, t1.2⟩ (by omega)
        rw [if_neg f, Wv_lt (by omega), if_neg (by omega)]
        exact Or.inr ⟨_, _, hc, t3, rfl, rfl⟩
theorem bel_W (hn : n ≤ 10) (hT : TBok n LD LN CV) (he : 0 ≤ en ∧ en < 60) (hB : Bel 1000000000 1024 LD LN CV cl (2 ^ n) en V) : Bel 1073741824 2048 LD LN CV cl (2 ^ n) en (Wv V) := by
  have hp1 := p2_pos n
  have key : ∀ t p : Int, 0 ≤ t → t < 2 ^ n → 0 ≤ p → p < 60 → 0 ≤ Wv V (60 * t + p) ∧ Wv V (60 * t + p) ≤ 1073741824 := by
    intro t p t0 t1 p0 p1
    by_cases f : 1000000000 ≤ V (60 * t + p)
    · rw [Wv_ge f]; omega
    · have hc := bel_c hn hT hB (t := t) (p := p) ⟨t0, t1⟩ ⟨p0, p1⟩ (by omega)
      rw [Wv_lt (by omega)]; omega
  refine ⟨fun q q0 q1 => ?_, ?_, fun t p t0 t1 p0 p1 hne => ?_⟩
  · have := key (q / 60) (q % 60) (by omega) (by omega) (by omega) (by omega)
    rw [show 60 * (q / 60) + q % 60 = q by omega] at this
    exact this
  · rw [Wv_lt (by rw [hB.2.1]; omega), hB.2.1]; rfl
  · have hb := hB.2.2 t p t0 t1 p0 p1 hne
    have hle : Wv V (60 * t + p) ≤ bstM 1073741824 2048 (Wv V) LD LN CV cl t p 8 := by
      rcases bst_ex (FAR := 1073741824) (ST := 2048) (V := Wv V) (LD := LD) (LN := LN) (CV := CV) (cl := cl) (set := t) (at_ := p) 8 with h | ⟨m, h1, h2⟩
      · rw [h]; exact (key t p t0 t1 p0 p1).2
      · have h3 := bst_le (FAR := 1000000000) (ST := 1024) (V := V) (LD := LD) (LN := LN) (CV := CV) (cl := cl) (set := t) (at_ := p) 8 m h1
        rw [h2]
        rcases mv_W hn hT hB ⟨t0, t1⟩ ⟨p0, p1⟩ m h1 with ⟨_, e2⟩ | ⟨v, L, hv, hL, e1, e2⟩
        · rw [e2]; exact (key t p t0 t1 p0 p1).2
        · rw [e2]
          have hc := bel_c hn hT hB (t := t) (p := p) ⟨t0, t1⟩ ⟨p0, p1⟩ (by omega)
          rw [Wv_lt (by omega)]
          omega
    refine Int.le_antisymm hle ?_
    by_cases f : 1000000000 ≤ V (60 * t + p)
    · rw [Wv_ge f]; exact bst_far 8
    · rcases bst_ex (FAR := 1000000000) (ST := 1024) (V := V) (LD := LD) (LN := LN) (CV := CV) (cl := cl) (set := t) (at_ := p) 8 with h | ⟨m, h1, h2⟩
      · omega
      · have h3 := bst_le (FAR := 1073741824) (ST := 2048) (V := Wv V) (LD := LD) (LN := LN) (CV := CV) (cl := cl) (set := t) (at_ := p) 8 m h1
        rcases mv_W hn hT hB ⟨t0, t1⟩ ⟨p0, p1⟩ m h1 with ⟨e1, _⟩ | ⟨v, L, hv, hL, e1, e2⟩
        · omega
        · rw [Wv_lt (by omega)]
          omega
theorem bel_le {FAR ST : Int} {V' : Int → Int} (hST : 0 ≤ ST) (hn : n ≤ 10) (hT : TBok n LD LN CV) (hB : Bel FAR ST LD LN CV cl (2 ^ n) en V) (hB' : Bel FAR ST LD LN CV cl (2 ^ n) en V') : ∀ (N : Nat) (t p : Int), 0 ≤ t → t < 2 ^ n → 0 ≤ p → p < 60 → V (60 * t + p) < FAR → V (60 * t + p) < N → V' (60 * t + p) ≤ V (60 * t + p)
  | 0, t, p, t0, t1, p0, p1, _, hN => by
    have := hB.1 (60 * t + p) (by omega) (by omega)
    exact absurd hN (by omega)
  | N + 1, t, p, t0, t1, p0, p1, hf, hN => by
    by_cases hne : t = 2 ^ n - 1 ∧ p = en
    · rw [hne.1, hne.2, hB.2.1, hB'.2.1]; exact Int.le_refl _
    · have hb := hB.2.2 t p t0 t1 p0 p1 hne
      have hb' := hB'.2.2 t p t0 t1 p0 p1 hne
      rcases bst_ex (FAR := FAR) (ST := ST) (V := V) (LD := LD) (LN := LN) (CV := CV) (cl := cl) (set := t) (at_ := p) 8 with h | ⟨m, h1, h2⟩
      · omega
      · have h3 := bst_le (FAR := FAR) (ST := ST) (V := V') (LD := LD) (LN := LN) (CV := CV) (cl := cl) (set := t) (at_ := p) 8 m h1
        obtain ⟨i1, i2, i3, i4⟩ := mv_inv (show mvV FAR ST V LD LN CV cl t p m < FAR by omega)
        obtain ⟨t3, t4⟩ := hT (8 * p + m) (by omega) (by omega)
        obtain ⟨t5, t6⟩ := t4 i1
        rcases bhd_rg (cl := cl) hn ⟨t0, t1⟩ t6 with z | z
        · exact absurd z i2
        · have hc : 0 ≤ ST * LN (8 * p + m) := Int.mul_nonneg hST (by omega)
          have ih := bel_le hST hn hT hB hB' N (bhd t (CV (8 * p + m)) cl) (LD (8 * p + m)) (by omega) z.2 (by omega) t3.2 i3 (by omega)
          have e : mvV FAR ST V' LD LN CV cl t p m = V' (60 * bhd t (CV (8 * p + m)) cl + LD (8 * p + m)) + ST * LN (8 * p + m) + 1 := by
            unfold mvV; rw [if_neg i1, if_neg i2, if_neg (by omega)]
          omega
theorem bel_un {FAR ST : Int} {V' : Int → Int} (hST : 0 ≤ ST) (hn : n ≤ 10) (hT : TBok n LD LN CV) (hB : Bel FAR ST LD LN CV cl (2 ^ n) en V) (hB' : Bel FAR ST LD LN CV cl (2 ^ n) en V') {t p : Int} (ht : 0 ≤ t ∧ t < 2 ^ n) (hp : 0 ≤ p ∧ p < 60) : V (60 * t + p) = V' (60 * t + p) := by
  have hr := hB.1 (60 * t + p) (by omega) (by omega)
  have hr' := hB'.1 (60 * t + p) (by omega) (by omega)
  by_cases f : V (60 * t + p) < FAR
  · have h1 := bel_le hST hn hT hB hB' (V (60 * t + p) + 1).toNat t p ht.1 ht.2 hp.1 hp.2 f (by omega)
    have h2 := bel_le hST hn hT hB' hB (V' (60 * t + p) + 1).toNat t p ht.1 ht.2 hp.1 hp.2 (by omega) (by omega)
    omega
  · by_cases f' : V' (60 * t + p) < FAR
    · have h2 := bel_le hST hn hT hB' hB (V' (60 * t + p) + 1).toNat t p ht.1 ht.2 hp.1 hp.2 f' (by omega)
      omega
    · omega
/-- the first best moves are the same -/
theorem fst_W {V2 : Int → Int} (hn : n ≤ 10) (hT : TBok n LD LN CV) (he : 0 ≤ en ∧ en < 60) (hB : Bel 1000000000 1024 LD LN CV cl (2 ^ n) en V) (hB2 : Bel 1073741824 2048 LD LN CV cl (2 ^ n) en V2) {t p : Int} (ht : 0 ≤ t ∧ t < 2 ^ n) (hp : 0 ≤ p ∧ p < 60) (h0 : 0 < V (60 * t + p)) (hf : V (60 * t + p) < 1000000000) :
    fstM 1000000000 1024 V LD LN CV cl t p 0 8 = fstM 1073741824 2048 V2 LD LN CV cl t p 0 8 := by
  have hW := bel_W hn hT he hB
  have hne : ¬ (t = 2 ^ n - 1 ∧ p = en) := by rintro ⟨rfl, rfl⟩; have := hB.2.1; omega
  have hb := hB.2.2 t p ht.1 ht.2 hp.1 hp.2 hne
  have hb2 := hB2.2.2 t p ht.1 ht.2 hp.1 hp.2 hne
  have hc := bel_c hn hT hB ht hp hf
  have e2 := bel_un (by omega) hn hT hB2 hW ht hp
  rw [Wv_lt hf] at e2
  obtain ⟨m1, a1, a2, a3, a4⟩ := fst_ok (f0 := 0) 8 (show bstM 1000000000 1024 V LD LN CV cl t p 8 < 1000000000 by omega)
  obtain ⟨m2, b1, b2, b3, b4⟩ := fst_ok (f0 := 0) 8 (show bstM 1073741824 2048 V2 LD LN CV cl t p 8 < 1073741824 by omega)
  have cg : ∀ m : Nat, m < 8 → mvV 1073741824 2048 V2 LD LN CV cl t p m = mvV 1073741824 2048 (Wv V) LD LN CV cl t p m := fun m hm => mvV_cg hn hT ht hp (fun t' p' x0 x1 x2 x3 => bel_un (by omega) hn hT hB2 hW ⟨by omega, x1⟩ ⟨x2, x3⟩) hm
  rw [a2, b2]
  rcases Nat.lt_trichotomy m1 m2 with q | q | q
  · have h9 := b4 m1 q
    rw [cg m1 a1] at h9
    rcases mv_W hn hT hB ht hp m1 a1 with ⟨x1, _⟩ | ⟨v, L, hv, hL, x1, x2⟩
    · omega
    · omega
  · rw [q]
  · have h9 := a4 m2 q
    rw [cg m2 b1] at b3
    rcases mv_W hn hT hB ht hp m2 b1 with ⟨_, x2⟩ | ⟨v, L, hv, hL, x1, x2⟩
    · omega
    · omega
theorem psq_W {V2 : Int → Int} (hn : n ≤ 10) (hT : TBok n LD LN CV) (he : 0 ≤ en ∧ en < 60) (hB : Bel 1000000000 1024 LD LN CV cl (2 ^ n) en V) (hB2 : Bel 1073741824 2048 LD LN CV cl (2 ^ n) en V2) (hf : V (60 * 0 + en) < 1000000000) {K : Int} (hk : ∀ i : Nat, (i : Int) < K → 0 < V (60 * (psq 1000000000 1024 V LD LN CV cl en i).1 + (psq 1000000000 1024 V LD LN CV cl en i).2)) : ∀ i : Nat, (i : Int) ≤ K → psq 1000000000 1024 V LD LN CV cl en i = psq 1073741824 2048 V2 LD LN CV cl en i
  | 0, _ => rfl
  | i + 1, hi => by
    have ih := psq_W hn hT he hB hB2 hf hk i (by omega)
    have hin := psq_in (by omega) hn hT he hB hf hk i (by omega)
    have h9 := fst_W hn hT he hB hB2 hin.1 hin.2.1 (hk i (by omega)) hin.2.2
    show (_, _) = (_, _)
    rw [← ih, ← h9]
theorem best_eq {V2 : Int → Int} (hn : n ≤ 10) (hT : TBok n LD LN CV) (he : 0 ≤ en ∧ en < 60) (hB : Bel 1000000000 1024 LD LN CV cl (2 ^ n) en V) (hB2 : Bel 1073741824 2048 LD LN CV cl (2 ^ n) en V2) :
    (1000000000 ≤ V en ↔ 1073741824 ≤ V2 en) ∧ (V en < 1000000000 → V en / 1024 = V2 en / 2048) := by
  have hW := bel_W hn hT he hB
  have hp1 := p2_pos n
  have e2 := bel_un (by omega) hn hT hB2 hW (t := 0) (p := en) ⟨by omega, by omega⟩ he
  rw [show (60 : Int) * 0 + en = en by omega] at e2
  by_cases f : 1000000000 ≤ V en
  · rw [Wv_ge f] at e2; exact ⟨⟨fun _ => by omega, fun _ => f⟩, fun q => by omega⟩
  · have hc := bel_c hn hT hB (t := 0) (p := en) ⟨by omega, by omega⟩ he (by rw [show (60 : Int) * 0 + en = en by omega]; omega)
    rw [show (60 : Int) * 0 + en = en by omega] at hc
    rw [Wv_lt (by omega)] at e2
    exact ⟨⟨fun q => absurd q f, fun q => by omega⟩, fun _ => by omega⟩
theorem kept_eq {V2 : Int → Int} (hn : n ≤ 10) (hT : TBok n LD LN CV) (he : 0 ≤ en ∧ en < 60) (hB : Bel 1000000000 1024 LD LN CV cl (2 ^ n) en V) (hB2 : Bel 1073741824 2048 LD LN CV cl (2 ^ n) en V2) (hf : V en < 1000000000) {K K2 : Int} {k k2 : Int → Int} (h : KP 1000000000 1024 V LD LN CV cl en K k) (h2 : KP 1073741824 2048 V2 LD LN CV cl en K2 k2) : K = K2 ∧ ∀ j, 0 ≤ j → j < K → k j = k2 j := by
  have hW := bel_W hn hT he hB
  have hf0 : V (60 * 0 + en) < 1000000000 := by rw [show (60 : Int) * 0 + en = en by omega]; exact hf
  obtain ⟨r1, a1, a2⟩ := h
  obtain ⟨r2, b1, b2⟩ := h2
  have hk : ∀ i : Nat, (i : Int) < K → 0 < V (60 * (psq 1000000000 1024 V LD LN CV cl en i).1 + (psq 1000000000 1024 V LD LN CV cl en i).2) := fun i hi => (a1 i hi).1
  have hps := psq_W hn hT he hB hB2 hf0 hk
  have hin := psq_in (by omega) hn hT he hB hf0 hk
  have hz : ∀ i : Nat, (i : Int) ≤ K → (V (60 * (psq 1000000000 1024 V LD LN CV cl en i).1 + (psq 1000000000 1024 V LD LN CV cl en i).2) ≤ 0 ↔ V2 (60 * (psq 1073741824 2048 V2 LD LN CV cl en i).1 + (psq 1073741824 2048 V2 LD LN CV cl en i).2) ≤ 0) := by
    intro i hi
    have hi9 := hin i hi
    rw [← hps i hi]
    have e2 := bel_un (by omega) hn hT hB2 hW hi9.1 hi9.2.1
    have hc := bel_c hn hT hB hi9.1 hi9.2.1 hi9.2.2
    rw [Wv_lt hi9.2.2] at e2
    omega
  have e : K = K2 := by
    rcases Int.lt_trichotomy K K2 with q | q | q
    · have h3 := (hz K.toNat (by omega)).mp a2
      have h4 := (b1 K.toNat (by omega)).1
      omega
    · exact q
    · have h3 := (hz K2.toNat (by omega)).mpr b2
      have h4 := (a1 K2.toNat (by omega)).1
      omega
  subst e
  refine ⟨rfl, fun j j0 j1 => ?_⟩
  have h3 := (a1 j.toNat (by omega)).2
  have h4 := (b1 j.toNat (by omega)).2
  have hi9 := hin j.toNat (by omega)
  rw [Int.toNat_of_nonneg j0] at h3 h4
  rw [h3, h4, ← hps j.toNat (by omega)]
  exact fst_W hn hT he hB hB2 hi9.1 hi9.2.1 (hk j.toNat (by omega)) hi9.2.2
end BEQ
