/-! ===== the law from its entry ===== -/
theorem RL_start {D : va_G} {np k21 : Int} {px : Nat → Nat} {x14 x15 x16 x17 : Int → Int} (hPB : PA (paL (2 : Int).toNat (fun _ => 0) (1 : Int).toNat) np x14 x15 x16 x17) : RL D (up (up (up (up (up (up (up (up (up cf0 0 1) 1 2) 2 1) 6 np) 7 0) 11 0) 21 k21) 22 (cf0 22 + 1)) 23 (cf0 23 + 1)) (ug (ug (ug (ug (ug (ug (ug cg0 3 (fun _ => 10)) 4 (fun j => 20 * j)) 5 (fun _ => 0)) 24 x14) 25 x15) 26 x16) 27 x17) cN0 (uM cM0 6 px) [] (up (up (up (up (up (up mf0 2 (1 : Int)) 3 (2 : Int)) 4 1) 7 0) 8 np) 9 0) (ug (ug (ug (ug (ug (ug (ug mg0 10 (fun _ => 10)) 11 (fun j => 20 * j)) 12 (fun _ => 0)) 14 x14) 15 x15) 16 x16) 17 x17) := by
  have hF1 : (1 : Int) ≤ 1 ∧ (1 : Int) ≤ 5 := by decide
  have hS1 : (2 : Int) ≤ 2 ∧ (2 : Int) ≤ 6 := by decide
  refine ⟨⟨hF1, hS1, (show (0 : Int) ≤ 1 ∧ (1 : Int) ≤ 9 by decide), (fun j j0 j1 => by show (0 : Int) ≤ 0 ∧ (0 : Int) ≤ 3; omega), (fun j j0 j1 => by show (1 : Int) ≤ 10 ∧ (10 : Int) ≤ 50; omega), (fun j j0 j1 => by show 0 ≤ 20 * j ∧ 20 * j ≤ 400; omega), (fun j j0 j1 => by show 20 * j < 20 * (j + 1); omega), (show (0 : Int) ≤ 0 ∧ (0 : Int) ≤ 400 by decide), (show (0 : Int) ≤ 0 ∧ (0 : Int) ≤ 8 by decide), (show (0 : Int) ≤ ((2 : Nat) : Int) ∧ 1 ≤ 2 ∧ 2 ≤ 12 by decide), PA_np hF1 hS1 hPB, rfl, PA_pt hF1 hS1 hPB, PLs_pa (show (0 : Int) ≤ 1 by decide) (show (0 : Int) ≤ 2 by decide) hPB, (show 8 ≤ 8 ∧ 8 ≤ 990 ∧ (0 : Int) ≤ 0 ∧ (0 : Int) ≤ ((8 : Nat) : Int) by decide), (fun j j0 j1 => absurd (show j < 0 from j1) (by omega)), (fun j j0 j1 => by show (0 : Int) ≤ 0 ∧ (0 : Int) ≤ 1000000000; omega), PS_n rfl⟩, ⟨rfl, rfl, rfl, rfl, rfl, rfl, rfl, rfl⟩, ⟨rfl, rfl, rfl, ?_, rfl, rfl, rfl, rfl⟩, (fun j j0 j1 => absurd (show j < 0 from j1) (by omega)), (fun i r hr => by simp at hr)⟩
  funext j
  show andI 0 255 = 0
  decide
set_option maxHeartbeats 4000000 in
set_option maxRecDepth 100000 in
/-- THE LAW, from its entry -/
theorem whole_start {p : Program} {e : Env} {s : State} {m : MethodId} {below : List Frame} {meth : Method} {c : Code} (l : Launch) (hflags : l.flags = flags0) {b L : Nat} {xs : Nat → Int32} (hL : L ≤ 384) (C0 : lw_At p s m meth c b L xs) : W p l e room_1 s m #[Value.ref b] below meth c s.heap [] 0 0 (lw_Z below #[Value.ref b] s) (entryFrame m ([Value.ref b] : List Value).toArray 7) := by
  have hst : l.stackTraces = false := by
    unfold Launch.stackTraces
    rw [hflags]
    decide +kernel
  obtain ⟨D, C⟩ := law_cx hst C0
  obtain ⟨hx, hb, hr, hml, hown, hts0, hX, hbl, hlocks, hgv⟩ := id C0
  have hbA : ¬ (fun q : Nat => s.heap.size ≤ q) b := Nat.not_le.mpr hbl
  have hA : ∀ q : Nat, (fun q : Nat => s.heap.size ≤ q) q → s.heap.size ≤ q := fun _ h => h
  generalize (fun q : Nat => s.heap.size ≤ q) = A at C hbA hA
  have hl := lv_entry ([.ref b]) (n := 7) (Nat.le_of_ble_eq_true rfl)
  rw [lg_entry_eq]
  generalize (lg_sl ([.ref b]) ++ List.replicate (7 - (lg_sl ([.ref b])).length) Slot.unset).toArray = ls at hl ⊢
  have hl : lv_has ls 7 [(0, .ref b)] := hl
  have G0 : GO p l e room_1 s m #[.ref b] below meth c 7 D A A 0 0 (lw_Z below #[.ref b] s) [] 0 [(0, .ref b)] [] := by
    refine g_new C in_X1 tyX1 tyX1_ok (ci := 1) rfl (fs := [.int (iI 0), .int (iI 0), .int (iI 0), .null, .null, .null, .null, .null, .null, .int (iI 0), .int (iI 0), .null, .null, .null, .null, .null, .null, .null, .null, .null, .null]) (by decide +kernel) q76 q77 q48 dL_law_0 (Nat.le_of_ble_eq_true rfl) (Nat.le_of_ble_eq_true rfl) (fun q1 => ?_)
    refine g_dup C dL_law_3 rfl ?_
    refine g_callIU C (c_newB l D C.hl q1) (As := []) (n := 0) (lw_meth q80) q48 q78 q79 rfl (by decide +kernel) rfl rfl ⟨Nat.le_of_ble_eq_true rfl, Nat.le_of_ble_eq_true rfl⟩ rfl rfl (Nat.le_of_ble_eq_true rfl) ⟨Nat.le_of_ble_eq_true rfl, Nat.le_of_ble_eq_true rfl⟩ dL_law_4 (wr := []) Sb.rf exT_b hex_t (fun v w hp => ?_) kx_nu
    obtain ⟨rfl, h, rfl, np, k21, x24, x25, x26, x27, px, hb1, hPA, rfl⟩ := hp
    refine g_astore_n C dL_law_7 rfl (lv' := [(0, .ref b), (1, .ref (h 0))]) [1, 0] rfl (Nat.le_of_ble_eq_true rfl) ?_
    refine g_new C in_X3 tyX3 tyX3_ok (ci := 0) rfl (fs := [.null, .int (iI 0), .int (iI 0), .int (iI 0), .int (iI 0), .int (iI 0), .int (iI 0), .int (iI 0), .int (iI 0), .int (iI 0), .null, .null, .null, .null, .null, .null, .null, .null, .null, .null, .null, .null, .null, .null, .null, .int (iI 0), .int (iI 0), .null, .null, .null, .null, .null, .null, .int (iI 0), .null, .null]) (by decide +kernel) q977 q978 q69 dL_law_8 (Nat.le_of_ble_eq_true rfl) (Nat.le_of_ble_eq_true rfl) (fun q2 => ?_)
    refine g_dup C dL_law_11 rfl ?_
    refine g_callIU C (c_newM l D C.hl q2) (As := []) (n := 0) (lw_meth q981) q69 q979 q980 rfl (by decide +kernel) rfl rfl ⟨Nat.le_of_ble_eq_true rfl, Nat.le_of_ble_eq_true rfl⟩ rfl rfl (Nat.le_of_ble_eq_true rfl) ⟨Nat.le_of_ble_eq_true rfl, Nat.le_of_ble_eq_true rfl⟩ dL_law_12 Sb.rf exT_b hex_t (fun v w hp => ?_) kx_nu
    obtain ⟨rfl, h2, nq, x14, x15, x16, x17, rfl, hPB, rfl⟩ := hp
    obtain ⟨rfl, hcg⟩ := PA_eq hPA hPB
    refine g_astore_n C dL_law_15 rfl (lv' := [(0, .ref b), (1, .ref (h 0)), (2, .ref (h2 36))]) [1, 2, 0] rfl (Nat.le_of_ble_eq_true rfl) ?_
    refine g_iconst C dL_law_16 ?_
    refine g_newj C (N := 1) rfl (by decide) dL_law_17 (Nat.le_of_ble_eq_true rfl) (Nat.le_of_ble_eq_true rfl) (fun q3 => ?_)
    refine g_astore_n C dL_law_19 rfl (lv' := [(0, .ref b), (1, .ref (h 0)), (2, .ref (h2 36)), (3, .ref q3)]) [1, 2, 3, 0] rfl (Nat.le_of_ble_eq_true rfl) ?_
    refine g_iconst C dL_law_20 ?_
    refine g_istore C dL_law_21 (lv' := [(0, .ref b), (1, .ref (h 0)), (2, .ref (h2 36)), (3, .ref q3), (4, .int (iI 0))]) [1, 2, 3, 4, 0] rfl (Nat.le_of_ble_eq_true rfl) ?_
    refine g_widen (k := 200 + 900 * 0) (n := 140000 + 5100 * 0) (Nat.le_of_ble_eq_true rfl) (Nat.le_of_ble_eq_true rfl) ?_
    refine g_sb (ws' := mW D h2 (up (up (up (up (up (up mf0 2 (1 : Int)) 3 (2 : Int)) 4 1) 7 0) 8 np) 9 0) (ug (ug (ug (ug (ug (ug (ug mg0 10 (fun _ => 10)) 11 (fun j => 20 * j)) 12 (fun _ => 0)) 14 x14) 15 x15) 16 x16) 17 x17) ++ ((q3, oC D (fun _ => 0)) :: bW D (uN h 21 hb1) (up (up (up (up (up (up (up (up (up cf0 0 1) 1 2) 2 1) 6 np) 7 0) 11 0) 21 k21) 22 (cf0 22 + 1)) 23 (cf0 23 + 1)) (ug (ug (ug (ug (ug (ug (ug cg0 3 (fun _ => 10)) 4 (fun j => 20 * j)) 5 (fun _ => 0)) 24 x14) 25 x15) 26 x16) 27 x17) cN0 (uM cM0 6 px) [])) ?_ ?_
    · have hw : sW D (uN h 21 hb1) (up (up (up (up (up (up (up (up (up cf0 0 1) 1 2) 2 1) 6 np) 7 0) 11 0) 21 k21) 22 (cf0 22 + 1)) 23 (cf0 23 + 1)) (ug (ug (ug (ug (ug (ug (ug cg0 3 (fun _ => 10)) 4 (fun j => 20 * j)) 5 (fun _ => 0)) 24 x24) 25 x25) 26 x26) 27 x27) cN0 (uM cM0 6 px) (ptW px x24 x25 x26 x27 np) = bW D (uN h 21 hb1) (up (up (up (up (up (up (up (up (up cf0 0 1) 1 2) 2 1) 6 np) 7 0) 11 0) 21 k21) 22 (cf0 22 + 1)) 23 (cf0 23 + 1)) (ug (ug (ug (ug (ug (ug (ug cg0 3 (fun _ => 10)) 4 (fun j => 20 * j)) 5 (fun _ => 0)) 24 x14) 25 x15) 26 x16) 27 x17) cN0 (uM cM0 6 px) [] := by
        show sW D (uN h 21 hb1) (up (up (up (up (up (up (up (up (up cf0 0 1) 1 2) 2 1) 6 np) 7 0) 11 0) 21 k21) 22 (cf0 22 + 1)) 23 (cf0 23 + 1)) (ug (ug (ug (ug (ug (ug (ug cg0 3 (fun _ => 10)) 4 (fun j => 20 * j)) 5 (fun _ => 0)) 24 x14) 25 x15) 26 x16) 27 x17) cN0 (uM cM0 6 px) (ptW px x24 x25 x26 x27 np) = sW D (uN h 21 hb1) (up (up (up (up (up (up (up (up (up cf0 0 1) 1 2) 2 1) 6 np) 7 0) 11 0) 21 k21) 22 (cf0 22 + 1)) 23 (cf0 23 + 1)) (ug (ug (ug (ug (ug (ug (ug cg0 3 (fun _ => 10)) 4 (fun j => 20 * j)) 5 (fun _ => 0)) 24 x14) 25 x15) 26 x16) 27 x17) cN0 (uM cM0 6 px) (ptW px x14 x15 x16 x17 np ++ [])
        rw [List.append_nil, ptW_cg hcg]
      rw [← hw]
      have ha : ∀ X Y : va_W, Sb ((X ++ Y) ++ [(q3, oC D (fun _ => 0))]) (Y ++ ((q3, oC D (fun _ => 0)) :: X)) := fun X Y => by
        rw [List.append_assoc]
        refine Sb.tr Sb.comm ?_
        rw [List.append_assoc]
        exact Sb.rf
      exact ha _ _
    exact law_loop C hX hbl hbA hL hA 65 0 (uN h 21 hb1) _ _ _ _ _ h2 _ _ q3 _ (by decide) (by decide) (RL_start hPB)
  exact G0 s.heap [] ls (fun k q h => by simp at h) ⟨fun i j p q h => by simp at h, fun k q h => by simp at h⟩ va_S.rf hl
