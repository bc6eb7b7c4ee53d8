/-! ===== throws: the words ===== -/
def EN : String := "java/util/NoSuchElementException"
def EI : String := "java/lang/IllegalArgumentException"
def exNm : List String := ["java/lang/RuntimeException", "java/lang/Exception"]
theorem thN_in : ∀ w ∈ (vx_at0 RX1 81 EN exNm).filter goodWord, w ∈ lw_tbl := by
  have h : (((vx_at0 RX1 81 EN exNm).filter goodWord).all fun w => lw_tbl.elem w) = true := by decide +kernel
  intro w hw
  exact List.mem_of_elem_eq_true (List.all_eq_true.mp h w hw)
theorem thI_in : ∀ w ∈ (vx_at0 RX1 78 EI exNm).filter goodWord, w ∈ lw_tbl := by
  have h : (((vx_at0 RX1 78 EI exNm).filter goodWord).all fun w => lw_tbl.elem w) = true := by decide +kernel
  intro w hw
  exact List.mem_of_elem_eq_true (List.all_eq_true.mp h w hw)
theorem thN_no : ((vx_at0 RX1 81 EN exNm).filter (fun w => !goodWord w)).all (fun w => decide (w ∈ (declX.map Cond.declares ++ castX.map (fun q => Cond.castable q.1 q.2)))) = true := by decide +kernel
theorem thI_no : ((vx_at0 RX1 78 EI exNm).filter (fun w => !goodWord w)).all (fun w => decide (w ∈ (declX.map Cond.declares ++ castX.map (fun q => Cond.castable q.1 q.2)))) = true := by decide +kernel
theorem thN_ot : ∀ w ∈ Cond.classLink RX1 79 EN :: Cond.initialized EN :: vx_at0 RX1 81 EN exNm, vx_ot w = true := List.all_eq_true.mp (by decide +kernel)
theorem thI_ot : ∀ w ∈ Cond.classLink RX1 76 EI :: Cond.initialized EI :: vx_at0 RX1 78 EI exNm, vx_ot w = true := List.all_eq_true.mp (by decide +kernel)
