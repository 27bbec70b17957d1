/-! NextLoad$Standing: a cell a of kind 3, its bests in the cell a + 1 -/
def s_toTry (X : x_X) (a : Int) : Int := if X a 3 > 0 ∧ X a 6 = 0 then 1 else 0
def s_sum (X : x_X) (a : Int) : Int := if X a 7 = 0 then X (a + 1) 0 + X (a + 1) 1 + X (a + 1) 2 else 0
def s_least (X : x_X) (a bar : Int) : Int := if X a 3 = 0 then 0 else if X a 6 = 0 then max (X a 4) bar else X a 4
theorem c_X3_isToTry {l : Launch} {E : x_E} {κ : x_Ka} {X : x_X} {a : Int} (hT : x_T κ) (hk : κ a = some (.inl (3, 1))) : x_Pu l yX3_isToTry cX3_isToTry 1 (some .boolean) 0 E κ X [x_rf E a] (vi (s_toTry X a)) := by
  refine x_Met.of [(false, x_rf E a)] [some (x_rf E a)] 0 (by decide) rfl rfl ⟨x_cr E (a), trivial⟩ rfl rfl ?_
  intro p e s m args below meth c hargs hin B
  refine x_aload_n B dX3_isToTry_0 rfl ?_
  refine x_getI B (k := 3) 3 rfl rfl xc_3 (by decide) hk (Or.inl q207) (fun _ h => h) dX3_isToTry_1 (fun r_1 => ?_)
  refine x_if_le B (tgt := 18) dX3_isToTry_4 (by decide) ⟨by omega, by omega⟩ (fun h_4 => ?_) (fun h_4 => ?_)
  · refine x_iconst B dX3_isToTry_18 ?_
    refine x_zret B (fun _ _ h => h) ⟨by omega, by omega⟩ ?_ dX3_isToTry_19
    exact ⟨congrArg (fun z => some (vi z)) (by simp only [s_toTry]; grind), rfl⟩
  · refine x_aload_n B dX3_isToTry_7 rfl ?_
    refine x_getZ B (k := 6) 6 rfl rfl xc_3 (by decide) hk (Or.inl q216) (fun _ h => h) dX3_isToTry_8 (fun r_8 => ?_)
    refine x_if_ne B (tgt := 18) dX3_isToTry_11 (by decide) ⟨by omega, by omega⟩ (fun h_11 => ?_) (fun h_11 => ?_)
    · refine x_iconst B dX3_isToTry_18 ?_
      refine x_zret B (fun _ _ h => h) ⟨by omega, by omega⟩ ?_ dX3_isToTry_19
      exact ⟨congrArg (fun z => some (vi z)) (by simp only [s_toTry]; grind), rfl⟩
    · refine x_iconst B dX3_isToTry_14 ?_
      refine x_goto B (tgt := 19) dX3_isToTry_15 (by decide) ?_
      refine x_zret B (fun _ _ h => h) ⟨by omega, by omega⟩ ?_ dX3_isToTry_19
      exact ⟨congrArg (fun z => some (vi z)) (by simp only [s_toTry]; grind), rfl⟩
theorem c_X3_sum {l : Launch} {E : x_E} {κ : x_Ka} {X : x_X} {a : Int} (hT : x_T κ) (hk : κ a = some (.inl (3, 1))) : x_Pu l yX3_sum cX3_sum 1 (some .int) 0 E κ X [x_rf E a] (vi (s_sum X a)) := by
  refine x_Met.of [(false, x_rf E a)] [some (x_rf E a)] 0 (by decide) rfl rfl ⟨x_cr E (a), trivial⟩ rfl rfl ?_
  intro p e s m args below meth c hargs hin B
  refine x_aload_n B dX3_sum_0 rfl ?_
  refine x_getZ B (k := 7) 7 rfl rfl xc_3 (by decide) hk (Or.inl q220) (fun _ h => h) dX3_sum_1 (fun r_1 => ?_)
  refine x_if_eq B (tgt := 11) dX3_sum_4 (by decide) ⟨by omega, by omega⟩ (fun h_4 => ?_) (fun h_4 => ?_)
  · refine x_aload_n B dX3_sum_11 rfl ?_
    refine x_getC1 B (k := 0) hT rfl rfl xc_3 (by decide) hk (Or.inl q191) (fun _ h => h) dX3_sum_12 (fun k_12 => ?_)
    refine x_iconst B dX3_sum_15 ?_
    refine x_iald B k_12 ⟨by omega, by omega⟩ dX3_sum_16 (fun r_16 => ?_)
    refine x_aload_n B dX3_sum_17 rfl ?_
    refine x_getC1 B (k := 0) hT rfl rfl xc_3 (by decide) hk (Or.inl q191) (fun _ h => h) dX3_sum_18 (fun k_18 => ?_)
    refine x_iconst B dX3_sum_21 ?_
    refine x_iald B k_18 ⟨by omega, by omega⟩ dX3_sum_22 (fun r_22 => ?_)
    refine x_iadd B dX3_sum_23 ?_
    refine x_aload_n B dX3_sum_24 rfl ?_
    refine x_getC1 B (k := 0) hT rfl rfl xc_3 (by decide) hk (Or.inl q191) (fun _ h => h) dX3_sum_25 (fun k_25 => ?_)
    refine x_iconst B dX3_sum_28 ?_
    refine x_iald B k_25 ⟨by omega, by omega⟩ dX3_sum_29 (fun r_29 => ?_)
    refine x_iadd B dX3_sum_30 ?_
    refine x_iret B (fun _ _ h => h) ?_ dX3_sum_31
    exact ⟨congrArg (fun z => some (vi z)) (by simp only [s_sum]; grind), rfl⟩
  · refine x_iconst B dX3_sum_7 ?_
    refine x_goto B (tgt := 31) dX3_sum_8 (by decide) ?_
    refine x_iret B (fun _ _ h => h) ?_ dX3_sum_31
    exact ⟨congrArg (fun z => some (vi z)) (by simp only [s_sum]; grind), rfl⟩
theorem c_X3_least {l : Launch} {E : x_E} {κ : x_Ka} {X : x_X} {a bar : Int} (hT : x_T κ) (hk : κ a = some (.inl (3, 1))) (hb : xR bar) : x_Pu l yX3_least cX3_least 2 (some .int) 1 E κ X [x_rf E a, vi bar] (vi (s_least X a bar)) := by
  refine x_Met.of [(false, x_rf E a), (false, vi bar)] [some (x_rf E a), some (vi bar)] 0 (by decide) rfl rfl ⟨x_cr E (a), rfl, trivial⟩ rfl rfl ?_
  intro p e s m args below meth c hargs hin B
  refine x_aload_n B dX3_least_0 rfl ?_
  refine x_getI B (k := 3) 3 rfl rfl xc_3 (by decide) hk (Or.inl q207) (fun _ h => h) dX3_least_1 (fun r_1 => ?_)
  refine x_if_ne B (tgt := 11) dX3_least_4 (by decide) ⟨by omega, by omega⟩ (fun h_4 => ?_) (fun h_4 => ?_)
  · refine x_aload_n B dX3_least_11 rfl ?_
    refine x_getZ B (k := 6) 6 rfl rfl xc_3 (by decide) hk (Or.inl q216) (fun _ h => h) dX3_least_12 (fun r_12 => ?_)
    refine x_if_eq B (tgt := 25) dX3_least_15 (by decide) ⟨by omega, by omega⟩ (fun h_15 => ?_) (fun h_15 => ?_)
    · refine x_aload_n B dX3_least_25 rfl ?_
      refine x_getI B (k := 4) 4 rfl rfl xc_3 (by decide) hk (Or.inl q212) (fun _ h => h) dX3_least_26 (fun r_26 => ?_)
      refine x_iload_n B dX3_least_29 rfl ?_
      refine x_max B ⟨by omega, by omega⟩ ⟨by omega, by omega⟩ q781 q666 q130 q667 (by decide) (by simp [x_cr, x_c1, x_c2]) ⟨by decide, by decide⟩ dX3_least_30 ?_
      refine x_iret B (fun _ _ h => h) ?_ dX3_least_33
      exact ⟨congrArg (fun z => some (vi z)) (by simp only [s_least]; grind), rfl⟩
    · refine x_aload_n B dX3_least_18 rfl ?_
      refine x_getI B (k := 4) 4 rfl rfl xc_3 (by decide) hk (Or.inl q212) (fun _ h => h) dX3_least_19 (fun r_19 => ?_)
      refine x_goto B (tgt := 33) dX3_least_22 (by decide) ?_
      refine x_iret B (fun _ _ h => h) ?_ dX3_least_33
      exact ⟨congrArg (fun z => some (vi z)) (by simp only [s_least]; grind), rfl⟩
  · refine x_iconst B dX3_least_7 ?_
    refine x_goto B (tgt := 33) dX3_least_8 (by decide) ?_
    refine x_iret B (fun _ _ h => h) ?_ dX3_least_33
    exact ⟨congrArg (fun z => some (vi z)) (by simp only [s_least]; grind), rfl⟩
