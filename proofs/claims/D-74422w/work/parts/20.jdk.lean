/-! small helpers -/
def x_in (v lo hi : Int) : Int := if lo ≤ v ∧ v ≤ hi then 1 else 0
theorem x_in_01 (v lo hi : Int) : 0 ≤ x_in v lo hi ∧ x_in v lo hi ≤ 1 := by unfold x_in; split <;> omega
theorem x_mb {a b A B : Int} (h1 : 0 ≤ a ∧ a ≤ A) (h2 : 0 ≤ b ∧ b ≤ B) : 0 ≤ a * b ∧ a * b ≤ A * B := ⟨Int.mul_nonneg h1.1 h2.1, Int.mul_le_mul h1.2 h2.2 h2.1 (by omega)⟩
theorem x_cmp_r (a b : Int) : -1 ≤ x_cmp a b ∧ x_cmp a b ≤ 1 := by unfold x_cmp; split; omega; split <;> omega
theorem c_X1_in {l : Launch} {E : x_E} {κ : x_Ka} {X : x_X} {v lo hi : Int} (hv : xR v) (hlo : xR lo) (hhi : xR hi) : x_Pu l yX1_in cX1_in 6 (some .boolean) 0 E κ X [vl v, vl lo, vl hi] (vi (x_in v lo hi)) := by
  refine x_Met.of [(true, vl v), (true, vl lo), (true, vl hi)] [some (vl v), none, some (vl lo), none, some (vl hi), none] 0 (by decide) rfl rfl ⟨rfl, rfl, rfl, trivial⟩ rfl rfl ?_
  intro p e s m args below meth c hargs hin B
  refine x_lload_n B dX1_in_0 rfl ?_
  refine x_lload_n B dX1_in_1 rfl ?_
  refine x_lcmp B dX1_in_2 ⟨by omega, by omega⟩ ⟨by omega, by omega⟩ ?_
  have hc3 := x_cmp_r v lo
  refine x_if_lt B (tgt := 17) dX1_in_3 (by decide) ⟨by omega, by omega⟩ (fun h_3 => ?_) (fun h_3 => ?_)
  · refine x_iconst B dX1_in_17 ?_
    refine x_zret B (fun _ _ h => h) ⟨by omega, by omega⟩ ?_ dX1_in_18
    exact ⟨congrArg (fun z => some (vi z)) (by unfold x_in; simp only [x_cmp] at *; grind), rfl⟩
  · refine x_lload_n B dX1_in_6 rfl ?_
    refine x_lload B dX1_in_7 rfl ?_
    refine x_lcmp B dX1_in_9 ⟨by omega, by omega⟩ ⟨by omega, by omega⟩ ?_
    have hc10 := x_cmp_r v hi
    refine x_if_gt B (tgt := 17) dX1_in_10 (by decide) ⟨by omega, by omega⟩ (fun h_10 => ?_) (fun h_10 => ?_)
    · refine x_iconst B dX1_in_17 ?_
      refine x_zret B (fun _ _ h => h) ⟨by omega, by omega⟩ ?_ dX1_in_18
      exact ⟨congrArg (fun z => some (vi z)) (by unfold x_in; simp only [x_cmp] at *; grind), rfl⟩
    · refine x_iconst B dX1_in_13 ?_
      refine x_goto B (tgt := 18) dX1_in_14 (by decide) ?_
      refine x_zret B (fun _ _ h => h) ⟨by omega, by omega⟩ ?_ dX1_in_18
      exact ⟨congrArg (fun z => some (vi z)) (by unfold x_in; simp only [x_cmp] at *; grind), rfl⟩
theorem c_X8_in {l : Launch} {E : x_E} {κ : x_Ka} {X : x_X} {v lo hi : Int} (hv : xR v) (hlo : xR lo) (hhi : xR hi) : x_Pu l yX8_in cX8_in 6 (some .boolean) 0 E κ X [vl v, vl lo, vl hi] (vi (x_in v lo hi)) := by
  refine x_Met.of [(true, vl v), (true, vl lo), (true, vl hi)] [some (vl v), none, some (vl lo), none, some (vl hi), none] 0 (by decide) rfl rfl ⟨rfl, rfl, rfl, trivial⟩ rfl rfl ?_
  intro p e s m args below meth c hargs hin B
  refine x_lload_n B dX8_in_0 rfl ?_
  refine x_lload_n B dX8_in_1 rfl ?_
  refine x_lcmp B dX8_in_2 ⟨by omega, by omega⟩ ⟨by omega, by omega⟩ ?_
  have hc3 := x_cmp_r v lo
  refine x_if_lt B (tgt := 17) dX8_in_3 (by decide) ⟨by omega, by omega⟩ (fun h_3 => ?_) (fun h_3 => ?_)
  · refine x_iconst B dX8_in_17 ?_
    refine x_zret B (fun _ _ h => h) ⟨by omega, by omega⟩ ?_ dX8_in_18
    exact ⟨congrArg (fun z => some (vi z)) (by unfold x_in; simp only [x_cmp] at *; grind), rfl⟩
  · refine x_lload_n B dX8_in_6 rfl ?_
    refine x_lload B dX8_in_7 rfl ?_
    refine x_lcmp B dX8_in_9 ⟨by omega, by omega⟩ ⟨by omega, by omega⟩ ?_
    have hc10 := x_cmp_r v hi
    refine x_if_gt B (tgt := 17) dX8_in_10 (by decide) ⟨by omega, by omega⟩ (fun h_10 => ?_) (fun h_10 => ?_)
    · refine x_iconst B dX8_in_17 ?_
      refine x_zret B (fun _ _ h => h) ⟨by omega, by omega⟩ ?_ dX8_in_18
      exact ⟨congrArg (fun z => some (vi z)) (by unfold x_in; simp only [x_cmp] at *; grind), rfl⟩
    · refine x_iconst B dX8_in_13 ?_
      refine x_goto B (tgt := 18) dX8_in_14 (by decide) ?_
      refine x_zret B (fun _ _ h => h) ⟨by omega, by omega⟩ ?_ dX8_in_18
      exact ⟨congrArg (fun z => some (vi z)) (by unfold x_in; simp only [x_cmp] at *; grind), rfl⟩
theorem c_X1_bit {l : Launch} {E : x_E} {κ : x_Ka} {X : x_X} {v : Int} (hv : 0 ≤ v ∧ v ≤ 1) : x_Pu l yX1_bit cX1_bit 1 (some .int) 0 E κ X [vi v] (vi v) := by
  refine x_Met.of [(false, vi v)] [some (vi v)] 0 (by decide) rfl rfl ⟨rfl, trivial⟩ rfl rfl ?_
  intro p e s m args below meth c hargs hin B
  refine x_iload_n B dX1_bit_0 rfl ?_
  refine x_if_eq B (tgt := 8) dX1_bit_1 (by decide) ⟨by omega, by omega⟩ (fun h_1 => ?_) (fun h_1 => ?_)
  · refine x_iconst B dX1_bit_8 ?_
    refine x_iret B (fun _ _ h => h) ?_ dX1_bit_9
    exact ⟨congrArg (fun z => some (vi z)) (by omega), rfl⟩
  · refine x_iconst B dX1_bit_4 ?_
    refine x_goto B (tgt := 9) dX1_bit_5 (by decide) ?_
    refine x_iret B (fun _ _ h => h) ?_ dX1_bit_9
    exact ⟨congrArg (fun z => some (vi z)) (by omega), rfl⟩
theorem c_X8_flag {l : Launch} {E : x_E} {κ : x_Ka} {X : x_X} {v : Int} (hv : 0 ≤ v ∧ v ≤ 1) : x_Pu l yX8_flag cX8_flag 1 (some .int) 0 E κ X [vi v] (vi v) := by
  refine x_Met.of [(false, vi v)] [some (vi v)] 0 (by decide) rfl rfl ⟨rfl, trivial⟩ rfl rfl ?_
  intro p e s m args below meth c hargs hin B
  refine x_iload_n B dX8_flag_0 rfl ?_
  refine x_if_eq B (tgt := 8) dX8_flag_1 (by decide) ⟨by omega, by omega⟩ (fun h_1 => ?_) (fun h_1 => ?_)
  · refine x_iconst B dX8_flag_8 ?_
    refine x_iret B (fun _ _ h => h) ?_ dX8_flag_9
    exact ⟨congrArg (fun z => some (vi z)) (by omega), rfl⟩
  · refine x_iconst B dX8_flag_4 ?_
    refine x_goto B (tgt := 9) dX8_flag_5 (by decide) ?_
    refine x_iret B (fun _ _ h => h) ?_ dX8_flag_9
    exact ⟨congrArg (fun z => some (vi z)) (by omega), rfl⟩
theorem c_J4_checkIndex {l : Launch} {E : x_E} {κ : x_Ka} {X : x_X} {i n z : Int} (hi : 0 ≤ i ∧ i < n) (hn : xR n) : x_Pu l yJ4_checkIndex cJ4_checkIndex 3 (some .int) 0 E κ X [vi i, vi n, x_rf E z] (vi i) := by
  refine x_Met.of [(false, vi i), (false, vi n), (false, x_rf E z)] [some (vi i), some (vi n), some (x_rf E z)] 0 (by decide) rfl rfl ⟨rfl, rfl, x_cr E (z), trivial⟩ rfl rfl ?_
  intro p e s m args below meth c hargs hin B
  refine x_iload_n B dJ4_checkIndex_0 rfl ?_
  refine x_if_lt B (tgt := 9) dJ4_checkIndex_1 (by decide) ⟨by omega, by omega⟩ (fun h_1 => (by exfalso; omega)) (fun h_1 => ?_)
  refine x_iload_n B dJ4_checkIndex_4 rfl ?_
  refine x_iload_n B dJ4_checkIndex_5 rfl ?_
  refine x_icmp_lt B (tgt := 16) dJ4_checkIndex_6 (by decide) ⟨by omega, by omega⟩ ⟨by omega, by omega⟩ (fun h_6 => ?_) (fun h_6 => (by exfalso; omega))
  refine x_iload_n B dJ4_checkIndex_16 rfl ?_
  refine x_iret B (fun _ _ h => h) ?_ dJ4_checkIndex_17
  exact ⟨rfl, rfl⟩
theorem c_J3_checkIndex {l : Launch} {E : x_E} {κ : x_Ka} {X : x_X} {i n : Int} (hi : 0 ≤ i ∧ i < n) (hn : xR n) : x_Pu l yJ3_checkIndex cJ3_checkIndex 2 (some .int) 1 E κ X [vi i, vi n] (vi i) := by
  refine x_Met.of [(false, vi i), (false, vi n)] [some (vi i), some (vi n)] 0 (by decide) rfl rfl ⟨rfl, rfl, trivial⟩ rfl rfl ?_
  intro p e s m args below meth c hargs hin B
  refine x_iload_n B dJ3_checkIndex_0 rfl ?_
  refine x_iload_n B dJ3_checkIndex_1 rfl ?_
  refine x_null B dJ3_checkIndex_2 ?_
  refine x_goP (x_rS B (c_J4_checkIndex ⟨by omega, by omega⟩ ⟨by omega, by omega⟩) (lw_S q378 q379 q121 q380) hd_J4_checkIndex ⟨by decide, by decide⟩ ⟨by decide, by decide⟩ rfl rfl (by simp [x_cr, x_c1, x_c2]) dJ3_checkIndex_3) ?_
  refine x_iret B (fun _ _ h => h) ?_ dJ3_checkIndex_6
  exact ⟨rfl, rfl⟩
theorem c_J2_size {l : Launch} {E : x_E} {κ : x_Ka} {X : x_X}  (hT : x_T κ) (hk : κ 1 = some (.inl (1, 1))) : x_Pu l yJ2_size cJ2_size 1 (some .int) 0 E κ X [x_rf E 1] (vi (X 1 2)) := by
  refine x_Met.of [(false, x_rf E 1)] [some (x_rf E 1)] 0 (by decide) rfl rfl ⟨x_cr E (1), trivial⟩ rfl rfl ?_
  intro p e s m args below meth c hargs hin B
  refine x_aload_n B dJ2_size_0 rfl ?_
  refine x_getI B (k := 2) 2 rfl rfl xc_1 (by decide) hk (Or.inl q167) (fun _ h => h) dJ2_size_1 (fun r_1 => ?_)
  refine x_iret B (fun _ _ h => h) ?_ dJ2_size_4
  exact ⟨rfl, rfl⟩
theorem c_J2_isEmpty {l : Launch} {E : x_E} {κ : x_Ka} {X : x_X}  (hT : x_T κ) (hk : κ 1 = some (.inl (1, 1))) : x_Pu l yJ2_isEmpty cJ2_isEmpty 1 (some .boolean) 0 E κ X [x_rf E 1] (vi (if X 1 2 = 0 then 1 else 0)) := by
  refine x_Met.of [(false, x_rf E 1)] [some (x_rf E 1)] 0 (by decide) rfl rfl ⟨x_cr E (1), trivial⟩ rfl rfl ?_
  intro p e s m args below meth c hargs hin B
  refine x_aload_n B dJ2_isEmpty_0 rfl ?_
  refine x_getI B (k := 2) 2 rfl rfl xc_1 (by decide) hk (Or.inl q167) (fun _ h => h) dJ2_isEmpty_1 (fun r_1 => ?_)
  refine x_if_ne B (tgt := 11) dJ2_isEmpty_4 (by decide) ⟨by omega, by omega⟩ (fun h_4 => ?_) (fun h_4 => ?_)
  · refine x_iconst B dJ2_isEmpty_11 ?_
    refine x_zret B (fun _ _ h => h) ⟨by omega, by omega⟩ ?_ dJ2_isEmpty_12
    exact ⟨congrArg (fun z => some (vi z)) (by grind), rfl⟩
  · refine x_iconst B dJ2_isEmpty_7 ?_
    refine x_goto B (tgt := 12) dJ2_isEmpty_8 (by decide) ?_
    refine x_zret B (fun _ _ h => h) ⟨by omega, by omega⟩ ?_ dJ2_isEmpty_12
    exact ⟨congrArg (fun z => some (vi z)) (by grind), rfl⟩
theorem c_J2_elementData {l : Launch} {E : x_E} {κ : x_Ka} {X : x_X} {i : Int} (hT : x_T κ) (hk : κ 1 = some (.inl (1, 1))) (hi : 0 ≤ i ∧ i < 6) : x_Pu l yJ2_elementData cJ2_elementData 2 (some (.object "java/lang/Object")) 0 E κ X [x_rf E 1, vi i] (x_rf E (X 2 i)) := by
  refine x_Met.of [(false, x_rf E 1), (false, vi i)] [some (x_rf E 1), some (vi i)] 0 (by decide) rfl rfl ⟨x_cr E (1), rfl, trivial⟩ rfl rfl ?_
  intro p e s m args below meth c hargs hin B
  refine x_aload_n B dJ2_elementData_0 rfl ?_
  refine x_getC0 B (k := 1) hT rfl rfl xc_1 (by decide) hk (Or.inl q166) (fun _ h => h) dJ2_elementData_1 (fun k_1 => ?_)
  refine x_iload_n B dJ2_elementData_4 rfl ?_
  refine x_aald B (t := 4) k_1 rfl rfl rfl ⟨by omega, by omega⟩ dJ2_elementData_5 ?_
  refine x_aret B (Or.inl ⟨_, rfl⟩) (fun _ _ h => h) ?_ dJ2_elementData_6
  exact ⟨rfl, rfl⟩
theorem c_J2_get {l : Launch} {E : x_E} {κ : x_Ka} {X : x_X} {i : Int} (hT : x_T κ) (hk : κ 1 = some (.inl (1, 1))) (hn : X 1 2 ≤ 6) (hi : 0 ≤ i ∧ i < X 1 2) : x_Pu l yJ2_get cJ2_get 2 (some (.object "java/lang/Object")) 2 E κ X [x_rf E 1, vi i] (x_rf E (X 2 i)) := by
  refine x_Met.of [(false, x_rf E 1), (false, vi i)] [some (x_rf E 1), some (vi i)] 0 (by decide) rfl rfl ⟨x_cr E (1), rfl, trivial⟩ rfl rfl ?_
  intro p e s m args below meth c hargs hin B
  refine x_iload_n B dJ2_get_0 rfl ?_
  refine x_aload_n B dJ2_get_1 rfl ?_
  refine x_getI B (k := 2) 2 rfl rfl xc_1 (by decide) hk (Or.inl q167) (fun _ h => h) dJ2_get_2 (fun r_2 => ?_)
  refine x_goP (x_rS B (c_J3_checkIndex ⟨by omega, by omega⟩ ⟨by omega, by omega⟩) (lw_S q375 q376 q120 q377) hd_J3_checkIndex ⟨by decide, by decide⟩ ⟨by decide, by decide⟩ rfl rfl (by simp [x_cr, x_c1, x_c2]) dJ2_get_5) ?_
  refine x_pop B dJ2_get_8 (by first | rfl | exact x_cr _ _) ?_
  refine x_aload_n B dJ2_get_9 rfl ?_
  refine x_iload_n B dJ2_get_10 rfl ?_
  refine x_goP (x_rV B hk (show x_cl[1]? = some _ from rfl) (c_J2_elementData hT (by assumption) ⟨by omega, by omega⟩) (lw_V q381 q382 q383 q113 q384) hv_J2_elementData ⟨by decide, by decide⟩ ⟨by decide, by decide⟩ rfl rfl (by simp [x_cr, x_c1, x_c2]) dJ2_get_11) ?_
  refine x_aret B (Or.inl ⟨_, rfl⟩) (fun _ _ h => h) ?_ dJ2_get_14
  exact ⟨rfl, rfl⟩
