theorem c_X8_of {l : Launch} {E : x_E} {κ : x_Ka} {X : x_X} {a w : Int} (hT : x_T κ) (h8 : κ 64 = some (.inl (7, 1))) (ha : 0 ≤ 3 + 10 * a + w ∧ 3 + 10 * a + w < 63) : x_Pu l yX8_of cX8_of 3 (some .int) 0 E κ X [x_rf E 64, vi a, vi w] (vi (X 72 (3 + 10 * a + w))) := by
  refine x_Met.of [(false, x_rf E 64), (false, vi a), (false, vi w)] [some (x_rf E 64), some (vi a), some (vi w)] 0 (by decide) rfl rfl ⟨x_cr E (64), rfl, rfl, trivial⟩ rfl rfl ?_
  intro p e s m args below meth c hargs hin B
  refine x_aload_n B dX8_of_0 rfl ?_
  refine x_getC0 B (k := 11) hT rfl rfl xc_7 (by decide) h8 (Or.inl q1346) (fun _ h => h) dX8_of_1 (fun k_1 => ?_)
  refine x_iconst B dX8_of_4 ?_
  refine x_bipush B dX8_of_5 (by decide) ?_
  refine x_iload_n B dX8_of_7 rfl ?_
  refine x_imul B dX8_of_8 ?_
  refine x_iadd B dX8_of_9 ?_
  refine x_iload_n B dX8_of_10 rfl ?_
  refine x_iadd B dX8_of_11 ?_
  refine x_iald B k_1 ⟨by omega, by omega⟩ dX8_of_12 (fun r_12 => ?_)
  refine x_iret B (fun _ _ h => h) ?_ dX8_of_13
  exact ⟨rfl, rfl⟩
theorem c_X8_sets {l : Launch} {E : x_E} {κ : x_Ka} {X : x_X} {a w z : Int} (hT : x_T κ) (h8 : κ 64 = some (.inl (7, 1))) (ha : 0 ≤ 3 + 10 * a + w ∧ 3 + 10 * a + w < 63) (hz : xR z) : x_Vo l yX8_sets cX8_sets 4 0 E κ X [x_rf E 64, vi a, vi w, vi z] (x_up X 72 (3 + 10 * a + w) z) := by
  refine x_Met.of [(false, x_rf E 64), (false, vi a), (false, vi w), (false, vi z)] [some (x_rf E 64), some (vi a), some (vi w), some (vi z)] 0 (by decide) rfl rfl ⟨x_cr E (64), rfl, rfl, rfl, trivial⟩ rfl rfl ?_
  intro p e s m args below meth c hargs hin B
  refine x_aload_n B dX8_sets_0 rfl ?_
  refine x_getC0 B (k := 11) hT rfl rfl xc_7 (by decide) h8 (Or.inl q1346) (fun _ h => h) dX8_sets_1 (fun k_1 => ?_)
  refine x_iconst B dX8_sets_4 ?_
  refine x_bipush B dX8_sets_5 (by decide) ?_
  refine x_iload_n B dX8_sets_7 rfl ?_
  refine x_imul B dX8_sets_8 ?_
  refine x_iadd B dX8_sets_9 ?_
  refine x_iload_n B dX8_sets_10 rfl ?_
  refine x_iadd B dX8_sets_11 ?_
  refine x_iload_n B dX8_sets_12 rfl ?_
  refine x_iast B k_1 ⟨by omega, by omega⟩ ⟨by omega, by omega⟩ dX8_sets_13 ?_
  refine x_vret B (fun _ _ h => h) ?_ dX8_sets_14
  exact ⟨rfl, rfl⟩
theorem c_X8_isOver {l : Launch} {E : x_E} {κ : x_Ka} {X : x_X}  (hT : x_T κ) (h8 : κ 64 = some (.inl (7, 1))) : x_Pu l yX8_isOver cX8_isOver 1 (some .boolean) 0 E κ X [x_rf E 64] (vi (if X 72 0 = 3 then 1 else 0)) := by
  refine x_Met.of [(false, x_rf E 64)] [some (x_rf E 64)] 0 (by decide) rfl rfl ⟨x_cr E (64), trivial⟩ rfl rfl ?_
  intro p e s m args below meth c hargs hin B
  refine x_aload_n B dX8_isOver_0 rfl ?_
  refine x_getC0 B (k := 11) hT rfl rfl xc_7 (by decide) h8 (Or.inl q1346) (fun _ h => h) dX8_isOver_1 (fun k_1 => ?_)
  refine x_iconst B dX8_isOver_4 ?_
  refine x_iald B k_1 ⟨by omega, by omega⟩ dX8_isOver_5 (fun r_5 => ?_)
  refine x_iconst B dX8_isOver_6 ?_
  refine x_icmp_ne B (tgt := 14) dX8_isOver_7 (by decide) ⟨by omega, by omega⟩ ⟨by omega, by omega⟩ (fun h_7 => ?_) (fun h_7 => ?_)
  · refine x_iconst B dX8_isOver_14 ?_
    refine x_zret B (fun _ _ h => h) ⟨by omega, by omega⟩ ?_ dX8_isOver_15
    exact ⟨congrArg (fun z => some (vi z)) (by grind), rfl⟩
  · refine x_iconst B dX8_isOver_10 ?_
    refine x_goto B (tgt := 15) dX8_isOver_11 (by decide) ?_
    refine x_zret B (fun _ _ h => h) ⟨by omega, by omega⟩ ?_ dX8_isOver_15
    exact ⟨congrArg (fun z => some (vi z)) (by grind), rfl⟩
theorem c_X8_isOut {l : Launch} {E : x_E} {κ : x_Ka} {X : x_X} {a : Int} (hT : x_T κ) (h8 : κ 64 = some (.inl (7, 1))) (ha : 0 ≤ a ∧ a < 6) : x_Pu l yX8_isOut cX8_isOut 2 (some .boolean) 1 E κ X [x_rf E 64, vi a] (vi (if X 72 (3 + 10 * a + 6) = 1 then 1 else 0)) := by
  refine x_Met.of [(false, x_rf E 64), (false, vi a)] [some (x_rf E 64), some (vi a)] 0 (by decide) rfl rfl ⟨x_cr E (64), rfl, trivial⟩ rfl rfl ?_
  intro p e s m args below meth c hargs hin B
  refine x_rga (show κ 72 = some (.inr (0, 63)) from hT.1 64 7 h8 11 (0, 72, .inr (0, 63)) rfl) (3 + 10 * a + 6) ⟨by omega, by omega⟩ (fun r6 => ?_)
  refine x_aload_n B dX8_isOut_0 rfl ?_
  refine x_iload_n B dX8_isOut_1 rfl ?_
  refine x_bipush B dX8_isOut_2 (by decide) ?_
  refine x_goP (x_rV B h8 (show x_cl[7]? = some _ from rfl) (c_X8_of hT h8 ⟨by omega, by omega⟩) (lw_V q1525 q1527 qs52 q122 q1528) hv_X8_of ⟨by decide, by decide⟩ ⟨by decide, by decide⟩ rfl rfl (by simp [x_cr, x_c1, x_c2]) dX8_isOut_4) ?_
  refine x_iconst B dX8_isOut_7 ?_
  refine x_icmp_ne B (tgt := 15) dX8_isOut_8 (by decide) ⟨by omega, by omega⟩ ⟨by omega, by omega⟩ (fun h_8 => ?_) (fun h_8 => ?_)
  · refine x_iconst B dX8_isOut_15 ?_
    refine x_zret B (fun _ _ h => h) ⟨by omega, by omega⟩ ?_ dX8_isOut_16
    exact ⟨congrArg (fun z => some (vi z)) (by grind), rfl⟩
  · refine x_iconst B dX8_isOut_11 ?_
    refine x_goto B (tgt := 16) dX8_isOut_12 (by decide) ?_
    refine x_zret B (fun _ _ h => h) ⟨by omega, by omega⟩ ?_ dX8_isOut_16
    exact ⟨congrArg (fun z => some (vi z)) (by grind), rfl⟩
theorem c_X8_isLift {l : Launch} {E : x_E} {κ : x_Ka} {X : x_X} {i : Int} (hx : xR i) : x_Pu l yX8_isLift cX8_isLift 1 (some .boolean) 1 E κ X [vi i] (vi (x_in i 0 2)) := by
  refine x_Met.of [(false, vi i)] [some (vi i)] 0 (by decide) rfl rfl ⟨rfl, trivial⟩ rfl rfl ?_
  intro p e s m args below meth c hargs hin B
  refine x_iload_n B dX8_isLift_0 rfl ?_
  refine x_i2l B dX8_isLift_1 ⟨by omega, by omega⟩ ?_
  refine x_lconst B 0 dX8_isLift_2 (by decide) ?_
  refine x_ldc2 B (2) q1560 (by decide) dX8_isLift_3 ?_
  refine x_goP (x_rS B (c_X8_in ⟨by omega, by omega⟩ ⟨by omega, by omega⟩ ⟨by omega, by omega⟩) (lw_S q1468 q1469 q122 q1470) hd_X8_in ⟨by decide, by decide⟩ ⟨by decide, by decide⟩ rfl rfl (by simp [x_cr, x_c1, x_c2]) dX8_isLift_6) ?_
  refine x_zret B (fun _ _ h => h) (x_in_01 _ _ _) ?_ dX8_isLift_9
  exact ⟨rfl, rfl⟩
theorem c_X8_isTotal {l : Launch} {E : x_E} {κ : x_Ka} {X : x_X} {i : Int} (hx : xR i) : x_Pu l yX8_isTotal cX8_isTotal 1 (some .boolean) 1 E κ X [vi i] (vi (x_in i 0 121)) := by
  refine x_Met.of [(false, vi i)] [some (vi i)] 0 (by decide) rfl rfl ⟨rfl, trivial⟩ rfl rfl ?_
  intro p e s m args below meth c hargs hin B
  refine x_iload_n B dX8_isTotal_0 rfl ?_
  refine x_i2l B dX8_isTotal_1 ⟨by omega, by omega⟩ ?_
  refine x_lconst B 0 dX8_isTotal_2 (by decide) ?_
  refine x_ldc2 B (121) q1724 (by decide) dX8_isTotal_3 ?_
  refine x_goP (x_rS B (c_X8_in ⟨by omega, by omega⟩ ⟨by omega, by omega⟩ ⟨by omega, by omega⟩) (lw_S q1468 q1469 q122 q1470) hd_X8_in ⟨by decide, by decide⟩ ⟨by decide, by decide⟩ rfl rfl (by simp [x_cr, x_c1, x_c2]) dX8_isTotal_6) ?_
  refine x_zret B (fun _ _ h => h) (x_in_01 _ _ _) ?_ dX8_isTotal_9
  exact ⟨rfl, rfl⟩
theorem c_X8_isLifter {l : Launch} {E : x_E} {κ : x_Ka} {X : x_X} {i : Int} (hK : t_K κ X) (hx : xR i) : x_Pu l yX8_isLifter cX8_isLifter 2 (some .boolean) 1 E κ X [x_rf E 64, vi i] (vi (x_in i 0 (X 64 3 - 1))) := by
  refine x_Met.of [(false, x_rf E 64), (false, vi i)] [some (x_rf E 64), some (vi i)] 0 (by decide) rfl rfl ⟨x_cr E (64), rfl, trivial⟩ rfl rfl ?_
  intro p e s m args below meth c hargs hin B
  obtain ⟨hT, h8, hn⟩ := id hK
  refine x_iload_n B dX8_isLifter_0 rfl ?_
  refine x_i2l B dX8_isLifter_1 ⟨by omega, by omega⟩ ?_
  refine x_lconst B 0 dX8_isLifter_2 (by decide) ?_
  refine x_aload_n B dX8_isLifter_3 rfl ?_
  refine x_getI B (k := 3) 3 rfl rfl xc_7 (by decide) h8 (Or.inl q1338) (fun _ h => h) dX8_isLifter_4 (fun r_4 => ?_)
  refine x_iconst B dX8_isLifter_7 ?_
  refine x_isub B dX8_isLifter_8 ?_
  refine x_i2l B dX8_isLifter_9 ⟨by omega, by omega⟩ ?_
  refine x_goP (x_rS B (c_X8_in ⟨by omega, by omega⟩ ⟨by omega, by omega⟩ ⟨by omega, by omega⟩) (lw_S q1468 q1469 q122 q1470) hd_X8_in ⟨by decide, by decide⟩ ⟨by decide, by decide⟩ rfl rfl (by simp [x_cr, x_c1, x_c2]) dX8_isLifter_10) ?_
  refine x_zret B (fun _ _ h => h) (x_in_01 _ _ _) ?_ dX8_isLifter_13
  exact ⟨rfl, rfl⟩
theorem c_X8_notes {l : Launch} {E : x_E} {κ : x_Ka} {X : x_X} {z : Int} (hT : x_T κ) (h8 : κ 64 = some (.inl (7, 1))) (hr : 0 ≤ X 64 1 ∧ X 64 1 < 64) (hz : xR z) : x_Vo l yX8_notes cX8_notes 3 0 E κ X [x_rf E 64, vl z] (x_up (x_up X 65 (X 64 1) z) 64 1 (X 64 1 + 1)) := by
  refine x_Met.of [(false, x_rf E 64), (true, vl z)] [some (x_rf E 64), some (vl z), none] 0 (by decide) rfl rfl ⟨x_cr E (64), rfl, trivial⟩ rfl rfl ?_
  intro p e s m args below meth c hargs hin B
  have e7 : x_up X 65 (X 64 1) z 64 1 = X 64 1 := x_up_n X (Or.inl (by omega))
  refine x_aload_n B dX8_notes_0 rfl ?_
  refine x_getC0 B (k := 2) hT rfl rfl xc_7 (by decide) h8 (Or.inl q1337) (fun _ h => h) dX8_notes_1 (fun k_1 => ?_)
  refine x_aload_n B dX8_notes_4 rfl ?_
  refine x_getI B (k := 1) 1 rfl rfl xc_7 (by decide) h8 (Or.inl q1336) (fun _ h => h) dX8_notes_5 (fun r_5 => ?_)
  refine x_lload_n B dX8_notes_8 rfl ?_
  refine x_last B k_1 ⟨by omega, by omega⟩ ⟨by omega, by omega⟩ dX8_notes_9 ?_
  refine x_aload_n B dX8_notes_10 rfl ?_
  refine x_dup B dX8_notes_11 (by first | rfl | exact x_cr _ _) ?_
  refine x_getI B (k := 1) 1 rfl rfl xc_7 (by decide) h8 (Or.inl q1336) (fun _ h => h) dX8_notes_12 (fun r_12 => ?_)
  refine x_iconst B dX8_notes_15 ?_
  refine x_iadd B dX8_notes_16 ?_
  refine x_putI B (k := 1) 1 rfl rfl rfl ⟨by first | omega | (simp only [x_up]; grind), by first | omega | (simp only [x_up]; grind)⟩ xc_7 (by decide) rfl nn_7_1 (fun _ => rfl) h8 (Or.inl q1336) (fun _ h => h) dX8_notes_17 ?_
  refine x_vret B (fun _ _ h => h) ?_ dX8_notes_20
  exact ⟨rfl, by rw [e7]⟩
theorem c_X8_planOf {l : Launch} {E : x_E} {κ : x_Ka} {X : x_X} {a t w : Int} (hK : t_K κ X) (hl : 0 ≤ a ∧ a < X 64 3) (ht : 0 ≤ t ∧ t < 3) (hw : 0 ≤ w ∧ w < 3) : x_Pu l yX8_planOf cX8_planOf 4 (some .int) 0 E κ X [x_rf E 64, vi a, vi t, vi w] (vi (t_p3 X a t w)) := by
  refine x_Met.of [(false, x_rf E 64), (false, vi a), (false, vi t), (false, vi w)] [some (x_rf E 64), some (vi a), some (vi t), some (vi w)] 0 (by decide) rfl rfl ⟨x_cr E (64), rfl, rfl, rfl, trivial⟩ rfl rfl ?_
  intro p e s m args below meth c hargs hin B
  obtain ⟨hT, h8, hn⟩ := id hK
  refine x_aload_n B dX8_planOf_0 rfl ?_
  refine x_getC0 B (k := 9) hT rfl rfl xc_7 (by decide) h8 (Or.inl q1344) (fun _ h => h) dX8_planOf_1 (fun k_1 => ?_)
  refine x_iconst B dX8_planOf_4 ?_
  refine x_iconst B dX8_planOf_5 ?_
  refine x_iload_n B dX8_planOf_6 rfl ?_
  refine x_imul B dX8_planOf_7 ?_
  refine x_iload_n B dX8_planOf_8 rfl ?_
  refine x_iadd B dX8_planOf_9 ?_
  refine x_imul B dX8_planOf_10 ?_
  refine x_iload_n B dX8_planOf_11 rfl ?_
  refine x_iadd B dX8_planOf_12 ?_
  refine x_iald B k_1 ⟨by omega, by omega⟩ dX8_planOf_13 (fun r_13 => ?_)
  refine x_iret B (fun _ _ h => h) ?_ dX8_planOf_14
  exact ⟨congrArg (fun z => some (vi z)) (by unfold t_p3; rw [if_pos ⟨hl.1, hl.2, ht.1, ht.2, hw.1, hw.2⟩]), rfl⟩
theorem c_X8_changesAtFirst {l : Launch} {E : x_E} {κ : x_Ka} {X : x_X}  (hT : x_T κ) (h8 : κ 64 = some (.inl (7, 1))) (hL : X 72 0 ≠ 3) : x_Pu l yX8_changesAtFirst cX8_changesAtFirst 1 (some .int) 0 E κ X [x_rf E 64] (vi (m_chg (X 72 0) (X 72 1))) := by
  refine x_Met.of [(false, x_rf E 64)] [some (x_rf E 64)] 0 (by decide) rfl rfl ⟨x_cr E (64), trivial⟩ rfl rfl ?_
  intro p e s m args below meth c hargs hin B
  refine x_aload_n B dX8_changesAtFirst_0 rfl ?_
  refine x_getC0 B (k := 11) hT rfl rfl xc_7 (by decide) h8 (Or.inl q1346) (fun _ h => h) dX8_changesAtFirst_1 (fun k_1 => ?_)
  refine x_iconst B dX8_changesAtFirst_4 ?_
  refine x_iald B k_1 ⟨by omega, by omega⟩ dX8_changesAtFirst_5 (fun r_5 => ?_)
  refine x_if_ne B (tgt := 13) dX8_changesAtFirst_6 (by decide) ⟨by omega, by omega⟩ (fun h_6 => ?_) (fun h_6 => ?_)
  · refine x_aload_n B dX8_changesAtFirst_13 rfl ?_
    refine x_getC0 B (k := 11) hT rfl rfl xc_7 (by decide) h8 (Or.inl q1346) (fun _ h => h) dX8_changesAtFirst_14 (fun k_14 => ?_)
    refine x_iconst B dX8_changesAtFirst_17 ?_
    refine x_iald B k_14 ⟨by omega, by omega⟩ dX8_changesAtFirst_18 (fun r_18 => ?_)
    refine x_iconst B dX8_changesAtFirst_19 ?_
    refine x_icmp_ne B (tgt := 37) dX8_changesAtFirst_20 (by decide) ⟨by omega, by omega⟩ ⟨by omega, by omega⟩ (fun h_20 => ?_) (fun h_20 => ?_)
    · refine x_iconst B dX8_changesAtFirst_37 ?_
      refine x_iret B (fun _ _ h => h) ?_ dX8_changesAtFirst_38
      exact ⟨congrArg (fun z => some (vi z)) (by unfold m_chg; grind), rfl⟩
    · refine x_aload_n B dX8_changesAtFirst_23 rfl ?_
      refine x_getC0 B (k := 11) hT rfl rfl xc_7 (by decide) h8 (Or.inl q1346) (fun _ h => h) dX8_changesAtFirst_24 (fun k_24 => ?_)
      refine x_iconst B dX8_changesAtFirst_27 ?_
      refine x_iald B k_24 ⟨by omega, by omega⟩ dX8_changesAtFirst_28 (fun r_28 => ?_)
      refine x_iconst B dX8_changesAtFirst_29 ?_
      refine x_icmp_ne B (tgt := 37) dX8_changesAtFirst_30 (by decide) ⟨by omega, by omega⟩ ⟨by omega, by omega⟩ (fun h_30 => ?_) (fun h_30 => ?_)
      · refine x_iconst B dX8_changesAtFirst_37 ?_
        refine x_iret B (fun _ _ h => h) ?_ dX8_changesAtFirst_38
        exact ⟨congrArg (fun z => some (vi z)) (by unfold m_chg; grind), rfl⟩
      · refine x_iconst B dX8_changesAtFirst_33 ?_
        refine x_goto B (tgt := 38) dX8_changesAtFirst_34 (by decide) ?_
        refine x_iret B (fun _ _ h => h) ?_ dX8_changesAtFirst_38
        exact ⟨congrArg (fun z => some (vi z)) (by unfold m_chg; grind), rfl⟩
  · refine x_iconst B dX8_changesAtFirst_9 ?_
    refine x_goto B (tgt := 38) dX8_changesAtFirst_10 (by decide) ?_
    refine x_iret B (fun _ _ h => h) ?_ dX8_changesAtFirst_38
    exact ⟨congrArg (fun z => some (vi z)) (by unfold m_chg; grind), rfl⟩
theorem c_X8_roundBegins {l : Launch} {E : x_E} {κ : x_Ka} {X : x_X}  (hK : t_K κ X) (hg : (0 ≤ X 72 0 ∧ X 72 0 ≤ 3) ∧ (0 ≤ X 72 1 ∧ X 72 1 ≤ 2)) : x_Met l yX8_roundBegins cX8_roundBegins 2 none 1 0 0 E κ X [x_rf E 64] κ (fun v Y => v = none ∧ tw X Y ∧ t_M Y = m_rk (t_M X) (X 72 1) (X 64 3) ∧ ∀ a, 0 ≤ a → a < 6 → Y 72 (3 + 10 * a + 2) = X 72 (3 + 10 * a + 2) ∧ Y 72 (3 + 10 * a + 3) = X 72 (3 + 10 * a + 3)) := by
  refine x_Met.of [(false, x_rf E 64)] [some (x_rf E 64), none] 1 (by decide) rfl rfl ⟨x_cr E (64), trivial⟩ rfl rfl ?_
  intro p e s m args below meth c hargs hin B
  obtain ⟨hT, h8, hn⟩ := id hK
  have lp_9 : ∀ (n : Nat) (k : Int) (Y : x_X), ((0 ≤ k ∧ k ≤ X 64 3) ∧ tw X Y ∧ t_M Y = m_rk (t_M X) (X 72 1) k ∧ (Y 72 0 = X 72 0 ∧ Y 72 1 = X 72 1) ∧ ∀ a, 0 ≤ a → a < 6 → Y 72 (3 + 10 * a + 2) = X 72 (3 + 10 * a + 2) ∧ Y 72 (3 + 10 * a + 3) = X 72 (3 + 10 * a + 3)) → ((7 - k).toNat < n) → x_G p l e (x_rm 1 0 0) s m args below meth c 2 E 0 0 (MQ below (x_Q E κ (fun v Y => v = none ∧ tw X Y ∧ t_M Y = m_rk (t_M X) (X 72 1) (X 64 3) ∧ ∀ a, 0 ≤ a → a < 6 → Y 72 (3 + 10 * a + 2) = X 72 (3 + 10 * a + 2) ∧ Y 72 (3 + 10 * a + 3) = X 72 (3 + 10 * a + 3))) args s 0 0 (fun q => E.1 ≤ q)) κ 9 [some (x_rf E 64), some (vi k)] [] Y := by
    intro n
    induction n with
    | zero => intro k Y hinv hme; exfalso; omega
    | succ n ih =>
      intro k Y hinv hme
      obtain ⟨hk, hf, hM, ⟨y0, y1⟩, hq⟩ := hinv
      have hY : Y 64 = X 64 := hf 64 (by omega)
      have y3 : Y 64 3 = X 64 3 := by rw [hY]
      have hcr := m_chg_r (X 72 0) (X 72 1)
      refine x_iload_n B dX8_roundBegins_9 rfl ?_
      refine x_aload_n B dX8_roundBegins_10 rfl ?_
      refine x_getI B (k := 3) 3 rfl rfl xc_7 (by decide) h8 (Or.inl q1338) (fun _ h => h) dX8_roundBegins_11 (fun r_11 => ?_)
      refine x_icmp_ge B (tgt := 51) dX8_roundBegins_14 (by decide) ⟨by omega, by omega⟩ ⟨by omega, by omega⟩ (fun h_14 => ?_) (fun h_14 => ?_)
      · obtain rfl : k = X 64 3 := by omega
        refine x_vret B (fun _ _ h => h) ?_ dX8_roundBegins_51
        exact ⟨rfl, hf, hM, hq⟩
      · refine x_aload_n B dX8_roundBegins_17 rfl ?_
        refine x_iload_n B dX8_roundBegins_18 rfl ?_
        refine x_iconst B dX8_roundBegins_19 ?_
        refine x_iconst B dX8_roundBegins_20 ?_
        refine x_goV (x_rV B h8 (show x_cl[7]? = some _ from rfl) (c_X8_sets hT h8 ⟨by omega, by omega⟩ ⟨by omega, by omega⟩) (lw_V q1533 q1535 qs54 q122 q1536) hv_X8_sets ⟨by decide, by decide⟩ ⟨by decide, by decide⟩ rfl rfl (by simp [x_cr, x_c1, x_c2]) dX8_roundBegins_21) ?_
        refine x_aload_n B dX8_roundBegins_24 rfl ?_
        refine x_iload_n B dX8_roundBegins_25 rfl ?_
        refine x_iconst B dX8_roundBegins_26 ?_
        refine x_aload_n B dX8_roundBegins_27 rfl ?_
        refine x_goP (x_rV B h8 (show x_cl[7]? = some _ from rfl) (c_X8_isOver hT h8) (lw_V q1517 q1519 qs50 q122 q1520) hv_X8_isOver ⟨by decide, by decide⟩ ⟨by decide, by decide⟩ rfl rfl (by simp [x_cr, x_c1, x_c2]) dX8_roundBegins_28) ?_
        rw [x_up_n _ (Or.inr (by omega)), y0]
        refine x_if_eq B (tgt := 38) dX8_roundBegins_31 (by decide) ⟨by split <;> omega, by split <;> omega⟩ (fun h_31 => ?_) (fun h_31 => ?_)
        · have hno : X 72 0 ≠ 3 := by intro q; rw [if_pos q] at h_31; omega
          refine x_aload_n B dX8_roundBegins_38 rfl ?_
          refine x_goP (x_rV B h8 (show x_cl[7]? = some _ from rfl) (c_X8_changesAtFirst hT h8 (by rw [x_up_n _ (Or.inr (by omega)), y0]; exact hno)) (lw_V q1541 q1543 qs56 q122 q1544) hv_X8_changesAtFirst ⟨by decide, by decide⟩ ⟨by decide, by decide⟩ rfl rfl (by simp [x_cr, x_c1, x_c2]) dX8_roundBegins_39) ?_
          rw [x_up_n _ (Or.inr (by omega)), x_up_n _ (Or.inr (by omega)), y0, y1]
          refine x_goV (x_rV B h8 (show x_cl[7]? = some _ from rfl) (c_X8_sets hT h8 ⟨by omega, by omega⟩ ⟨by omega, by omega⟩) (lw_V q1533 q1535 qs54 q122 q1536) hv_X8_sets ⟨by decide, by decide⟩ ⟨by decide, by decide⟩ rfl rfl (by simp [x_cr, x_c1, x_c2]) dX8_roundBegins_42) ?_
          refine x_iinc_1 B dX8_roundBegins_45 (by first | rfl | exact x_cr _ _) ?_
          refine x_goto B (tgt := 9) dX8_roundBegins_48 (by decide) ?_
          refine ih _ _ ⟨⟨by omega, by omega⟩, (hf.up).up, ?_, ⟨?_, ?_⟩, fun a a1 a2 => ?_⟩ (by omega)
          · rw [t_M_us (f := 5) (by rw [x_up_o _ (by omega), hY]; omega) (by decide) (by omega), t_M_us (f := 6) (by rw [hY]; omega) (by decide) (by omega), hM]
            have eL : t_M X (-1) 1 = X 72 0 := t_M_g (by omega)
            funext a f; simp only [m_rk, x_up, eL]
            first
            | (rw [show m_chg (X 72 0) (X 72 1) = 0 by unfold m_chg; rw [if_pos (by omega)]]; grind)
            | grind
          · rw [x_up_n _ (Or.inr (by omega)), x_up_n _ (Or.inr (by omega))]; exact y0
          · rw [x_up_n _ (Or.inr (by omega)), x_up_n _ (Or.inr (by omega))]; exact y1
          · rw [x_up_n _ (Or.inr (by omega)), x_up_n _ (Or.inr (by omega)), x_up_n _ (Or.inr (by omega)), x_up_n _ (Or.inr (by omega))]; exact hq a a1 a2
        · have hyes : X 72 0 = 3 := by by_cases q : X 72 0 = 3; exact q; rw [if_neg q] at h_31; omega
          refine x_iconst B dX8_roundBegins_34 ?_
          refine x_goto B (tgt := 42) dX8_roundBegins_35 (by decide) ?_
          refine x_goV (x_rV B h8 (show x_cl[7]? = some _ from rfl) (c_X8_sets hT h8 ⟨by omega, by omega⟩ ⟨by omega, by omega⟩) (lw_V q1533 q1535 qs54 q122 q1536) hv_X8_sets ⟨by decide, by decide⟩ ⟨by decide, by decide⟩ rfl rfl (by simp [x_cr, x_c1, x_c2]) dX8_roundBegins_42) ?_
          refine x_iinc_1 B dX8_roundBegins_45 (by first | rfl | exact x_cr _ _) ?_
          refine x_goto B (tgt := 9) dX8_roundBegins_48 (by decide) ?_
          refine ih _ _ ⟨⟨by omega, by omega⟩, (hf.up).up, ?_, ⟨?_, ?_⟩, fun a a1 a2 => ?_⟩ (by omega)
          · rw [t_M_us (f := 5) (by rw [x_up_o _ (by omega), hY]; omega) (by decide) (by omega), t_M_us (f := 6) (by rw [hY]; omega) (by decide) (by omega), hM]
            have eL : t_M X (-1) 1 = X 72 0 := t_M_g (by omega)
            funext a f; simp only [m_rk, x_up, eL]
            first
            | (rw [show m_chg (X 72 0) (X 72 1) = 0 by unfold m_chg; rw [if_pos (by omega)]]; grind)
            | grind
          · rw [x_up_n _ (Or.inr (by omega)), x_up_n _ (Or.inr (by omega))]; exact y0
          · rw [x_up_n _ (Or.inr (by omega)), x_up_n _ (Or.inr (by omega))]; exact y1
          · rw [x_up_n _ (Or.inr (by omega)), x_up_n _ (Or.inr (by omega)), x_up_n _ (Or.inr (by omega)), x_up_n _ (Or.inr (by omega))]; exact hq a a1 a2
  refine x_aload_n B dX8_roundBegins_0 rfl ?_
  refine x_getC0 B (k := 11) hT rfl rfl xc_7 (by decide) h8 (Or.inl q1346) (fun _ h => h) dX8_roundBegins_1 (fun k_1 => ?_)
  refine x_iconst B dX8_roundBegins_4 ?_
  refine x_iconst B dX8_roundBegins_5 ?_
  refine x_iast B k_1 ⟨by omega, by omega⟩ ⟨by omega, by omega⟩ dX8_roundBegins_6 ?_
  refine x_iconst B dX8_roundBegins_7 ?_
  refine x_ist_1 B dX8_roundBegins_8 (by first | rfl | exact x_cr _ _) ?_
  refine lp_9 _ 0 _ ⟨⟨by omega, by omega⟩, (tw.rf X).up, ?_, ⟨x_up_n _ (Or.inr (by omega)), x_up_n _ (Or.inr (by omega))⟩, fun a a1 a2 => ⟨x_up_n _ (Or.inr (by omega)), x_up_n _ (Or.inr (by omega))⟩⟩ (Nat.lt_succ_self _)
  have eg := t_M_ug (X := X) (f := 3) (z := 0) (by omega)
  rw [show (3 : Int) - 1 = 2 by omega] at eg
  have eR : t_M X (-1) 2 = X 72 1 := t_M_g (by omega)
  rw [eg]; funext a f; simp only [m_rk, x_up]; grind
theorem m_lk_s {M : x_X} {op : Int → Int → Int} {k v : Int} (hk : 0 ≤ k) (hv : v = if M k 7 ≠ 0 ∨ M (-1) 1 = 3 then 0 else op k (M (-1) 1)) : x_up (x_up (x_up (m_lk M op k) k 3 v) k 4 1) k 2 0 = m_lk M op (k + 1) := by
  funext a f
  by_cases e : a = k
  · subst e
    have c1 : (0 ≤ a ∧ a < a + 1) := ⟨hk, by omega⟩
    have c0 : ¬ (0 ≤ a ∧ a < a) := by omega
    by_cases f2 : f = 2
    · subst f2; rw [x_up_s]; unfold m_lk; rw [if_pos c1, if_pos rfl]
    · rw [x_up_n _ (Or.inr f2)]
      by_cases f4 : f = 4
      · subst f4; rw [x_up_s]; unfold m_lk; rw [if_pos c1, if_neg (by omega), if_neg (by omega), if_pos rfl]
      · rw [x_up_n _ (Or.inr f4)]
        by_cases f3 : f = 3
        · subst f3; rw [x_up_s, hv]; show _ = m_lk M op (a + 1) a 3; unfold m_lk; rw [if_pos c1, if_neg (show ¬ (3 : Int) = 2 by omega), if_pos (show (3 : Int) = 3 from rfl)]
        · rw [x_up_n _ (Or.inr f3)]; unfold m_lk; rw [if_neg c0, if_pos c1, if_neg f2, if_neg f3, if_neg f4]
  · rw [x_up_n _ (Or.inl e), x_up_n _ (Or.inl e), x_up_n _ (Or.inl e)]
    unfold m_lk
    by_cases q : 0 ≤ a ∧ a < k
    · rw [if_pos q, if_pos (show 0 ≤ a ∧ a < k + 1 by omega)]
    · rw [if_neg q, if_neg (show ¬ (0 ≤ a ∧ a < k + 1) by omega)]
theorem c_X8_liftBegins {l : Launch} {E : x_E} {κ : x_Ka} {X : x_X}  (hK : t_K κ X) (hP : t_P X) (hg : (0 ≤ X 72 0 ∧ X 72 0 ≤ 3)) (h7 : ∀ a, 0 ≤ a → a < X 64 3 → 0 ≤ X 72 (3 + 10 * a + 6) ∧ X 72 (3 + 10 * a + 6) ≤ 1) : x_Met l yX8_liftBegins cX8_liftBegins 2 none 2 0 0 E κ X [x_rf E 64] κ (fun v Y => v = none ∧ tw X Y ∧ t_M Y = m_lift (X 64 3) (fun l t => t_p3 X l t 0) (t_M X) ∧ ∀ a, 0 ≤ a → a < X 64 3 → Y 72 (3 + 10 * a + 2) = 0 ∧ Y 72 (3 + 10 * a + 3) = 0) := by
  refine x_Met.of [(false, x_rf E 64)] [some (x_rf E 64), none] 1 (by decide) rfl rfl ⟨x_cr E (64), trivial⟩ rfl rfl ?_
  intro p e s m args below meth c hargs hin B
  obtain ⟨hT, h8, hn⟩ := id hK
  have lp_9 : ∀ (n : Nat) (k : Int) (Y : x_X), ((0 ≤ k ∧ k ≤ X 64 3) ∧ tw X Y ∧ t_M Y = m_lk (x_up (t_M X) (-1) 2 0) (fun l t => t_p3 X l t 0) k ∧ (Y 72 0 = X 72 0 ∧ Y 72 1 = 0) ∧ (∀ a, 0 ≤ a → a < k → Y 72 (3 + 10 * a + 2) = 0 ∧ Y 72 (3 + 10 * a + 3) = 0) ∧ ∀ a, 0 ≤ a → a < X 64 3 → Y 72 (3 + 10 * a + 6) = X 72 (3 + 10 * a + 6)) → ((7 - k).toNat < n) → x_G p l e (x_rm 2 0 0) s m args below meth c 2 E 0 0 (MQ below (x_Q E κ (fun v Y => v = none ∧ tw X Y ∧ t_M Y = m_lift (X 64 3) (fun l t => t_p3 X l t 0) (t_M X) ∧ ∀ a, 0 ≤ a → a < X 64 3 → Y 72 (3 + 10 * a + 2) = 0 ∧ Y 72 (3 + 10 * a + 3) = 0)) args s 0 0 (fun q => E.1 ≤ q)) κ 9 [some (x_rf E 64), some (vi k)] [] Y := by
    intro n
    induction n with
    | zero => intro k Y hinv hme; exfalso; omega
    | succ n ih =>
      intro k Y hinv hme
      obtain ⟨hk, hf, hM, ⟨y0, y1⟩, hq, hq6⟩ := hinv
      have hY : Y 64 = X 64 := hf 64 (by omega)
      have y3 : Y 64 3 = X 64 3 := by rw [hY]
      have hKY : t_K κ Y := by unfold t_K at *; rw [hY]; exact hK
      have hpY : t_p3 Y = t_p3 X := by funext l t w; unfold t_p3; rw [hY, hf 71 (by omega)]
      have eL : t_M X (-1) 1 = X 72 0 := t_M_g (by omega)
      refine x_iload_n B dX8_liftBegins_9 rfl ?_
      refine x_aload_n B dX8_liftBegins_10 rfl ?_
      refine x_getI B (k := 3) 3 rfl rfl xc_7 (by decide) h8 (Or.inl q1338) (fun _ h => h) dX8_liftBegins_11 (fun r_11 => ?_)
      refine x_icmp_ge B (tgt := 81) dX8_liftBegins_14 (by decide) ⟨by omega, by omega⟩ ⟨by omega, by omega⟩ (fun h_14 => ?_) (fun h_14 => ?_)
      · obtain rfl : k = X 64 3 := by omega
        refine x_aload_n B dX8_liftBegins_81 rfl ?_
        refine x_go (x_rV B h8 (show x_cl[7]? = some _ from rfl) (c_X8_roundBegins hKY ⟨by omega, by omega⟩) (lw_V q1537 q1539 qs55 q122 q1540) hv_X8_roundBegins ⟨by decide, by decide⟩ ⟨by decide, by decide⟩ rfl rfl (by simp [x_cr, x_c1, x_c2]) dX8_liftBegins_82) (fun v_82 X_82 p_82 => ?_)
        obtain ⟨rfl, hf2, hM2, hq2⟩ := p_82
        refine x_vret B (fun _ _ h => h) ?_ dX8_liftBegins_85
        refine ⟨rfl, hf.trans hf2, ?_, fun a a1 a2 => by rw [(hq2 a a1 (by omega)).1, (hq2 a a1 (by omega)).2]; exact hq a a1 a2⟩
        rw [hM2, hM, y1, hY]
        unfold m_lift
        funext a f
        simp only [m_rk, m_lk, x_up]
        grind
      · refine x_aload_n B dX8_liftBegins_17 rfl ?_
        refine x_iload_n B dX8_liftBegins_18 rfl ?_
        refine x_iconst B dX8_liftBegins_19 ?_
        refine x_aload_n B dX8_liftBegins_20 rfl ?_
        refine x_goP (x_rV B h8 (show x_cl[7]? = some _ from rfl) (c_X8_isOver hT h8) (lw_V q1517 q1519 qs50 q122 q1520) hv_X8_isOver ⟨by decide, by decide⟩ ⟨by decide, by decide⟩ rfl rfl (by simp [x_cr, x_c1, x_c2]) dX8_liftBegins_21) ?_
        rw [y0]
        refine x_if_ne B (tgt := 35) dX8_liftBegins_24 (by decide) ⟨by split <;> omega, by split <;> omega⟩ (fun h_24 => ?_) (fun h_24 => ?_)
        · have hyes : X 72 0 = 3 ∨ X 72 (3 + 10 * k + 6) = 1 := by
            by_cases q : X 72 0 = 3
            · exact Or.inl q
            · by_cases q2 : X 72 (3 + 10 * k + 6) = 1
              · exact Or.inr q2
              · first | (rw [if_neg q] at h_24; omega) | (rw [if_neg q2] at h_32; omega)
          refine x_iconst B dX8_liftBegins_35 ?_
          refine x_goto B (tgt := 51) dX8_liftBegins_36 (by decide) ?_
          refine x_goV (x_rV B h8 (show x_cl[7]? = some _ from rfl) (c_X8_sets hT h8 ⟨by omega, by omega⟩ ⟨by omega, by omega⟩) (lw_V q1533 q1535 qs54 q122 q1536) hv_X8_sets ⟨by decide, by decide⟩ ⟨by decide, by decide⟩ rfl rfl (by simp [x_cr, x_c1, x_c2]) dX8_liftBegins_51) ?_
          refine x_aload_n B dX8_liftBegins_54 rfl ?_
          refine x_iload_n B dX8_liftBegins_55 rfl ?_
          refine x_iconst B dX8_liftBegins_56 ?_
          refine x_iconst B dX8_liftBegins_57 ?_
          refine x_goV (x_rV B h8 (show x_cl[7]? = some _ from rfl) (c_X8_sets hT h8 ⟨by omega, by omega⟩ ⟨by omega, by omega⟩) (lw_V q1533 q1535 qs54 q122 q1536) hv_X8_sets ⟨by decide, by decide⟩ ⟨by decide, by decide⟩ rfl rfl (by simp [x_cr, x_c1, x_c2]) dX8_liftBegins_58) ?_
          refine x_aload_n B dX8_liftBegins_61 rfl ?_
          refine x_iload_n B dX8_liftBegins_62 rfl ?_
          refine x_iconst B dX8_liftBegins_63 ?_
          refine x_iconst B dX8_liftBegins_64 ?_
          refine x_goV (x_rV B h8 (show x_cl[7]? = some _ from rfl) (c_X8_sets hT h8 ⟨by omega, by omega⟩ ⟨by omega, by omega⟩) (lw_V q1533 q1535 qs54 q122 q1536) hv_X8_sets ⟨by decide, by decide⟩ ⟨by decide, by decide⟩ rfl rfl (by simp [x_cr, x_c1, x_c2]) dX8_liftBegins_65) ?_
          refine x_aload_n B dX8_liftBegins_68 rfl ?_
          refine x_iload_n B dX8_liftBegins_69 rfl ?_
          refine x_iconst B dX8_liftBegins_70 ?_
          refine x_iconst B dX8_liftBegins_71 ?_
          refine x_goV (x_rV B h8 (show x_cl[7]? = some _ from rfl) (c_X8_sets hT h8 ⟨by omega, by omega⟩ ⟨by omega, by omega⟩) (lw_V q1533 q1535 qs54 q122 q1536) hv_X8_sets ⟨by decide, by decide⟩ ⟨by decide, by decide⟩ rfl rfl (by simp [x_cr, x_c1, x_c2]) dX8_liftBegins_72) ?_
          refine x_iinc_1 B dX8_liftBegins_75 (by first | rfl | exact x_cr _ _) ?_
          refine x_goto B (tgt := 9) dX8_liftBegins_78 (by decide) ?_
          have e7 : t_M X k 7 = X 72 (3 + 10 * k + 6) := t_M_s (by omega) (by decide) (by omega) (by omega)
          have h7k := h7 k (by omega) (by omega)
          refine ih _ _ ⟨⟨by omega, by omega⟩, (((hf.up).up).up).up, ?_, ⟨?_, ?_⟩, fun a a1 a2 => ?_, fun a a1 a2 => ?_⟩ (by omega)
          · rw [t_M_us (f := 2) (by rw [x_up_o _ (by omega), x_up_o _ (by omega), x_up_o _ (by omega), hY]; omega) (by decide) (by omega), t_M_ul (by rw [x_up_o _ (by omega), hY]; omega), t_M_us (f := 3) (by rw [hY]; omega) (by decide) (by omega), hM]
            rw [if_pos rfl]; refine m_lk_s hk.1 ?_
            rw [x_up_n _ (Or.inl (by omega)), x_up_n _ (Or.inr (by omega)), eL, e7]
            first
            | rw [if_pos (by omega)]
            | rw [if_neg (by omega)]
          · rw [x_up_n _ (Or.inr (by omega)), x_up_n _ (Or.inr (by omega)), x_up_n _ (Or.inr (by omega)), x_up_n _ (Or.inr (by omega))]; exact y0
          · rw [x_up_n _ (Or.inr (by omega)), x_up_n _ (Or.inr (by omega)), x_up_n _ (Or.inr (by omega)), x_up_n _ (Or.inr (by omega))]; exact y1
          · by_cases e : a = k
            · subst e; rw [x_up_n _ (Or.inr (by omega)), x_up_n _ (Or.inr (by omega)), x_up_s, x_up_n _ (Or.inr (by omega)), x_up_s]; exact ⟨rfl, rfl⟩
            · rw [x_up_n _ (Or.inr (by omega)), x_up_n _ (Or.inr (by omega)), x_up_n _ (Or.inr (by omega)), x_up_n _ (Or.inr (by omega)), x_up_n _ (Or.inr (by omega)), x_up_n _ (Or.inr (by omega)), x_up_n _ (Or.inr (by omega)), x_up_n _ (Or.inr (by omega))]; exact hq a a1 (by omega)
          · rw [x_up_n _ (Or.inr (by omega)), x_up_n _ (Or.inr (by omega)), x_up_n _ (Or.inr (by omega)), x_up_n _ (Or.inr (by omega))]; exact hq6 a a1 a2
        · refine x_aload_n B dX8_liftBegins_27 rfl ?_
          refine x_iload_n B dX8_liftBegins_28 rfl ?_
          refine x_goP (x_rV B h8 (show x_cl[7]? = some _ from rfl) (c_X8_isOut hT h8 ⟨by omega, by omega⟩) (lw_V q1521 q1523 qs51 q122 q1524) hv_X8_isOut ⟨by decide, by decide⟩ ⟨by decide, by decide⟩ rfl rfl (by simp [x_cr, x_c1, x_c2]) dX8_liftBegins_29) ?_
          rw [hq6 k (by omega) (by omega)]
          refine x_if_eq B (tgt := 39) dX8_liftBegins_32 (by decide) ⟨by split <;> omega, by split <;> omega⟩ (fun h_32 => ?_) (fun h_32 => ?_)
          · have hno : X 72 0 ≠ 3 := by intro q; rw [if_pos q] at h_24; omega
            have hno6 : X 72 (3 + 10 * k + 6) ≠ 1 := by intro q; rw [if_pos q] at h_32; omega
            refine x_aload_n B dX8_liftBegins_39 rfl ?_
            refine x_iload_n B dX8_liftBegins_40 rfl ?_
            refine x_aload_n B dX8_liftBegins_41 rfl ?_
            refine x_getC0 B (k := 11) hT rfl rfl xc_7 (by decide) h8 (Or.inl q1346) (fun _ h => h) dX8_liftBegins_42 (fun k_42 => ?_)
            refine x_iconst B dX8_liftBegins_45 ?_
            refine x_iald B k_42 ⟨by omega, by omega⟩ dX8_liftBegins_46 (fun r_46 => ?_)
            rw [y0] at r_46 ⊢
            refine x_iconst B dX8_liftBegins_47 ?_
            refine x_goP (x_rV B h8 (show x_cl[7]? = some _ from rfl) (c_X8_planOf hKY ⟨by omega, by rw [hY]; omega⟩ ⟨by omega, by omega⟩ ⟨by omega, by omega⟩) (lw_V q1529 q1531 qs53 q122 q1532) hv_X8_planOf ⟨by decide, by decide⟩ ⟨by decide, by decide⟩ rfl rfl (by simp [x_cr, x_c1, x_c2]) dX8_liftBegins_48) ?_
            have hpk := (hP k (by omega) (by omega) (X 72 0) (by omega) (by omega)).1
            rw [hpY]
            refine x_goV (x_rV B h8 (show x_cl[7]? = some _ from rfl) (c_X8_sets hT h8 ⟨by omega, by omega⟩ ⟨by omega, by omega⟩) (lw_V q1533 q1535 qs54 q122 q1536) hv_X8_sets ⟨by decide, by decide⟩ ⟨by decide, by decide⟩ rfl rfl (by simp [x_cr, x_c1, x_c2]) dX8_liftBegins_51) ?_
            refine x_aload_n B dX8_liftBegins_54 rfl ?_
            refine x_iload_n B dX8_liftBegins_55 rfl ?_
            refine x_iconst B dX8_liftBegins_56 ?_
            refine x_iconst B dX8_liftBegins_57 ?_
            refine x_goV (x_rV B h8 (show x_cl[7]? = some _ from rfl) (c_X8_sets hT h8 ⟨by omega, by omega⟩ ⟨by omega, by omega⟩) (lw_V q1533 q1535 qs54 q122 q1536) hv_X8_sets ⟨by decide, by decide⟩ ⟨by decide, by decide⟩ rfl rfl (by simp [x_cr, x_c1, x_c2]) dX8_liftBegins_58) ?_
            refine x_aload_n B dX8_liftBegins_61 rfl ?_
            refine x_iload_n B dX8_liftBegins_62 rfl ?_
            refine x_iconst B dX8_liftBegins_63 ?_
            refine x_iconst B dX8_liftBegins_64 ?_
            refine x_goV (x_rV B h8 (show x_cl[7]? = some _ from rfl) (c_X8_sets hT h8 ⟨by omega, by omega⟩ ⟨by omega, by omega⟩) (lw_V q1533 q1535 qs54 q122 q1536) hv_X8_sets ⟨by decide, by decide⟩ ⟨by decide, by decide⟩ rfl rfl (by simp [x_cr, x_c1, x_c2]) dX8_liftBegins_65) ?_
            refine x_aload_n B dX8_liftBegins_68 rfl ?_
            refine x_iload_n B dX8_liftBegins_69 rfl ?_
            refine x_iconst B dX8_liftBegins_70 ?_
            refine x_iconst B dX8_liftBegins_71 ?_
            refine x_goV (x_rV B h8 (show x_cl[7]? = some _ from rfl) (c_X8_sets hT h8 ⟨by omega, by omega⟩ ⟨by omega, by omega⟩) (lw_V q1533 q1535 qs54 q122 q1536) hv_X8_sets ⟨by decide, by decide⟩ ⟨by decide, by decide⟩ rfl rfl (by simp [x_cr, x_c1, x_c2]) dX8_liftBegins_72) ?_
            refine x_iinc_1 B dX8_liftBegins_75 (by first | rfl | exact x_cr _ _) ?_
            refine x_goto B (tgt := 9) dX8_liftBegins_78 (by decide) ?_
            have e7 : t_M X k 7 = X 72 (3 + 10 * k + 6) := t_M_s (by omega) (by decide) (by omega) (by omega)
            have h7k := h7 k (by omega) (by omega)
            refine ih _ _ ⟨⟨by omega, by omega⟩, (((hf.up).up).up).up, ?_, ⟨?_, ?_⟩, fun a a1 a2 => ?_, fun a a1 a2 => ?_⟩ (by omega)
            · rw [t_M_us (f := 2) (by rw [x_up_o _ (by omega), x_up_o _ (by omega), x_up_o _ (by omega), hY]; omega) (by decide) (by omega), t_M_ul (by rw [x_up_o _ (by omega), hY]; omega), t_M_us (f := 3) (by rw [hY]; omega) (by decide) (by omega), hM]
              rw [if_pos rfl]; refine m_lk_s hk.1 ?_
              rw [x_up_n _ (Or.inl (by omega)), x_up_n _ (Or.inr (by omega)), eL, e7]
              first
              | rw [if_pos (by omega)]
              | rw [if_neg (by omega)]
            · rw [x_up_n _ (Or.inr (by omega)), x_up_n _ (Or.inr (by omega)), x_up_n _ (Or.inr (by omega)), x_up_n _ (Or.inr (by omega))]; exact y0
            · rw [x_up_n _ (Or.inr (by omega)), x_up_n _ (Or.inr (by omega)), x_up_n _ (Or.inr (by omega)), x_up_n _ (Or.inr (by omega))]; exact y1
            · by_cases e : a = k
              · subst e; rw [x_up_n _ (Or.inr (by omega)), x_up_n _ (Or.inr (by omega)), x_up_s, x_up_n _ (Or.inr (by omega)), x_up_s]; exact ⟨rfl, rfl⟩
              · rw [x_up_n _ (Or.inr (by omega)), x_up_n _ (Or.inr (by omega)), x_up_n _ (Or.inr (by omega)), x_up_n _ (Or.inr (by omega)), x_up_n _ (Or.inr (by omega)), x_up_n _ (Or.inr (by omega)), x_up_n _ (Or.inr (by omega)), x_up_n _ (Or.inr (by omega))]; exact hq a a1 (by omega)
            · rw [x_up_n _ (Or.inr (by omega)), x_up_n _ (Or.inr (by omega)), x_up_n _ (Or.inr (by omega)), x_up_n _ (Or.inr (by omega))]; exact hq6 a a1 a2
          · have hyes : X 72 0 = 3 ∨ X 72 (3 + 10 * k + 6) = 1 := by
              by_cases q : X 72 0 = 3
              · exact Or.inl q
              · by_cases q2 : X 72 (3 + 10 * k + 6) = 1
                · exact Or.inr q2
                · first | (rw [if_neg q] at h_24; omega) | (rw [if_neg q2] at h_32; omega)
            refine x_iconst B dX8_liftBegins_35 ?_
            refine x_goto B (tgt := 51) dX8_liftBegins_36 (by decide) ?_
            refine x_goV (x_rV B h8 (show x_cl[7]? = some _ from rfl) (c_X8_sets hT h8 ⟨by omega, by omega⟩ ⟨by omega, by omega⟩) (lw_V q1533 q1535 qs54 q122 q1536) hv_X8_sets ⟨by decide, by decide⟩ ⟨by decide, by decide⟩ rfl rfl (by simp [x_cr, x_c1, x_c2]) dX8_liftBegins_51) ?_
            refine x_aload_n B dX8_liftBegins_54 rfl ?_
            refine x_iload_n B dX8_liftBegins_55 rfl ?_
            refine x_iconst B dX8_liftBegins_56 ?_
            refine x_iconst B dX8_liftBegins_57 ?_
            refine x_goV (x_rV B h8 (show x_cl[7]? = some _ from rfl) (c_X8_sets hT h8 ⟨by omega, by omega⟩ ⟨by omega, by omega⟩) (lw_V q1533 q1535 qs54 q122 q1536) hv_X8_sets ⟨by decide, by decide⟩ ⟨by decide, by decide⟩ rfl rfl (by simp [x_cr, x_c1, x_c2]) dX8_liftBegins_58) ?_
            refine x_aload_n B dX8_liftBegins_61 rfl ?_
            refine x_iload_n B dX8_liftBegins_62 rfl ?_
            refine x_iconst B dX8_liftBegins_63 ?_
            refine x_iconst B dX8_liftBegins_64 ?_
            refine x_goV (x_rV B h8 (show x_cl[7]? = some _ from rfl) (c_X8_sets hT h8 ⟨by omega, by omega⟩ ⟨by omega, by omega⟩) (lw_V q1533 q1535 qs54 q122 q1536) hv_X8_sets ⟨by decide, by decide⟩ ⟨by decide, by decide⟩ rfl rfl (by simp [x_cr, x_c1, x_c2]) dX8_liftBegins_65) ?_
            refine x_aload_n B dX8_liftBegins_68 rfl ?_
            refine x_iload_n B dX8_liftBegins_69 rfl ?_
            refine x_iconst B dX8_liftBegins_70 ?_
            refine x_iconst B dX8_liftBegins_71 ?_
            refine x_goV (x_rV B h8 (show x_cl[7]? = some _ from rfl) (c_X8_sets hT h8 ⟨by omega, by omega⟩ ⟨by omega, by omega⟩) (lw_V q1533 q1535 qs54 q122 q1536) hv_X8_sets ⟨by decide, by decide⟩ ⟨by decide, by decide⟩ rfl rfl (by simp [x_cr, x_c1, x_c2]) dX8_liftBegins_72) ?_
            refine x_iinc_1 B dX8_liftBegins_75 (by first | rfl | exact x_cr _ _) ?_
            refine x_goto B (tgt := 9) dX8_liftBegins_78 (by decide) ?_
            have e7 : t_M X k 7 = X 72 (3 + 10 * k + 6) := t_M_s (by omega) (by decide) (by omega) (by omega)
            have h7k := h7 k (by omega) (by omega)
            refine ih _ _ ⟨⟨by omega, by omega⟩, (((hf.up).up).up).up, ?_, ⟨?_, ?_⟩, fun a a1 a2 => ?_, fun a a1 a2 => ?_⟩ (by omega)
            · rw [t_M_us (f := 2) (by rw [x_up_o _ (by omega), x_up_o _ (by omega), x_up_o _ (by omega), hY]; omega) (by decide) (by omega), t_M_ul (by rw [x_up_o _ (by omega), hY]; omega), t_M_us (f := 3) (by rw [hY]; omega) (by decide) (by omega), hM]
              rw [if_pos rfl]; refine m_lk_s hk.1 ?_
              rw [x_up_n _ (Or.inl (by omega)), x_up_n _ (Or.inr (by omega)), eL, e7]
              first
              | rw [if_pos (by omega)]
              | rw [if_neg (by omega)]
            · rw [x_up_n _ (Or.inr (by omega)), x_up_n _ (Or.inr (by omega)), x_up_n _ (Or.inr (by omega)), x_up_n _ (Or.inr (by omega))]; exact y0
            · rw [x_up_n _ (Or.inr (by omega)), x_up_n _ (Or.inr (by omega)), x_up_n _ (Or.inr (by omega)), x_up_n _ (Or.inr (by omega))]; exact y1
            · by_cases e : a = k
              · subst e; rw [x_up_n _ (Or.inr (by omega)), x_up_n _ (Or.inr (by omega)), x_up_s, x_up_n _ (Or.inr (by omega)), x_up_s]; exact ⟨rfl, rfl⟩
              · rw [x_up_n _ (Or.inr (by omega)), x_up_n _ (Or.inr (by omega)), x_up_n _ (Or.inr (by omega)), x_up_n _ (Or.inr (by omega)), x_up_n _ (Or.inr (by omega)), x_up_n _ (Or.inr (by omega)), x_up_n _ (Or.inr (by omega)), x_up_n _ (Or.inr (by omega))]; exact hq a a1 (by omega)
            · rw [x_up_n _ (Or.inr (by omega)), x_up_n _ (Or.inr (by omega)), x_up_n _ (Or.inr (by omega)), x_up_n _ (Or.inr (by omega))]; exact hq6 a a1 a2
  refine x_aload_n B dX8_liftBegins_0 rfl ?_
  refine x_getC0 B (k := 11) hT rfl rfl xc_7 (by decide) h8 (Or.inl q1346) (fun _ h => h) dX8_liftBegins_1 (fun k_1 => ?_)
  refine x_iconst B dX8_liftBegins_4 ?_
  refine x_iconst B dX8_liftBegins_5 ?_
  refine x_iast B k_1 ⟨by omega, by omega⟩ ⟨by omega, by omega⟩ dX8_liftBegins_6 ?_
  refine x_iconst B dX8_liftBegins_7 ?_
  refine x_ist_1 B dX8_liftBegins_8 (by first | rfl | exact x_cr _ _) ?_
  refine lp_9 _ 0 _ ⟨⟨by omega, by omega⟩, (tw.rf X).up, ?_, ⟨x_up_n _ (Or.inr (by omega)), x_up_s _ _ _ _⟩, fun a a1 a2 => by omega, fun a a1 a2 => x_up_n _ (Or.inr (by omega))⟩ (Nat.lt_succ_self _)
  have eg := t_M_ug (X := X) (f := 2) (z := 0) (by omega)
  rw [show (2 : Int) - 1 = 1 by omega] at eg
  rw [eg]; funext a f; unfold m_lk; rw [if_neg (by omega)]
