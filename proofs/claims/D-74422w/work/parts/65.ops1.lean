theorem c_X1_end {l : Launch} {E : x_E} {κ : x_Ka} {X : x_X} {z : Int} (hT : x_T κ) (h0 : κ 0 = some (.inl (0, 1))) (h5 : 0 ≤ X 0 5 ∧ X 0 5 ≤ 240) (hz : xR z) : x_Met l yX1_end cX1_end 2 (some .boolean) 1 0 0 E κ X [x_rf E 0, vi z] κ (fun v_ Y_ => if x_in z 0 (X 0 5) = 1 then (v_ = some (vi 1) ∧ Y_ = x_up X 0 5 z) else (v_ = some (vi 0) ∧ Y_ = X)) := by
  refine x_Met.of [(false, x_rf E 0), (false, vi z)] [some (x_rf E 0), some (vi z)] 0 (by decide) rfl rfl ⟨x_cr E (0), rfl, trivial⟩ rfl rfl ?_
  intro p e s m args below meth c hargs hin B
  have z1 := x_in_01 z 0 (X 0 5)
  refine x_iload_n B dX1_end_0 rfl ?_
  refine x_i2l B dX1_end_1 ⟨by omega, by omega⟩ ?_
  refine x_lconst B 0 dX1_end_2 (by decide) ?_
  refine x_aload_n B dX1_end_3 rfl ?_
  refine x_getI B (k := 5) 5 rfl rfl xc_0 (by decide) h0 (Or.inl q406) (fun _ h => h) dX1_end_4 (fun r_4 => ?_)
  refine x_i2l B dX1_end_7 ⟨by omega, by omega⟩ ?_
  refine x_goP (x_rS B (c_X1_in ⟨by omega, by omega⟩ ⟨by omega, by omega⟩ ⟨by omega, by omega⟩) (lw_S q464 q465 q110 q466) hd_X1_in ⟨by decide, by decide⟩ ⟨by decide, by decide⟩ rfl rfl (by simp [x_cr, x_c1, x_c2]) dX1_end_8) ?_
  refine x_if_ne B (tgt := 16) dX1_end_11 (by decide) ⟨by omega, by omega⟩ (fun h_11 => ?_) (fun h_11 => ?_)
  · refine x_aload_n B dX1_end_16 rfl ?_
    refine x_iload_n B dX1_end_17 rfl ?_
    refine x_putI B (k := 5) 5 rfl rfl rfl ⟨by omega, by omega⟩ xc_0 (by decide) rfl nn_0_5 (fun _ => rfl) h0 (Or.inl q406) (fun _ h => h) dX1_end_18 ?_
    refine x_iconst B dX1_end_21 ?_
    refine x_zret B (fun _ _ h => h) ⟨by omega, by omega⟩ ?_ dX1_end_22
    rw [if_pos (by omega)]; exact ⟨rfl, rfl⟩
  · refine x_iconst B dX1_end_14 ?_
    refine x_zret B (fun _ _ h => h) ⟨by omega, by omega⟩ ?_ dX1_end_15
    rw [if_neg (by omega)]; exact ⟨rfl, rfl⟩
theorem c_X1_tires {l : Launch} {E : x_E} {κ : x_Ka} {X : x_X} {z : Int} (hT : x_T κ) (h0 : κ 0 = some (.inl (0, 1))) (hz : xR z) : x_Met l yX1_tires cX1_tires 3 (some .int) 1 0 0 E κ X [x_rf E 0, vi z] κ (fun v_ Y_ => if x_in z 0 300 = 1 then (v_ = some (vi (X 0 1)) ∧ Y_ = x_up X 0 1 z) else (v_ = some (vi (-1)) ∧ Y_ = X)) := by
  refine x_Met.of [(false, x_rf E 0), (false, vi z)] [some (x_rf E 0), some (vi z), none] 1 (by decide) rfl rfl ⟨x_cr E (0), rfl, trivial⟩ rfl rfl ?_
  intro p e s m args below meth c hargs hin B
  have z1 := x_in_01 z 0 300
  refine x_iload_n B dX1_tires_0 rfl ?_
  refine x_i2l B dX1_tires_1 ⟨by omega, by omega⟩ ?_
  refine x_lconst B 0 dX1_tires_2 (by decide) ?_
  refine x_ldc2 B (300) q755 (by decide) dX1_tires_3 ?_
  refine x_goP (x_rS B (c_X1_in ⟨by omega, by omega⟩ ⟨by omega, by omega⟩ ⟨by omega, by omega⟩) (lw_S q464 q465 q110 q466) hd_X1_in ⟨by decide, by decide⟩ ⟨by decide, by decide⟩ rfl rfl (by simp [x_cr, x_c1, x_c2]) dX1_tires_6) ?_
  refine x_if_ne B (tgt := 14) dX1_tires_9 (by decide) ⟨by omega, by omega⟩ (fun h_9 => ?_) (fun h_9 => ?_)
  · refine x_aload_n B dX1_tires_14 rfl ?_
    refine x_getI B (k := 1) 1 rfl rfl xc_0 (by decide) h0 (Or.inl q398) (fun _ h => h) dX1_tires_15 (fun r_15 => ?_)
    refine x_ist_2 B dX1_tires_18 (by first | rfl | exact x_cr _ _) ?_
    refine x_aload_n B dX1_tires_19 rfl ?_
    refine x_iload_n B dX1_tires_20 rfl ?_
    refine x_putI B (k := 1) 1 rfl rfl rfl ⟨by omega, by omega⟩ xc_0 (by decide) rfl nn_0_1 (fun _ => rfl) h0 (Or.inl q398) (fun _ h => h) dX1_tires_21 ?_
    refine x_iload_n B dX1_tires_24 rfl ?_
    refine x_iret B (fun _ _ h => h) ?_ dX1_tires_25
    rw [if_pos (by omega)]; exact ⟨rfl, rfl⟩
  · refine x_iconst B dX1_tires_12 ?_
    refine x_iret B (fun _ _ h => h) ?_ dX1_tires_13
    rw [if_neg (by omega)]; exact ⟨rfl, rfl⟩
theorem c_X1_odds {l : Launch} {E : x_E} {κ : x_Ka} {X : x_X} {i t w f : Int} (hC : n_C κ X) (hi0 : xR i) (ht0 : xR t) (hw0 : xR w) (hf0 : xR f) : x_Pu l yX1_odds cX1_odds 5 (some .int) 3 E κ X [x_rf E 0, vi i, vi t, vi w, vi f] (vi (if x_in i 0 (X 1 2 - 1) = 1 ∧ x_in t 0 2 = 1 ∧ x_in w 1 40 = 1 ∧ x_in f 0 2 = 1 then c_O X i t w f else -1)) := by
  refine x_Met.of [(false, x_rf E 0), (false, vi i), (false, vi t), (false, vi w), (false, vi f)] [some (x_rf E 0), some (vi i), some (vi t), some (vi w), some (vi f)] 0 (by decide) rfl rfl ⟨x_cr E (0), rfl, rfl, rfl, rfl, trivial⟩ rfl rfl ?_
  intro p e s m args below meth c hargs hin B
  obtain ⟨hI, hP, hO, hW, hJ⟩ := id hC
  obtain ⟨hT, h0, hn, hl, hla⟩ := id hI
  have z1 := x_in_01 i 0 (X 1 2 - 1)
  have z2 := x_in_01 t 0 2
  have z3 := x_in_01 w 1 40
  have z4 := x_in_01 f 0 2
  refine x_aload_n B dX1_odds_0 rfl ?_
  refine x_iload_n B dX1_odds_1 rfl ?_
  refine x_goP (x_rV B h0 (show x_cl[0]? = some _ from rfl) (c_X1_isLifter hI ⟨by omega, by omega⟩) (lw_V q735 q737 qs13 q110 q738) hv_X1_isLifter ⟨by decide, by decide⟩ ⟨by decide, by decide⟩ rfl rfl (by simp [x_cr, x_c1, x_c2]) dX1_odds_2) ?_
  refine x_if_eq B (tgt := 62) dX1_odds_5 (by decide) ⟨by omega, by omega⟩ (fun h_5 => ?_) (fun h_5 => ?_)
  · refine x_iconst B dX1_odds_62 ?_
    refine x_iret B (fun _ _ h => h) ?_ dX1_odds_63
    exact ⟨congrArg (fun z => some (vi z)) (by first | (rw [if_neg (by omega)]; done) | (rw [if_pos ⟨by omega, by omega, by omega, by omega⟩]; unfold c_O; rw [if_pos ⟨hi.1, hi.2, ht.1, by omega⟩])), rfl⟩
  · refine x_iload_n B dX1_odds_8 rfl ?_
    refine x_goP (x_rS B (c_X1_isLift ⟨by omega, by omega⟩) (lw_S q739 q740 q110 q741) hd_X1_isLift ⟨by decide, by decide⟩ ⟨by decide, by decide⟩ rfl rfl (by simp [x_cr, x_c1, x_c2]) dX1_odds_9) ?_
    refine x_if_eq B (tgt := 62) dX1_odds_12 (by decide) ⟨by omega, by omega⟩ (fun h_12 => ?_) (fun h_12 => ?_)
    · refine x_iconst B dX1_odds_62 ?_
      refine x_iret B (fun _ _ h => h) ?_ dX1_odds_63
      exact ⟨congrArg (fun z => some (vi z)) (by first | (rw [if_neg (by omega)]; done) | (rw [if_pos ⟨by omega, by omega, by omega, by omega⟩]; unfold c_O; rw [if_pos ⟨hi.1, hi.2, ht.1, by omega⟩])), rfl⟩
    · refine x_iload_n B dX1_odds_15 rfl ?_
      refine x_i2l B dX1_odds_16 ⟨by omega, by omega⟩ ?_
      refine x_lconst B 1 dX1_odds_17 (by decide) ?_
      refine x_ldc2 B (40) q743 (by decide) dX1_odds_18 ?_
      refine x_goP (x_rS B (c_X1_in ⟨by omega, by omega⟩ ⟨by omega, by omega⟩ ⟨by omega, by omega⟩) (lw_S q464 q465 q110 q466) hd_X1_in ⟨by decide, by decide⟩ ⟨by decide, by decide⟩ rfl rfl (by simp [x_cr, x_c1, x_c2]) dX1_odds_21) ?_
      refine x_if_eq B (tgt := 62) dX1_odds_24 (by decide) ⟨by omega, by omega⟩ (fun h_24 => ?_) (fun h_24 => ?_)
      · refine x_iconst B dX1_odds_62 ?_
        refine x_iret B (fun _ _ h => h) ?_ dX1_odds_63
        exact ⟨congrArg (fun z => some (vi z)) (by first | (rw [if_neg (by omega)]; done) | (rw [if_pos ⟨by omega, by omega, by omega, by omega⟩]; unfold c_O; rw [if_pos ⟨hi.1, hi.2, ht.1, by omega⟩])), rfl⟩
      · refine x_iload B dX1_odds_27 rfl ?_
        refine x_i2l B dX1_odds_29 ⟨by omega, by omega⟩ ?_
        refine x_lconst B 0 dX1_odds_30 (by decide) ?_
        refine x_ldc2 B (2) q742 (by decide) dX1_odds_31 ?_
        refine x_goP (x_rS B (c_X1_in ⟨by omega, by omega⟩ ⟨by omega, by omega⟩ ⟨by omega, by omega⟩) (lw_S q464 q465 q110 q466) hd_X1_in ⟨by decide, by decide⟩ ⟨by decide, by decide⟩ rfl rfl (by simp [x_cr, x_c1, x_c2]) dX1_odds_34) ?_
        refine x_if_eq B (tgt := 62) dX1_odds_37 (by decide) ⟨by omega, by omega⟩ (fun h_37 => ?_) (fun h_37 => ?_)
        · refine x_iconst B dX1_odds_62 ?_
          refine x_iret B (fun _ _ h => h) ?_ dX1_odds_63
          exact ⟨congrArg (fun z => some (vi z)) (by first | (rw [if_neg (by omega)]; done) | (rw [if_pos ⟨by omega, by omega, by omega, by omega⟩]; unfold c_O; rw [if_pos ⟨hi.1, hi.2, ht.1, by omega⟩])), rfl⟩
        · have hi : 0 ≤ i ∧ i < X 1 2 := by unfold x_in at h_5; split at h_5 <;> omega
          have ht : 0 ≤ t ∧ t ≤ 2 := by unfold x_in at h_12; split at h_12 <;> omega
          have hf : 0 ≤ f ∧ f ≤ 2 := by unfold x_in at h_37; split at h_37 <;> omega
          refine x_aload_n B dX1_odds_40 rfl ?_
          refine x_aload_n B dX1_odds_41 rfl ?_
          refine x_getC0 B (k := 0) hT rfl rfl xc_0 (by decide) h0 (Or.inl q394) (fun _ h => h) dX1_odds_42 (fun k_42 => ?_)
          refine x_iload_n B dX1_odds_45 rfl ?_
          refine x_goP (x_rV B k_42 (show x_cl[1]? = some _ from rfl) (c_J2_get hT (by assumption) (by omega) ⟨by omega, by omega⟩) (lw_V q745 q372 q373 q113 q374) hv_J2_get ⟨by decide, by decide⟩ ⟨by decide, by decide⟩ rfl rfl (by simp [x_cr, x_c1, x_c2]) dX1_odds_46) ?_
          refine x_cast B (hl _ (by omega) (by omega)) (show x_cl[8]? = some _ from rfl) q746 dX1_odds_49 ?_
          refine x_iload_n B dX1_odds_52 rfl ?_
          refine x_iload_n B dX1_odds_53 rfl ?_
          refine x_iload B dX1_odds_54 rfl ?_
          refine x_goP (x_rV B h0 (show x_cl[0]? = some _ from rfl) (c_X1_oddsOf hT h0 (hl _ hi.1 hi.2) (hO.1 _ hi.1 hi.2) ⟨by omega, by omega⟩ hw0 ⟨by omega, by omega⟩ hO.2) (lw_V q764 q766 qs14 q110 q767) hv_X1_oddsOf ⟨by decide, by decide⟩ ⟨by decide, by decide⟩ rfl rfl (by simp [x_cr, x_c1, x_c2]) dX1_odds_56) ?_
          refine x_goto B (tgt := 63) dX1_odds_59 (by decide) ?_
          refine x_iret B (fun _ _ h => h) ?_ dX1_odds_63
          exact ⟨congrArg (fun z => some (vi z)) (by first | (rw [if_neg (by omega)]; done) | (rw [if_pos ⟨by omega, by omega, by omega, by omega⟩]; unfold c_O; rw [if_pos ⟨hi.1, hi.2, ht.1, by omega⟩])), rfl⟩
theorem c_X1_beginsAnew {l : Launch} {E : x_E} {κ : x_Ka} {X : x_X}  (hI : n_I κ X) : x_Met l yX1_beginsAnew cX1_beginsAnew 1 (some .int) 5 0 0 E κ X [x_rf E 0] κ (fun v_ Y_ => v_ = some (vi (X 1 2)) ∧ (∀ a, (a < 3 ∨ 17 ≤ a) → a ≠ 0 → Y_ a = X a) ∧ (∀ i, i ≠ 12 → Y_ 0 i = X 0 i) ∧ Y_ 0 12 = 0 ∧ c_M Y_ 3 = m_beg (X 1 2) (c_op X) (c_M X 3) ∧ ∀ l, 0 ≤ l → l < X 1 2 → Y_ (3 + 1 + 1 + 2 * l) 1 = 0) := by
  refine x_Met.of [(false, x_rf E 0)] [some (x_rf E 0)] 0 (by decide) rfl rfl ⟨x_cr E (0), trivial⟩ rfl rfl ?_
  intro p e s m args below meth c hargs hin B
  obtain ⟨hT, h0, hn, hl, hla⟩ := id hI
  refine x_aload_n B dX1_beginsAnew_0 rfl ?_
  refine x_getC0 B (k := 2) hT rfl rfl xc_0 (by decide) h0 (Or.inl q400) (fun _ h => h) dX1_beginsAnew_1 (fun k_1 => ?_)
  refine x_go (x_rV B k_1 (show x_cl[2]? = some _ from rfl) (c_X2_begins hI (by assumption) (by omega) (by omega)) (lw_V q355 q356 q357 q114 q358) hv_X2_begins ⟨by decide, by decide⟩ ⟨by decide, by decide⟩ rfl rfl (by simp [x_cr, x_c1, x_c2]) dX1_beginsAnew_4) (fun v_4 X_4 p_4 => ?_)
  obtain ⟨rfl, hf, hM, h1⟩ := p_4
  have hI4 := hI.fr hf (by omega)
  have e1 : X_4 1 2 = X 1 2 := by rw [hf 1 (by omega)]
  refine x_aload_n B dX1_beginsAnew_7 rfl ?_
  refine x_iconst B dX1_beginsAnew_8 ?_
  refine x_putI B (k := 12) 12 rfl rfl rfl ⟨by omega, by omega⟩ xc_0 (by decide) rfl nn_0_12 (fun _ => rfl) h0 (Or.inl q413) (fun _ h => h) dX1_beginsAnew_9 ?_
  have hI5 : n_I κ (x_up X_4 0 12 0) := by unfold n_I at *; rw [x_up_o _ (by omega), x_up_o _ (by omega)]; exact hI4
  refine x_aload_n B dX1_beginsAnew_12 rfl ?_
  refine x_getC0 B (k := 0) hT rfl rfl xc_0 (by decide) h0 (Or.inl q394) (fun _ h => h) dX1_beginsAnew_13 (fun k_13 => ?_)
  refine x_goP (x_rV B k_13 (show x_cl[1]? = some _ from rfl) (c_J2_size hT (by assumption)) (lw_V q643 q364 q365 q113 q366) hv_J2_size ⟨by decide, by decide⟩ ⟨by decide, by decide⟩ rfl rfl (by simp [x_cr, x_c1, x_c2]) dX1_beginsAnew_16) ?_
  refine x_iret B (fun _ _ h => h) ?_ dX1_beginsAnew_19
  refine ⟨by rw [x_up_o _ (by omega), e1], fun a a1 a2 => by rw [x_up_o _ a2]; exact hf a (by omega), fun i hi => by rw [x_up_n _ (Or.inr hi), hf 0 (by omega)], x_up_s _ _ _ _, ?_, fun l l1 l2 => by rw [x_up_o _ (by omega)]; exact h1 l l1 l2⟩
  rw [← hM]
  funext l f
  unfold c_M
  rw [x_up_o _ (by omega), x_up_o _ (by omega)]
  by_cases q : l = -1
  · rw [if_pos q, if_pos q]
  · rw [if_neg q, if_neg q]
    by_cases q2 : 0 ≤ l ∧ l < X_4 1 2
    · rw [if_pos q2, if_pos q2, x_up_o _ (by omega), x_up_o _ (by omega)]
    · rw [if_neg q2, if_neg q2]
theorem c_X1_begins {l : Launch} {E : x_E} {κ : x_Ka} {X : x_X}  (hI : n_I κ X) : x_Met l yX1_begins cX1_begins 1 (some .int) 6 0 0 E κ X [x_rf E 0] κ (fun v_ Y_ => v_ = some (vi (X 1 2)) ∧ (∀ a, (a < 3 ∨ 17 ≤ a) → a ≠ 0 → Y_ a = X a) ∧ (∀ i, i ≠ 12 → Y_ 0 i = X 0 i) ∧ Y_ 0 12 = 0 ∧ c_M Y_ 3 = m_beg (X 1 2) (c_op X) (c_M X 3) ∧ ∀ l, 0 ≤ l → l < X 1 2 → Y_ (3 + 1 + 1 + 2 * l) 1 = 0) := by
  refine x_Met.of [(false, x_rf E 0)] [some (x_rf E 0)] 0 (by decide) rfl rfl ⟨x_cr E (0), trivial⟩ rfl rfl ?_
  intro p e s m args below meth c hargs hin B
  obtain ⟨hT, h0, hn, hl, hla⟩ := id hI
  refine x_aload_n B dX1_begins_0 rfl ?_
  refine x_go (x_rV B h0 (show x_cl[0]? = some _ from rfl) (c_X1_beginsAnew (by assumption)) (lw_V q710 q712 qs11 q110 q713) hv_X1_beginsAnew ⟨by decide, by decide⟩ ⟨by decide, by decide⟩ rfl rfl (by simp [x_cr, x_c1, x_c2]) dX1_begins_1) (fun v_1 X_1 p_1 => ?_)
  obtain ⟨rfl, hp⟩ := p_1
  refine x_iret B (fun _ _ h => h) ?_ dX1_begins_4
  exact ⟨rfl, hp⟩
