/-- ranges, and that who is out or done asks nothing: what the readers need -/
def m_V (n : Int) (M : x_X) : Prop := ((0 ≤ M (-1) 1 ∧ M (-1) 1 ≤ 3) ∧ (0 ≤ M (-1) 2 ∧ M (-1) 2 ≤ 2) ∧ (0 ≤ M (-1) 3 ∧ M (-1) 3 ≤ 40)) ∧ (∀ l, 0 ≤ l → l < n → ((0 ≤ M l 2 ∧ M l 2 ≤ 3) ∧ (0 ≤ M l 3 ∧ M l 3 ≤ 40) ∧ (1 ≤ M l 4 ∧ M l 4 ≤ 41) ∧ (0 ≤ M l 5 ∧ M l 5 ≤ 2) ∧ (0 ≤ M l 6 ∧ M l 6 ≤ 1) ∧ (0 ≤ M l 7 ∧ M l 7 ≤ 1) ∧ (0 ≤ M l 10 ∧ M l 10 ≤ 40) ∧ (0 ≤ M l 11 ∧ M l 11 ≤ 40) ∧ (0 ≤ M l 12 ∧ M l 12 ≤ 40))) ∧ (∀ l, 0 ≤ l → l < n → (M l 7 = 1 → M l 3 = 0) ∧ (M (-1) 1 = 3 → M l 3 = 0) ∧ True)
theorem m_W.V {n : Int} {M : x_X} (h : m_W n M) : m_V n M := ⟨h.1, h.2.1, fun l l1 l2 => ⟨(h.2.2 l l1 l2).1, (h.2.2 l l1 l2).2.1, trivial⟩⟩
theorem m_sum_rV {n : Int} {M : x_X} (h : m_V n M) {l : Int} (h1 : 0 ≤ l) (h2 : l < n) : 0 ≤ m_sum M l ∧ m_sum M l ≤ 120 := by
  have := h.2.1 l h1 h2
  unfold m_sum
  split <;> omega
theorem c_X8_leastOf {l : Launch} {E : x_E} {κ : x_Ka} {X : x_X} {a : Int} (hK : t_K κ X) (hW : m_V (X 64 3) (t_M X)) (hLa : t_La X) (ha : 0 ≤ a ∧ a < X 64 3) : x_Pu l yX8_leastOf cX8_leastOf 3 (some .int) 2 E κ X [x_rf E 64, vi a] (vi (m_least (t_M X) a)) := by
  refine x_Met.of [(false, x_rf E 64), (false, vi a)] [some (x_rf E 64), some (vi a), none] 1 (by decide) rfl rfl ⟨x_cr E (64), rfl, trivial⟩ rfl rfl ?_
  intro p e s m args below meth c hargs hin B
  obtain ⟨hT, h8, hn⟩ := id hK
  have s2 : t_M X a 2 = X 72 (3 + 10 * a + 4) := t_M_s (by assumption) (by decide) (by omega) (by omega)
  have s3 : t_M X a 3 = X 72 (3 + 10 * a + 0) := t_M_s (by assumption) (by decide) (by omega) (by omega)
  have s5 : t_M X a 5 = X 72 (3 + 10 * a + 5) := t_M_s (by assumption) (by decide) (by omega) (by omega)
  have s6 : t_M X a 6 = X 72 (3 + 10 * a + 1) := t_M_s (by assumption) (by decide) (by omega) (by omega)
  have s7 : t_M X a 7 = X 72 (3 + 10 * a + 6) := t_M_s (by assumption) (by decide) (by omega) (by omega)
  have s4 := t_M_4 ha
  have hl := hLa a ha.1 ha.2
  have w1 := hW.1
  have w2 := hW.2.1 a ha.1 ha.2
  have w3 := hW.2.2 a ha.1 ha.2
  have g1 : t_M X (-1) 1 = X 72 0 := t_M_g (by omega)
  have g3 : t_M X (-1) 3 = X 72 2 := t_M_g (by omega)
  refine x_aload_n B dX8_leastOf_0 rfl ?_
  refine x_iload_n B dX8_leastOf_1 rfl ?_
  refine x_iconst B dX8_leastOf_2 ?_
  refine x_goP (x_rV B h8 (show x_cl[7]? = some _ from rfl) (c_X8_of hT h8 ⟨by omega, by omega⟩) (lw_V q1525 q1527 qs52 q122 q1528) hv_X8_of ⟨by decide, by decide⟩ ⟨by decide, by decide⟩ rfl rfl (by simp [x_cr, x_c1, x_c2]) dX8_leastOf_3) ?_
  refine x_if_eq B (tgt := 24) dX8_leastOf_6 (by decide) ⟨by omega, by omega⟩ (fun h_6 => ?_) (fun h_6 => ?_)
  · refine x_iconst B dX8_leastOf_24 ?_
    refine x_iret B (fun _ _ h => h) ?_ dX8_leastOf_25
    have e0 : t_M X a 3 = 0 := by
      first
      | omega
      | (have q : X 72 (3 + 10 * a + 6) = 1 := (by by_cases z : X 72 (3 + 10 * a + 6) = 1; exact z; rw [if_neg z] at h_14; omega); exact w3.1 (by omega))
      | (have q : X 72 0 = 3 := (by by_cases z : X 72 0 = 3; exact z; rw [if_neg z] at h_21; omega); exact w3.2.1 (by omega))
    exact ⟨congrArg (fun z => some (vi z)) (by unfold m_least; rw [if_pos e0]), rfl⟩
  · refine x_aload_n B dX8_leastOf_9 rfl ?_
    refine x_iload_n B dX8_leastOf_10 rfl ?_
    refine x_goP (x_rV B h8 (show x_cl[7]? = some _ from rfl) (c_X8_isOut hT h8 ⟨by omega, by omega⟩) (lw_V q1521 q1523 qs51 q122 q1524) hv_X8_isOut ⟨by decide, by decide⟩ ⟨by decide, by decide⟩ rfl rfl (by simp [x_cr, x_c1, x_c2]) dX8_leastOf_11) ?_
    refine x_if_ne B (tgt := 24) dX8_leastOf_14 (by decide) ⟨by split <;> omega, by split <;> omega⟩ (fun h_14 => ?_) (fun h_14 => ?_)
    · refine x_iconst B dX8_leastOf_24 ?_
      refine x_iret B (fun _ _ h => h) ?_ dX8_leastOf_25
      have e0 : t_M X a 3 = 0 := by
        first
        | omega
        | (have q : X 72 (3 + 10 * a + 6) = 1 := (by by_cases z : X 72 (3 + 10 * a + 6) = 1; exact z; rw [if_neg z] at h_14; omega); exact w3.1 (by omega))
        | (have q : X 72 0 = 3 := (by by_cases z : X 72 0 = 3; exact z; rw [if_neg z] at h_21; omega); exact w3.2.1 (by omega))
      exact ⟨congrArg (fun z => some (vi z)) (by unfold m_least; rw [if_pos e0]), rfl⟩
    · refine x_aload_n B dX8_leastOf_17 rfl ?_
      refine x_goP (x_rV B h8 (show x_cl[7]? = some _ from rfl) (c_X8_isOver hT h8) (lw_V q1517 q1519 qs50 q122 q1520) hv_X8_isOver ⟨by decide, by decide⟩ ⟨by decide, by decide⟩ rfl rfl (by simp [x_cr, x_c1, x_c2]) dX8_leastOf_18) ?_
      refine x_if_eq B (tgt := 26) dX8_leastOf_21 (by decide) ⟨by split <;> omega, by split <;> omega⟩ (fun h_21 => ?_) (fun h_21 => ?_)
      · refine x_aload_n B dX8_leastOf_26 rfl ?_
        refine x_iload_n B dX8_leastOf_27 rfl ?_
        refine x_iconst B dX8_leastOf_28 ?_
        refine x_goP (x_rV B h8 (show x_cl[7]? = some _ from rfl) (c_X8_of hT h8 ⟨by omega, by omega⟩) (lw_V q1525 q1527 qs52 q122 q1528) hv_X8_of ⟨by decide, by decide⟩ ⟨by decide, by decide⟩ rfl rfl (by simp [x_cr, x_c1, x_c2]) dX8_leastOf_29) ?_
        refine x_if_ne B (tgt := 39) dX8_leastOf_32 (by decide) ⟨by omega, by omega⟩ (fun h_32 => ?_) (fun h_32 => ?_)
        · refine x_aload_n B dX8_leastOf_39 rfl ?_
          refine x_iload_n B dX8_leastOf_40 rfl ?_
          refine x_iconst B dX8_leastOf_41 ?_
          refine x_goP (x_rV B h8 (show x_cl[7]? = some _ from rfl) (c_X8_of hT h8 ⟨by omega, by omega⟩) (lw_V q1525 q1527 qs52 q122 q1528) hv_X8_of ⟨by decide, by decide⟩ ⟨by decide, by decide⟩ rfl rfl (by simp [x_cr, x_c1, x_c2]) dX8_leastOf_42) ?_
          refine x_aload_n B dX8_leastOf_45 rfl ?_
          refine x_iload_n B dX8_leastOf_46 rfl ?_
          refine x_iconst B dX8_leastOf_47 ?_
          refine x_goP (x_rV B h8 (show x_cl[7]? = some _ from rfl) (c_X8_of hT h8 ⟨by omega, by omega⟩) (lw_V q1525 q1527 qs52 q122 q1528) hv_X8_of ⟨by decide, by decide⟩ ⟨by decide, by decide⟩ rfl rfl (by simp [x_cr, x_c1, x_c2]) dX8_leastOf_48) ?_
          refine x_iadd B dX8_leastOf_51 ?_
          refine x_ist_2 B dX8_leastOf_52 (by first | rfl | exact x_cr _ _) ?_
          refine x_aload_n B dX8_leastOf_53 rfl ?_
          refine x_iload_n B dX8_leastOf_54 rfl ?_
          refine x_iconst B dX8_leastOf_55 ?_
          refine x_goP (x_rV B h8 (show x_cl[7]? = some _ from rfl) (c_X8_of hT h8 ⟨by omega, by omega⟩) (lw_V q1525 q1527 qs52 q122 q1528) hv_X8_of ⟨by decide, by decide⟩ ⟨by decide, by decide⟩ rfl rfl (by simp [x_cr, x_c1, x_c2]) dX8_leastOf_56) ?_
          refine x_if_ne B (tgt := 75) dX8_leastOf_59 (by decide) ⟨by omega, by omega⟩ (fun h_59 => ?_) (fun h_59 => ?_)
          · refine x_iload_n B dX8_leastOf_75 rfl ?_
            refine x_iret B (fun _ _ h => h) ?_ dX8_leastOf_76
            have e1 : t_M X a 3 ≠ 0 := by omega
            unfold m_least
            rw [if_neg e1, s6, g3, s4]
            first
            | (rw [if_pos (by omega), if_pos (by omega)]; exact ⟨rfl, rfl⟩)
            | (rw [if_pos (by omega), if_neg (by omega)]; exact ⟨rfl, rfl⟩)
            | (rw [if_neg (by omega), if_pos (by omega)]; exact ⟨rfl, rfl⟩)
            | (rw [if_neg (by omega), if_neg (by omega)]; exact ⟨rfl, rfl⟩)
          · refine x_iload_n B dX8_leastOf_62 rfl ?_
            refine x_aload_n B dX8_leastOf_63 rfl ?_
            refine x_getC0 B (k := 11) hT rfl rfl xc_7 (by decide) h8 (Or.inl q1346) (fun _ h => h) dX8_leastOf_64 (fun k_64 => ?_)
            refine x_iconst B dX8_leastOf_67 ?_
            refine x_iald B k_64 ⟨by omega, by omega⟩ dX8_leastOf_68 (fun r_68 => ?_)
            refine x_max B ⟨by omega, by omega⟩ ⟨by omega, by omega⟩ q1584 q666 q130 q667 (by decide) (by simp [x_cr, x_c1, x_c2]) ⟨by decide, by decide⟩ dX8_leastOf_69 ?_
            refine x_goto B (tgt := 76) dX8_leastOf_72 (by decide) ?_
            refine x_iret B (fun _ _ h => h) ?_ dX8_leastOf_76
            have e1 : t_M X a 3 ≠ 0 := by omega
            unfold m_least
            rw [if_neg e1, s6, g3, s4]
            first
            | (rw [if_pos (by omega), if_pos (by omega)]; exact ⟨rfl, rfl⟩)
            | (rw [if_pos (by omega), if_neg (by omega)]; exact ⟨rfl, rfl⟩)
            | (rw [if_neg (by omega), if_pos (by omega)]; exact ⟨rfl, rfl⟩)
            | (rw [if_neg (by omega), if_neg (by omega)]; exact ⟨rfl, rfl⟩)
        · refine x_iconst B dX8_leastOf_35 ?_
          refine x_goto B (tgt := 52) dX8_leastOf_36 (by decide) ?_
          refine x_ist_2 B dX8_leastOf_52 (by first | rfl | exact x_cr _ _) ?_
          refine x_aload_n B dX8_leastOf_53 rfl ?_
          refine x_iload_n B dX8_leastOf_54 rfl ?_
          refine x_iconst B dX8_leastOf_55 ?_
          refine x_goP (x_rV B h8 (show x_cl[7]? = some _ from rfl) (c_X8_of hT h8 ⟨by omega, by omega⟩) (lw_V q1525 q1527 qs52 q122 q1528) hv_X8_of ⟨by decide, by decide⟩ ⟨by decide, by decide⟩ rfl rfl (by simp [x_cr, x_c1, x_c2]) dX8_leastOf_56) ?_
          refine x_if_ne B (tgt := 75) dX8_leastOf_59 (by decide) ⟨by omega, by omega⟩ (fun h_59 => ?_) (fun h_59 => ?_)
          · refine x_iload_n B dX8_leastOf_75 rfl ?_
            refine x_iret B (fun _ _ h => h) ?_ dX8_leastOf_76
            have e1 : t_M X a 3 ≠ 0 := by omega
            unfold m_least
            rw [if_neg e1, s6, g3, s4]
            first
            | (rw [if_pos (by omega), if_pos (by omega)]; exact ⟨rfl, rfl⟩)
            | (rw [if_pos (by omega), if_neg (by omega)]; exact ⟨rfl, rfl⟩)
            | (rw [if_neg (by omega), if_pos (by omega)]; exact ⟨rfl, rfl⟩)
            | (rw [if_neg (by omega), if_neg (by omega)]; exact ⟨rfl, rfl⟩)
          · refine x_iload_n B dX8_leastOf_62 rfl ?_
            refine x_aload_n B dX8_leastOf_63 rfl ?_
            refine x_getC0 B (k := 11) hT rfl rfl xc_7 (by decide) h8 (Or.inl q1346) (fun _ h => h) dX8_leastOf_64 (fun k_64 => ?_)
            refine x_iconst B dX8_leastOf_67 ?_
            refine x_iald B k_64 ⟨by omega, by omega⟩ dX8_leastOf_68 (fun r_68 => ?_)
            refine x_max B ⟨by omega, by omega⟩ ⟨by omega, by omega⟩ q1584 q666 q130 q667 (by decide) (by simp [x_cr, x_c1, x_c2]) ⟨by decide, by decide⟩ dX8_leastOf_69 ?_
            refine x_goto B (tgt := 76) dX8_leastOf_72 (by decide) ?_
            refine x_iret B (fun _ _ h => h) ?_ dX8_leastOf_76
            have e1 : t_M X a 3 ≠ 0 := by omega
            unfold m_least
            rw [if_neg e1, s6, g3, s4]
            first
            | (rw [if_pos (by omega), if_pos (by omega)]; exact ⟨rfl, rfl⟩)
            | (rw [if_pos (by omega), if_neg (by omega)]; exact ⟨rfl, rfl⟩)
            | (rw [if_neg (by omega), if_pos (by omega)]; exact ⟨rfl, rfl⟩)
            | (rw [if_neg (by omega), if_neg (by omega)]; exact ⟨rfl, rfl⟩)
      · refine x_iconst B dX8_leastOf_24 ?_
        refine x_iret B (fun _ _ h => h) ?_ dX8_leastOf_25
        have e0 : t_M X a 3 = 0 := by
          first
          | omega
          | (have q : X 72 (3 + 10 * a + 6) = 1 := (by by_cases z : X 72 (3 + 10 * a + 6) = 1; exact z; rw [if_neg z] at h_14; omega); exact w3.1 (by omega))
          | (have q : X 72 0 = 3 := (by by_cases z : X 72 0 = 3; exact z; rw [if_neg z] at h_21; omega); exact w3.2.1 (by omega))
        exact ⟨congrArg (fun z => some (vi z)) (by unfold m_least; rw [if_pos e0]), rfl⟩
theorem c_X8_sumOf {l : Launch} {E : x_E} {κ : x_Ka} {X : x_X} {a : Int} (hK : t_K κ X) (hW : m_V (X 64 3) (t_M X)) (ha : 0 ≤ a ∧ a < X 64 3) : x_Pu l yX8_sumOf cX8_sumOf 2 (some .int) 2 E κ X [x_rf E 64, vi a] (vi (m_sum (t_M X) a)) := by
  refine x_Met.of [(false, x_rf E 64), (false, vi a)] [some (x_rf E 64), some (vi a)] 0 (by decide) rfl rfl ⟨x_cr E (64), rfl, trivial⟩ rfl rfl ?_
  intro p e s m args below meth c hargs hin B
  obtain ⟨hT, h8, hn⟩ := id hK
  have s7 : t_M X a 7 = X 72 (3 + 10 * a + 6) := t_M_s (by assumption) (by decide) (by omega) (by omega)
  have b0 : t_M X a 10 = X 72 (3 + 10 * a + 7) := t_M_s ha (by decide) (by omega) (by omega)
  have b1 : t_M X a 11 = X 72 (3 + 10 * a + 8) := t_M_s ha (by decide) (by omega) (by omega)
  have b2 : t_M X a 12 = X 72 (3 + 10 * a + 9) := t_M_s ha (by decide) (by omega) (by omega)
  have w2 := hW.2.1 a ha.1 ha.2
  refine x_aload_n B dX8_sumOf_0 rfl ?_
  refine x_iload_n B dX8_sumOf_1 rfl ?_
  refine x_goP (x_rV B h8 (show x_cl[7]? = some _ from rfl) (c_X8_isOut hT h8 ⟨by omega, by omega⟩) (lw_V q1521 q1523 qs51 q122 q1524) hv_X8_isOut ⟨by decide, by decide⟩ ⟨by decide, by decide⟩ rfl rfl (by simp [x_cr, x_c1, x_c2]) dX8_sumOf_2) ?_
  refine x_if_eq B (tgt := 12) dX8_sumOf_5 (by decide) ⟨by split <;> omega, by split <;> omega⟩ (fun h_5 => ?_) (fun h_5 => ?_)
  · refine x_aload_n B dX8_sumOf_12 rfl ?_
    refine x_iload_n B dX8_sumOf_13 rfl ?_
    refine x_bipush B dX8_sumOf_14 (by decide) ?_
    refine x_goP (x_rV B h8 (show x_cl[7]? = some _ from rfl) (c_X8_of hT h8 ⟨by omega, by omega⟩) (lw_V q1525 q1527 qs52 q122 q1528) hv_X8_of ⟨by decide, by decide⟩ ⟨by decide, by decide⟩ rfl rfl (by simp [x_cr, x_c1, x_c2]) dX8_sumOf_16) ?_
    refine x_aload_n B dX8_sumOf_19 rfl ?_
    refine x_iload_n B dX8_sumOf_20 rfl ?_
    refine x_bipush B dX8_sumOf_21 (by decide) ?_
    refine x_goP (x_rV B h8 (show x_cl[7]? = some _ from rfl) (c_X8_of hT h8 ⟨by omega, by omega⟩) (lw_V q1525 q1527 qs52 q122 q1528) hv_X8_of ⟨by decide, by decide⟩ ⟨by decide, by decide⟩ rfl rfl (by simp [x_cr, x_c1, x_c2]) dX8_sumOf_23) ?_
    refine x_iadd B dX8_sumOf_26 ?_
    refine x_aload_n B dX8_sumOf_27 rfl ?_
    refine x_iload_n B dX8_sumOf_28 rfl ?_
    refine x_bipush B dX8_sumOf_29 (by decide) ?_
    refine x_goP (x_rV B h8 (show x_cl[7]? = some _ from rfl) (c_X8_of hT h8 ⟨by omega, by omega⟩) (lw_V q1525 q1527 qs52 q122 q1528) hv_X8_of ⟨by decide, by decide⟩ ⟨by decide, by decide⟩ rfl rfl (by simp [x_cr, x_c1, x_c2]) dX8_sumOf_31) ?_
    refine x_iadd B dX8_sumOf_34 ?_
    refine x_iret B (fun _ _ h => h) ?_ dX8_sumOf_35
    unfold m_sum
    first
    | (rw [if_neg (by intro z; rw [if_neg (by omega)] at h_5; omega)]; exact ⟨rfl, rfl⟩)
    | (rw [if_pos (by by_cases z : X 72 (3 + 10 * a + 6) = 1; rw [if_pos z] at h_5; omega; omega), b0, b1, b2]; exact ⟨rfl, rfl⟩)
  · refine x_iconst B dX8_sumOf_8 ?_
    refine x_goto B (tgt := 35) dX8_sumOf_9 (by decide) ?_
    refine x_iret B (fun _ _ h => h) ?_ dX8_sumOf_35
    unfold m_sum
    first
    | (rw [if_neg (by intro z; rw [if_neg (by omega)] at h_5; omega)]; exact ⟨rfl, rfl⟩)
    | (rw [if_pos (by by_cases z : X 72 (3 + 10 * a + 6) = 1; rw [if_pos z] at h_5; omega; omega), b0, b1, b2]; exact ⟨rfl, rfl⟩)
theorem c_X8_isLighter {l : Launch} {E : x_E} {κ : x_Ka} {X : x_X} {a b : Int} (hK : t_K κ X) (ha : 0 ≤ a ∧ a < X 64 3) (hb : 0 ≤ b ∧ b < X 64 3) : x_Pu l yX8_isLighter cX8_isLighter 3 (some .boolean) 0 E κ X [x_rf E 64, vi a, vi b] (vi (t_li X a b)) := by
  refine x_Met.of [(false, x_rf E 64), (false, vi a), (false, vi b)] [some (x_rf E 64), some (vi a), some (vi b)] 0 (by decide) rfl rfl ⟨x_cr E (64), rfl, rfl, trivial⟩ rfl rfl ?_
  intro p e s m args below meth c hargs hin B
  obtain ⟨hT, h8, hn⟩ := id hK
  have ba : t_body X a = X 66 a := by unfold t_body; rw [if_pos ha]
  have bb : t_body X b = X 66 b := by unfold t_body; rw [if_pos hb]
  have la : t_lot X a = X 67 a := by unfold t_lot; rw [if_pos ha]
  have lb : t_lot X b = X 67 b := by unfold t_lot; rw [if_pos hb]
  refine x_aload_n B dX8_isLighter_0 rfl ?_
  refine x_getC0 B (k := 4) hT rfl rfl xc_7 (by decide) h8 (Or.inl q1339) (fun _ h => h) dX8_isLighter_1 (fun k_1 => ?_)
  refine x_iload_n B dX8_isLighter_4 rfl ?_
  refine x_iald B k_1 ⟨by omega, by omega⟩ dX8_isLighter_5 (fun r_5 => ?_)
  refine x_aload_n B dX8_isLighter_6 rfl ?_
  refine x_getC0 B (k := 4) hT rfl rfl xc_7 (by decide) h8 (Or.inl q1339) (fun _ h => h) dX8_isLighter_7 (fun k_7 => ?_)
  refine x_iload_n B dX8_isLighter_10 rfl ?_
  refine x_iald B k_7 ⟨by omega, by omega⟩ dX8_isLighter_11 (fun r_11 => ?_)
  refine x_icmp_lt B (tgt := 45) dX8_isLighter_12 (by decide) ⟨by omega, by omega⟩ ⟨by omega, by omega⟩ (fun h_12 => ?_) (fun h_12 => ?_)
  · refine x_iconst B dX8_isLighter_45 ?_
    refine x_goto B (tgt := 50) dX8_isLighter_46 (by decide) ?_
    refine x_zret B (fun _ _ h => h) ⟨by omega, by omega⟩ ?_ dX8_isLighter_50
    unfold t_li m_li
    rw [ba, bb, la, lb]
    first | exact ⟨by rw [if_pos (by omega)], rfl⟩ | exact ⟨by rw [if_neg (by omega)], rfl⟩
  · refine x_aload_n B dX8_isLighter_15 rfl ?_
    refine x_getC0 B (k := 4) hT rfl rfl xc_7 (by decide) h8 (Or.inl q1339) (fun _ h => h) dX8_isLighter_16 (fun k_16 => ?_)
    refine x_iload_n B dX8_isLighter_19 rfl ?_
    refine x_iald B k_16 ⟨by omega, by omega⟩ dX8_isLighter_20 (fun r_20 => ?_)
    refine x_aload_n B dX8_isLighter_21 rfl ?_
    refine x_getC0 B (k := 4) hT rfl rfl xc_7 (by decide) h8 (Or.inl q1339) (fun _ h => h) dX8_isLighter_22 (fun k_22 => ?_)
    refine x_iload_n B dX8_isLighter_25 rfl ?_
    refine x_iald B k_22 ⟨by omega, by omega⟩ dX8_isLighter_26 (fun r_26 => ?_)
    refine x_icmp_ne B (tgt := 49) dX8_isLighter_27 (by decide) ⟨by omega, by omega⟩ ⟨by omega, by omega⟩ (fun h_27 => ?_) (fun h_27 => ?_)
    · refine x_iconst B dX8_isLighter_49 ?_
      refine x_zret B (fun _ _ h => h) ⟨by omega, by omega⟩ ?_ dX8_isLighter_50
      unfold t_li m_li
      rw [ba, bb, la, lb]
      first | exact ⟨by rw [if_pos (by omega)], rfl⟩ | exact ⟨by rw [if_neg (by omega)], rfl⟩
    · refine x_aload_n B dX8_isLighter_30 rfl ?_
      refine x_getC0 B (k := 5) hT rfl rfl xc_7 (by decide) h8 (Or.inl q1340) (fun _ h => h) dX8_isLighter_31 (fun k_31 => ?_)
      refine x_iload_n B dX8_isLighter_34 rfl ?_
      refine x_iald B k_31 ⟨by omega, by omega⟩ dX8_isLighter_35 (fun r_35 => ?_)
      refine x_aload_n B dX8_isLighter_36 rfl ?_
      refine x_getC0 B (k := 5) hT rfl rfl xc_7 (by decide) h8 (Or.inl q1340) (fun _ h => h) dX8_isLighter_37 (fun k_37 => ?_)
      refine x_iload_n B dX8_isLighter_40 rfl ?_
      refine x_iald B k_37 ⟨by omega, by omega⟩ dX8_isLighter_41 (fun r_41 => ?_)
      refine x_icmp_ge B (tgt := 49) dX8_isLighter_42 (by decide) ⟨by omega, by omega⟩ ⟨by omega, by omega⟩ (fun h_42 => ?_) (fun h_42 => ?_)
      · refine x_iconst B dX8_isLighter_49 ?_
        refine x_zret B (fun _ _ h => h) ⟨by omega, by omega⟩ ?_ dX8_isLighter_50
        unfold t_li m_li
        rw [ba, bb, la, lb]
        first | exact ⟨by rw [if_pos (by omega)], rfl⟩ | exact ⟨by rw [if_neg (by omega)], rfl⟩
      · refine x_iconst B dX8_isLighter_45 ?_
        refine x_goto B (tgt := 50) dX8_isLighter_46 (by decide) ?_
        refine x_zret B (fun _ _ h => h) ⟨by omega, by omega⟩ ?_ dX8_isLighter_50
        unfold t_li m_li
        rw [ba, bb, la, lb]
        first | exact ⟨by rw [if_pos (by omega)], rfl⟩ | exact ⟨by rw [if_neg (by omega)], rfl⟩
theorem c_X8_isAhead {l : Launch} {E : x_E} {κ : x_Ka} {X : x_X} {a b : Int} (hK : t_K κ X) (hW : m_V (X 64 3) (t_M X)) (ha : 0 ≤ a ∧ a < X 64 3) (hb : 0 ≤ b ∧ b < X 64 3) : x_Pu l yX8_isAhead cX8_isAhead 3 (some .boolean) 3 E κ X [x_rf E 64, vi a, vi b] (vi (m_ahd (t_li X) (t_M X) a b)) := by
  refine x_Met.of [(false, x_rf E 64), (false, vi a), (false, vi b)] [some (x_rf E 64), some (vi a), some (vi b)] 0 (by decide) rfl rfl ⟨x_cr E (64), rfl, rfl, trivial⟩ rfl rfl ?_
  intro p e s m args below meth c hargs hin B
  obtain ⟨hT, h8, hn⟩ := id hK
  have sa : t_M X a 7 = X 72 (3 + 10 * a + 6) := t_M_s ha (by decide) (by omega) (by omega)
  have sb : t_M X b 7 = X 72 (3 + 10 * b + 6) := t_M_s hb (by decide) (by omega) (by omega)
  have wa := hW.2.1 a ha.1 ha.2
  have wb := hW.2.1 b hb.1 hb.2
  have ma := m_sum_rV hW ha.1 ha.2
  have mb := m_sum_rV hW hb.1 hb.2
  have hli := m_li_r (t_body X) (t_lot X) a b
  have hli2 : 0 ≤ t_li X a b ∧ t_li X a b ≤ 1 := hli
  have ea : (if X 72 (3 + 10 * a + 6) = 1 then (1 : Int) else 0) = t_M X a 7 := by split <;> omega
  have eb : (if X 72 (3 + 10 * b + 6) = 1 then (1 : Int) else 0) = t_M X b 7 := by split <;> omega
  refine x_aload_n B dX8_isAhead_0 rfl ?_
  refine x_iload_n B dX8_isAhead_1 rfl ?_
  refine x_goP (x_rV B h8 (show x_cl[7]? = some _ from rfl) (c_X8_isOut hT h8 ⟨by omega, by omega⟩) (lw_V q1521 q1523 qs51 q122 q1524) hv_X8_isOut ⟨by decide, by decide⟩ ⟨by decide, by decide⟩ rfl rfl (by simp [x_cr, x_c1, x_c2]) dX8_isAhead_2) ?_
  rw [ea]
  refine x_aload_n B dX8_isAhead_5 rfl ?_
  refine x_iload_n B dX8_isAhead_6 rfl ?_
  refine x_goP (x_rV B h8 (show x_cl[7]? = some _ from rfl) (c_X8_isOut hT h8 ⟨by omega, by omega⟩) (lw_V q1521 q1523 qs51 q122 q1524) hv_X8_isOut ⟨by decide, by decide⟩ ⟨by decide, by decide⟩ rfl rfl (by simp [x_cr, x_c1, x_c2]) dX8_isAhead_7) ?_
  rw [eb]
  refine x_icmp_eq B (tgt := 19) dX8_isAhead_10 (by decide) ⟨by omega, by omega⟩ ⟨by omega, by omega⟩ (fun h_10 => ?_) (fun h_10 => ?_)
  · refine x_aload_n B dX8_isAhead_19 rfl ?_
    refine x_iload_n B dX8_isAhead_20 rfl ?_
    refine x_goP (x_rV B h8 (show x_cl[7]? = some _ from rfl) (c_X8_sumOf hK hW ha) (lw_V q1600 q1602 qs62 q122 q1603) hv_X8_sumOf ⟨by decide, by decide⟩ ⟨by decide, by decide⟩ rfl rfl (by simp [x_cr, x_c1, x_c2]) dX8_isAhead_21) ?_
    refine x_aload_n B dX8_isAhead_24 rfl ?_
    refine x_iload_n B dX8_isAhead_25 rfl ?_
    refine x_goP (x_rV B h8 (show x_cl[7]? = some _ from rfl) (c_X8_sumOf hK hW hb) (lw_V q1600 q1602 qs62 q122 q1603) hv_X8_sumOf ⟨by decide, by decide⟩ ⟨by decide, by decide⟩ rfl rfl (by simp [x_cr, x_c1, x_c2]) dX8_isAhead_26) ?_
    refine x_icmp_gt B (tgt := 54) dX8_isAhead_29 (by decide) ⟨by omega, by omega⟩ ⟨by omega, by omega⟩ (fun h_29 => ?_) (fun h_29 => ?_)
    · refine x_iconst B dX8_isAhead_54 ?_
      refine x_goto B (tgt := 59) dX8_isAhead_55 (by decide) ?_
      refine x_zret B (fun _ _ h => h) ⟨by omega, by omega⟩ ?_ dX8_isAhead_59
      unfold m_ahd m_ah
      first
      | exact ⟨by rw [if_pos h_10, if_neg (by omega), if_pos (by omega)], rfl⟩
      | exact ⟨by rw [if_pos h_10, if_pos (by omega), show t_li X a b = 1 by omega], rfl⟩
      | exact ⟨by rw [if_pos h_10, if_pos (by omega), show t_li X a b = 0 by omega], rfl⟩
      | exact ⟨by rw [if_pos h_10, if_neg (by omega), if_neg (by omega)], rfl⟩
    · refine x_aload_n B dX8_isAhead_32 rfl ?_
      refine x_iload_n B dX8_isAhead_33 rfl ?_
      refine x_goP (x_rV B h8 (show x_cl[7]? = some _ from rfl) (c_X8_sumOf hK hW ha) (lw_V q1600 q1602 qs62 q122 q1603) hv_X8_sumOf ⟨by decide, by decide⟩ ⟨by decide, by decide⟩ rfl rfl (by simp [x_cr, x_c1, x_c2]) dX8_isAhead_34) ?_
      refine x_aload_n B dX8_isAhead_37 rfl ?_
      refine x_iload_n B dX8_isAhead_38 rfl ?_
      refine x_goP (x_rV B h8 (show x_cl[7]? = some _ from rfl) (c_X8_sumOf hK hW hb) (lw_V q1600 q1602 qs62 q122 q1603) hv_X8_sumOf ⟨by decide, by decide⟩ ⟨by decide, by decide⟩ rfl rfl (by simp [x_cr, x_c1, x_c2]) dX8_isAhead_39) ?_
      refine x_icmp_ne B (tgt := 58) dX8_isAhead_42 (by decide) ⟨by omega, by omega⟩ ⟨by omega, by omega⟩ (fun h_42 => ?_) (fun h_42 => ?_)
      · refine x_iconst B dX8_isAhead_58 ?_
        refine x_zret B (fun _ _ h => h) ⟨by omega, by omega⟩ ?_ dX8_isAhead_59
        unfold m_ahd m_ah
        first
        | exact ⟨by rw [if_pos h_10, if_neg (by omega), if_pos (by omega)], rfl⟩
        | exact ⟨by rw [if_pos h_10, if_pos (by omega), show t_li X a b = 1 by omega], rfl⟩
        | exact ⟨by rw [if_pos h_10, if_pos (by omega), show t_li X a b = 0 by omega], rfl⟩
        | exact ⟨by rw [if_pos h_10, if_neg (by omega), if_neg (by omega)], rfl⟩
      · refine x_aload_n B dX8_isAhead_45 rfl ?_
        refine x_iload_n B dX8_isAhead_46 rfl ?_
        refine x_iload_n B dX8_isAhead_47 rfl ?_
        refine x_goP (x_rV B h8 (show x_cl[7]? = some _ from rfl) (c_X8_isLighter hK ha hb) (lw_V q1673 q1675 qs74 q122 q1676) hv_X8_isLighter ⟨by decide, by decide⟩ ⟨by decide, by decide⟩ rfl rfl (by simp [x_cr, x_c1, x_c2]) dX8_isAhead_48) ?_
        refine x_if_eq B (tgt := 58) dX8_isAhead_51 (by decide) ⟨by omega, by omega⟩ (fun h_51 => ?_) (fun h_51 => ?_)
        · refine x_iconst B dX8_isAhead_58 ?_
          refine x_zret B (fun _ _ h => h) ⟨by omega, by omega⟩ ?_ dX8_isAhead_59
          unfold m_ahd m_ah
          first
          | exact ⟨by rw [if_pos h_10, if_neg (by omega), if_pos (by omega)], rfl⟩
          | exact ⟨by rw [if_pos h_10, if_pos (by omega), show t_li X a b = 1 by omega], rfl⟩
          | exact ⟨by rw [if_pos h_10, if_pos (by omega), show t_li X a b = 0 by omega], rfl⟩
          | exact ⟨by rw [if_pos h_10, if_neg (by omega), if_neg (by omega)], rfl⟩
        · refine x_iconst B dX8_isAhead_54 ?_
          refine x_goto B (tgt := 59) dX8_isAhead_55 (by decide) ?_
          refine x_zret B (fun _ _ h => h) ⟨by omega, by omega⟩ ?_ dX8_isAhead_59
          unfold m_ahd m_ah
          first
          | exact ⟨by rw [if_pos h_10, if_neg (by omega), if_pos (by omega)], rfl⟩
          | exact ⟨by rw [if_pos h_10, if_pos (by omega), show t_li X a b = 1 by omega], rfl⟩
          | exact ⟨by rw [if_pos h_10, if_pos (by omega), show t_li X a b = 0 by omega], rfl⟩
          | exact ⟨by rw [if_pos h_10, if_neg (by omega), if_neg (by omega)], rfl⟩
  · refine x_aload_n B dX8_isAhead_13 rfl ?_
    refine x_iload_n B dX8_isAhead_14 rfl ?_
    refine x_goP (x_rV B h8 (show x_cl[7]? = some _ from rfl) (c_X8_isOut hT h8 ⟨by omega, by omega⟩) (lw_V q1521 q1523 qs51 q122 q1524) hv_X8_isOut ⟨by decide, by decide⟩ ⟨by decide, by decide⟩ rfl rfl (by simp [x_cr, x_c1, x_c2]) dX8_isAhead_15) ?_
    rw [eb]
    refine x_zret B (fun _ _ h => h) ⟨by omega, by omega⟩ ?_ dX8_isAhead_18
    exact ⟨congrArg (fun z => some (vi z)) (by unfold m_ahd m_ah; rw [if_neg h_10]), rfl⟩
theorem c_X8_aheadOf {l : Launch} {E : x_E} {κ : x_Ka} {X : x_X} {a : Int} (hK : t_K κ X) (hW : m_W (X 64 3) (t_M X)) (ha : 0 ≤ a ∧ a < X 64 3) : x_Pu l yX8_aheadOf cX8_aheadOf 4 (some .int) 4 E κ X [x_rf E 64, vi a] (vi (m_cnt (t_li X) (t_M X) a (X 64 3).toNat)) := by
  refine x_Met.of [(false, x_rf E 64), (false, vi a)] [some (x_rf E 64), some (vi a), none, none] 2 (by decide) rfl rfl ⟨x_cr E (64), rfl, trivial⟩ rfl rfl ?_
  intro p e s m args below meth c hargs hin B
  obtain ⟨hT, h8, hn⟩ := id hK
  have lp_4 : ∀ (n : Nat) (k : Int), (0 ≤ k ∧ k ≤ X 64 3) → ((7 - k).toNat < n) → x_G p l e (x_rm 4 0 0) s m args below meth c 4 E 0 0 (MQ below (x_Q E κ (fun v_ X_ => v_ = some (vi (m_cnt (t_li X) (t_M X) a (X 64 3).toNat)) ∧ X_ = X)) args s 0 0 (fun q => E.1 ≤ q)) κ 4 [some (x_rf E 64), some (vi a), some (vi (m_cnt (t_li X) (t_M X) a k.toNat)), some (vi k)] [] X := by
    intro n
    induction n with
    | zero => intro k hi hme; exfalso; omega
    | succ n ih =>
      intro k hi hme
      have hcs := m_cnt_s (t_li X) (t_M X) a hi.1
      have hcr := m_cnt_r (t_li X) (t_M X) a k.toNat
      refine x_iload_n B dX8_aheadOf_4 rfl ?_
      refine x_aload_n B dX8_aheadOf_5 rfl ?_
      refine x_getI B (k := 3) 3 rfl rfl xc_7 (by decide) h8 (Or.inl q1338) (fun _ h => h) dX8_aheadOf_6 (fun r_6 => ?_)
      refine x_icmp_ge B (tgt := 43) dX8_aheadOf_9 (by decide) ⟨by omega, by omega⟩ ⟨by omega, by omega⟩ (fun h_9 => ?_) (fun h_9 => ?_)
      · obtain rfl : k = X 64 3 := by omega
        refine x_iload_n B dX8_aheadOf_43 rfl ?_
        refine x_iret B (fun _ _ h => h) ?_ dX8_aheadOf_44
        exact ⟨rfl, rfl⟩
      · refine x_iload_n B dX8_aheadOf_12 rfl ?_
        refine x_iload_n B dX8_aheadOf_13 rfl ?_
        refine x_iload_n B dX8_aheadOf_14 rfl ?_
        refine x_icmp_eq B (tgt := 31) dX8_aheadOf_15 (by decide) ⟨by omega, by omega⟩ ⟨by omega, by omega⟩ (fun h_15 => ?_) (fun h_15 => ?_)
        · refine x_iconst B dX8_aheadOf_31 ?_
          refine x_goP (x_rS B (c_X8_flag ⟨by omega, by omega⟩) (lw_S q1597 q1598 q122 q1599) hd_X8_flag ⟨by decide, by decide⟩ ⟨by decide, by decide⟩ rfl rfl (by simp [x_cr, x_c1, x_c2]) dX8_aheadOf_32) ?_
          refine x_iadd B dX8_aheadOf_35 ?_
          refine x_ist_2 B dX8_aheadOf_36 (by first | rfl | exact x_cr _ _) ?_
          refine x_iinc_3 B dX8_aheadOf_37 (by first | rfl | exact x_cr _ _) ?_
          refine x_goto B (tgt := 4) dX8_aheadOf_40 (by decide) ?_
          first
          | rw [show m_cnt (t_li X) (t_M X) a k.toNat + 1 = m_cnt (t_li X) (t_M X) a (k + 1).toNat by rw [hcs, if_pos ⟨by omega, by assumption⟩]]
          | rw [show m_cnt (t_li X) (t_M X) a k.toNat + 0 = m_cnt (t_li X) (t_M X) a (k + 1).toNat by rw [hcs, if_neg (fun q => by first | exact q.1 (by assumption) | exact q.2 (by assumption))]]
          exact ih _ ⟨by omega, by omega⟩ (by omega)
        · refine x_aload_n B dX8_aheadOf_18 rfl ?_
          refine x_iload_n B dX8_aheadOf_19 rfl ?_
          refine x_iload_n B dX8_aheadOf_20 rfl ?_
          refine x_goP (x_rV B h8 (show x_cl[7]? = some _ from rfl) (c_X8_isAhead hK hW.V ⟨by omega, by omega⟩ ha) (lw_V q1669 q1671 qs73 q122 q1672) hv_X8_isAhead ⟨by decide, by decide⟩ ⟨by decide, by decide⟩ rfl rfl (by simp [x_cr, x_c1, x_c2]) dX8_aheadOf_21) ?_
          have z1 : 0 ≤ m_ahd (t_li X) (t_M X) k a ∧ m_ahd (t_li X) (t_M X) k a ≤ 1 := by unfold m_ahd; exact m_ah_r (m_li_r _ _ _ _) ((hW.2.1 a ha.1 ha.2).2.2.2.2.2.1)
          refine x_if_eq B (tgt := 31) dX8_aheadOf_24 (by decide) ⟨by omega, by omega⟩ (fun h_24 => ?_) (fun h_24 => ?_)
          · refine x_iconst B dX8_aheadOf_31 ?_
            refine x_goP (x_rS B (c_X8_flag ⟨by omega, by omega⟩) (lw_S q1597 q1598 q122 q1599) hd_X8_flag ⟨by decide, by decide⟩ ⟨by decide, by decide⟩ rfl rfl (by simp [x_cr, x_c1, x_c2]) dX8_aheadOf_32) ?_
            refine x_iadd B dX8_aheadOf_35 ?_
            refine x_ist_2 B dX8_aheadOf_36 (by first | rfl | exact x_cr _ _) ?_
            refine x_iinc_3 B dX8_aheadOf_37 (by first | rfl | exact x_cr _ _) ?_
            refine x_goto B (tgt := 4) dX8_aheadOf_40 (by decide) ?_
            first
            | rw [show m_cnt (t_li X) (t_M X) a k.toNat + 1 = m_cnt (t_li X) (t_M X) a (k + 1).toNat by rw [hcs, if_pos ⟨by omega, by assumption⟩]]
            | rw [show m_cnt (t_li X) (t_M X) a k.toNat + 0 = m_cnt (t_li X) (t_M X) a (k + 1).toNat by rw [hcs, if_neg (fun q => by first | exact q.1 (by assumption) | exact q.2 (by assumption))]]
            exact ih _ ⟨by omega, by omega⟩ (by omega)
          · refine x_iconst B dX8_aheadOf_27 ?_
            refine x_goto B (tgt := 32) dX8_aheadOf_28 (by decide) ?_
            refine x_goP (x_rS B (c_X8_flag ⟨by omega, by omega⟩) (lw_S q1597 q1598 q122 q1599) hd_X8_flag ⟨by decide, by decide⟩ ⟨by decide, by decide⟩ rfl rfl (by simp [x_cr, x_c1, x_c2]) dX8_aheadOf_32) ?_
            refine x_iadd B dX8_aheadOf_35 ?_
            refine x_ist_2 B dX8_aheadOf_36 (by first | rfl | exact x_cr _ _) ?_
            refine x_iinc_3 B dX8_aheadOf_37 (by first | rfl | exact x_cr _ _) ?_
            refine x_goto B (tgt := 4) dX8_aheadOf_40 (by decide) ?_
            first
            | rw [show m_cnt (t_li X) (t_M X) a k.toNat + 1 = m_cnt (t_li X) (t_M X) a (k + 1).toNat by rw [hcs, if_pos ⟨by omega, by assumption⟩]]
            | rw [show m_cnt (t_li X) (t_M X) a k.toNat + 0 = m_cnt (t_li X) (t_M X) a (k + 1).toNat by rw [hcs, if_neg (fun q => by first | exact q.1 (by assumption) | exact q.2 (by assumption))]]
            exact ih _ ⟨by omega, by omega⟩ (by omega)
  refine x_iconst B dX8_aheadOf_0 ?_
  refine x_ist_2 B dX8_aheadOf_1 (by first | rfl | exact x_cr _ _) ?_
  refine x_iconst B dX8_aheadOf_2 ?_
  refine x_ist_3 B dX8_aheadOf_3 (by first | rfl | exact x_cr _ _) ?_
  refine lp_4 _ _ ?_ (Nat.lt_succ_self _)
  exact ⟨by omega, by omega⟩
theorem c_X8_calledAhead {l : Launch} {E : x_E} {κ : x_Ka} {X : x_X} {a : Int} (hK : t_K κ X) (hW : m_W (X 64 3) (t_M X)) (ha : 0 ≤ a ∧ a < X 64 3) : x_Pu l yX8_calledAhead cX8_calledAhead 4 (some .int) 3 E κ X [x_rf E 64, vi a] (vi (m_sc (t_lot X) (t_M X) a (t_M X a 3) (X 64 3).toNat)) := by
  refine x_Met.of [(false, x_rf E 64), (false, vi a)] [some (x_rf E 64), some (vi a), none, none] 2 (by decide) rfl rfl ⟨x_cr E (64), rfl, trivial⟩ rfl rfl ?_
  intro p e s m args below meth c hargs hin B
  obtain ⟨hT, h8, hn⟩ := id hK
  have lp_4 : ∀ (n : Nat) (k : Int), (0 ≤ k ∧ k ≤ X 64 3) → ((7 - k).toNat < n) → x_G p l e (x_rm 3 0 0) s m args below meth c 4 E 0 0 (MQ below (x_Q E κ (fun v_ X_ => v_ = some (vi (m_sc (t_lot X) (t_M X) a (t_M X a 3) (X 64 3).toNat)) ∧ X_ = X)) args s 0 0 (fun q => E.1 ≤ q)) κ 4 [some (x_rf E 64), some (vi a), some (vi (m_sc (t_lot X) (t_M X) a (t_M X a 3) k.toNat)), some (vi k)] [] X := by
    intro n
    induction n with
    | zero => intro k hi hme; exfalso; omega
    | succ n ih =>
      intro k hi hme
      have hss := m_sc_s (t_lot X) (t_M X) a (t_M X a 3) hi.1
      have hsr := m_sc_r (t_lot X) (t_M X) a (t_M X a 3) k.toNat
      refine x_iload_n B dX8_calledAhead_4 rfl ?_
      refine x_aload_n B dX8_calledAhead_5 rfl ?_
      refine x_getI B (k := 3) 3 rfl rfl xc_7 (by decide) h8 (Or.inl q1338) (fun _ h => h) dX8_calledAhead_6 (fun r_6 => ?_)
      refine x_icmp_ge B (tgt := 51) dX8_calledAhead_9 (by decide) ⟨by omega, by omega⟩ ⟨by omega, by omega⟩ (fun h_9 => ?_) (fun h_9 => ?_)
      · obtain rfl : k = X 64 3 := by omega
        refine x_iload_n B dX8_calledAhead_51 rfl ?_
        refine x_iret B (fun _ _ h => h) ?_ dX8_calledAhead_52
        exact ⟨rfl, rfl⟩
      · refine x_iload_n B dX8_calledAhead_12 rfl ?_
        refine x_iload_n B dX8_calledAhead_13 rfl ?_
        refine x_iload_n B dX8_calledAhead_14 rfl ?_
        refine x_icmp_eq B (tgt := 39) dX8_calledAhead_15 (by decide) ⟨by omega, by omega⟩ ⟨by omega, by omega⟩ (fun h_15 => ?_) (fun h_15 => ?_)
        · have hno : ¬ (k ≠ a ∧ (t_M X k 3 > 0 ∧ t_M X k 6 = 0) ∧ (t_M X k 3 < t_M X a 3 ∨ (t_M X k 3 = t_M X a 3 ∧ t_lot X k < t_lot X a))) := by
            intro q
            first
            | exact q.1 h_15
            | (rw [if_pos q.2.1] at h_23; omega)
            | (rw [if_pos q.2.2] at h_32; omega)
          refine x_iconst B dX8_calledAhead_39 ?_
          refine x_goP (x_rS B (c_X8_flag ⟨by omega, by omega⟩) (lw_S q1597 q1598 q122 q1599) hd_X8_flag ⟨by decide, by decide⟩ ⟨by decide, by decide⟩ rfl rfl (by simp [x_cr, x_c1, x_c2]) dX8_calledAhead_40) ?_
          refine x_iadd B dX8_calledAhead_43 ?_
          refine x_ist_2 B dX8_calledAhead_44 (by first | rfl | exact x_cr _ _) ?_
          refine x_iinc_3 B dX8_calledAhead_45 (by first | rfl | exact x_cr _ _) ?_
          refine x_goto B (tgt := 4) dX8_calledAhead_48 (by decide) ?_
          first
          | rw [show m_sc (t_lot X) (t_M X) a (t_M X a 3) k.toNat + 1 = m_sc (t_lot X) (t_M X) a (t_M X a 3) (k + 1).toNat by rw [hss, if_pos ⟨by omega, hst, hca⟩]]; exact ih _ ⟨by omega, by omega⟩ (by omega)
          | rw [show m_sc (t_lot X) (t_M X) a (t_M X a 3) k.toNat + 0 = m_sc (t_lot X) (t_M X) a (t_M X a 3) (k + 1).toNat by rw [hss, if_neg (fun q => hno q)]]; exact ih _ ⟨by omega, by omega⟩ (by omega)
        · refine x_aload_n B dX8_calledAhead_18 rfl ?_
          refine x_iload_n B dX8_calledAhead_19 rfl ?_
          refine x_goP (x_rV B h8 (show x_cl[7]? = some _ from rfl) (c_X8_isStill hK hW ⟨by omega, by omega⟩) (lw_V q1593 q1595 qs61 q122 q1596) hv_X8_isStill ⟨by decide, by decide⟩ ⟨by decide, by decide⟩ rfl rfl (by simp [x_cr, x_c1, x_c2]) dX8_calledAhead_20) ?_
          refine x_if_eq B (tgt := 39) dX8_calledAhead_23 (by decide) ⟨by split <;> omega, by split <;> omega⟩ (fun h_23 => ?_) (fun h_23 => ?_)
          · have hno : ¬ (k ≠ a ∧ (t_M X k 3 > 0 ∧ t_M X k 6 = 0) ∧ (t_M X k 3 < t_M X a 3 ∨ (t_M X k 3 = t_M X a 3 ∧ t_lot X k < t_lot X a))) := by
              intro q
              first
              | exact q.1 h_15
              | (rw [if_pos q.2.1] at h_23; omega)
              | (rw [if_pos q.2.2] at h_32; omega)
            refine x_iconst B dX8_calledAhead_39 ?_
            refine x_goP (x_rS B (c_X8_flag ⟨by omega, by omega⟩) (lw_S q1597 q1598 q122 q1599) hd_X8_flag ⟨by decide, by decide⟩ ⟨by decide, by decide⟩ rfl rfl (by simp [x_cr, x_c1, x_c2]) dX8_calledAhead_40) ?_
            refine x_iadd B dX8_calledAhead_43 ?_
            refine x_ist_2 B dX8_calledAhead_44 (by first | rfl | exact x_cr _ _) ?_
            refine x_iinc_3 B dX8_calledAhead_45 (by first | rfl | exact x_cr _ _) ?_
            refine x_goto B (tgt := 4) dX8_calledAhead_48 (by decide) ?_
            first
            | rw [show m_sc (t_lot X) (t_M X) a (t_M X a 3) k.toNat + 1 = m_sc (t_lot X) (t_M X) a (t_M X a 3) (k + 1).toNat by rw [hss, if_pos ⟨by omega, hst, hca⟩]]; exact ih _ ⟨by omega, by omega⟩ (by omega)
            | rw [show m_sc (t_lot X) (t_M X) a (t_M X a 3) k.toNat + 0 = m_sc (t_lot X) (t_M X) a (t_M X a 3) (k + 1).toNat by rw [hss, if_neg (fun q => hno q)]]; exact ih _ ⟨by omega, by omega⟩ (by omega)
          · have hst : t_M X k 3 > 0 ∧ t_M X k 6 = 0 := by by_cases q : t_M X k 3 > 0 ∧ t_M X k 6 = 0; exact q; rw [if_neg q] at h_23; omega
            refine x_aload_n B dX8_calledAhead_26 rfl ?_
            refine x_iload_n B dX8_calledAhead_27 rfl ?_
            refine x_iload_n B dX8_calledAhead_28 rfl ?_
            refine x_goP (x_rV B h8 (show x_cl[7]? = some _ from rfl) (c_X8_isCalledAhead hK hW ⟨by omega, by omega⟩ ha) (lw_V q1612 q1614 qs64 q122 q1615) hv_X8_isCalledAhead ⟨by decide, by decide⟩ ⟨by decide, by decide⟩ rfl rfl (by simp [x_cr, x_c1, x_c2]) dX8_calledAhead_29) ?_
            refine x_if_eq B (tgt := 39) dX8_calledAhead_32 (by decide) ⟨by split <;> omega, by split <;> omega⟩ (fun h_32 => ?_) (fun h_32 => ?_)
            · have hno : ¬ (k ≠ a ∧ (t_M X k 3 > 0 ∧ t_M X k 6 = 0) ∧ (t_M X k 3 < t_M X a 3 ∨ (t_M X k 3 = t_M X a 3 ∧ t_lot X k < t_lot X a))) := by
                intro q
                first
                | exact q.1 h_15
                | (rw [if_pos q.2.1] at h_23; omega)
                | (rw [if_pos q.2.2] at h_32; omega)
              refine x_iconst B dX8_calledAhead_39 ?_
              refine x_goP (x_rS B (c_X8_flag ⟨by omega, by omega⟩) (lw_S q1597 q1598 q122 q1599) hd_X8_flag ⟨by decide, by decide⟩ ⟨by decide, by decide⟩ rfl rfl (by simp [x_cr, x_c1, x_c2]) dX8_calledAhead_40) ?_
              refine x_iadd B dX8_calledAhead_43 ?_
              refine x_ist_2 B dX8_calledAhead_44 (by first | rfl | exact x_cr _ _) ?_
              refine x_iinc_3 B dX8_calledAhead_45 (by first | rfl | exact x_cr _ _) ?_
              refine x_goto B (tgt := 4) dX8_calledAhead_48 (by decide) ?_
              first
              | rw [show m_sc (t_lot X) (t_M X) a (t_M X a 3) k.toNat + 1 = m_sc (t_lot X) (t_M X) a (t_M X a 3) (k + 1).toNat by rw [hss, if_pos ⟨by omega, hst, hca⟩]]; exact ih _ ⟨by omega, by omega⟩ (by omega)
              | rw [show m_sc (t_lot X) (t_M X) a (t_M X a 3) k.toNat + 0 = m_sc (t_lot X) (t_M X) a (t_M X a 3) (k + 1).toNat by rw [hss, if_neg (fun q => hno q)]]; exact ih _ ⟨by omega, by omega⟩ (by omega)
            · have hca : t_M X k 3 < t_M X a 3 ∨ (t_M X k 3 = t_M X a 3 ∧ t_lot X k < t_lot X a) := by by_cases q : t_M X k 3 < t_M X a 3 ∨ (t_M X k 3 = t_M X a 3 ∧ t_lot X k < t_lot X a); exact q; rw [if_neg q] at h_32; omega
              refine x_iconst B dX8_calledAhead_35 ?_
              refine x_goto B (tgt := 40) dX8_calledAhead_36 (by decide) ?_
              refine x_goP (x_rS B (c_X8_flag ⟨by omega, by omega⟩) (lw_S q1597 q1598 q122 q1599) hd_X8_flag ⟨by decide, by decide⟩ ⟨by decide, by decide⟩ rfl rfl (by simp [x_cr, x_c1, x_c2]) dX8_calledAhead_40) ?_
              refine x_iadd B dX8_calledAhead_43 ?_
              refine x_ist_2 B dX8_calledAhead_44 (by first | rfl | exact x_cr _ _) ?_
              refine x_iinc_3 B dX8_calledAhead_45 (by first | rfl | exact x_cr _ _) ?_
              refine x_goto B (tgt := 4) dX8_calledAhead_48 (by decide) ?_
              first
              | rw [show m_sc (t_lot X) (t_M X) a (t_M X a 3) k.toNat + 1 = m_sc (t_lot X) (t_M X) a (t_M X a 3) (k + 1).toNat by rw [hss, if_pos ⟨by omega, hst, hca⟩]]; exact ih _ ⟨by omega, by omega⟩ (by omega)
              | rw [show m_sc (t_lot X) (t_M X) a (t_M X a 3) k.toNat + 0 = m_sc (t_lot X) (t_M X) a (t_M X a 3) (k + 1).toNat by rw [hss, if_neg (fun q => hno q)]]; exact ih _ ⟨by omega, by omega⟩ (by omega)
  refine x_iconst B dX8_calledAhead_0 ?_
  refine x_ist_2 B dX8_calledAhead_1 (by first | rfl | exact x_cr _ _) ?_
  refine x_iconst B dX8_calledAhead_2 ?_
  refine x_ist_3 B dX8_calledAhead_3 (by first | rfl | exact x_cr _ _) ?_
  refine lp_4 _ _ ?_ (Nat.lt_succ_self _)
  exact ⟨by omega, by omega⟩
/-- rows alone are told -/
def t_nt (X Y : x_X) : Prop := (∀ a, a ≠ 64 → a ≠ 65 → Y a = X a) ∧ ∀ i, i ≠ 0 → i ≠ 1 → Y 64 i = X 64 i
theorem t_nt.rf (X : x_X) : t_nt X X := ⟨fun _ _ _ => rfl, fun _ _ _ => rfl⟩
theorem t_nt.trans {X Y Z : x_X} (h : t_nt X Y) (h2 : t_nt Y Z) : t_nt X Z := ⟨fun a a1 a2 => (h2.1 a a1 a2).trans (h.1 a a1 a2), fun i i1 i2 => (h2.2 i i1 i2).trans (h.2 i i1 i2)⟩
def t_tl (Z : x_X) (a : Int) : x_X := x_up (x_up Z 65 (Z 64 1) a) 64 1 (Z 64 1 + 1)
theorem t_nt.tl {X Y : x_X} (h : t_nt X Y) (z : Int) : t_nt X (t_tl Y z) := ⟨fun a a1 a2 => by unfold t_tl; rw [x_up_o _ a1, x_up_o _ a2]; exact h.1 a a1 a2, fun i i1 i2 => by unfold t_tl; rw [x_up_n _ (Or.inr i2), x_up_o _ (by omega)]; exact h.2 i i1 i2⟩
theorem t_nt.z {X Y : x_X} (h : t_nt X Y) {i : Int} (hi : i = 0 ∨ i = 1) (z : Int) : t_nt X (x_up Y 64 i z) := ⟨fun a a1 a2 => by rw [x_up_o _ a1]; exact h.1 a a1 a2, fun j j1 j2 => by rw [x_up_n _ (Or.inr (by omega))]; exact h.2 j j1 j2⟩
theorem t_tl1 (Z : x_X) (a : Int) {n : Int} (h : Z 64 1 = n) : t_tl Z a 64 1 = n + 1 ∧ t_tl Z a 65 n = a ∧ ∀ k, k ≠ n → t_tl Z a 65 k = Z 65 k := by
  unfold t_tl
  rw [h]
  exact ⟨x_up_s _ _ _ _, by rw [x_up_o _ (by omega), x_up_s], fun k hk => by rw [x_up_o _ (by omega), x_up_n _ (Or.inr hk)]⟩
theorem t_nt.v {X Y : x_X} (h : t_nt X Y) : Y 64 3 = X 64 3 ∧ t_M Y = t_M X ∧ t_lot Y = t_lot X ∧ t_li Y = t_li X ∧ t_p3 Y = t_p3 X ∧ t_O Y = t_O X ∧ t_G Y = t_G X := by
  have e3 : Y 64 3 = X 64 3 := h.2 3 (by omega) (by omega)
  have el := t_lot_e e3 (h.1 67 (by omega) (by omega))
  refine ⟨e3, t_M_e e3 (h.1 72 (by omega) (by omega)), el, ?_, t_p3_e e3 (h.1 71 (by omega) (by omega)), t_O_e e3 (h.2 10 (by omega) (by omega)) (h.1 68 (by omega) (by omega)) (h.1 69 (by omega) (by omega)) (h.1 70 (by omega) (by omega)), ?_⟩
  · unfold t_li; rw [el, t_body_e e3 (h.1 66 (by omega) (by omega))]
  · funext k w; unfold t_G; rw [h.2 13 (by omega) (by omega), h.1 74 (by omega) (by omega)]
theorem t_nt.C {κ : x_Ka} {X Y : x_X} (h : t_nt X Y) (hC : t_C κ X) : t_C κ Y := by
  obtain ⟨hK, hP, hO, hW, hL⟩ := hC
  obtain ⟨e3, eM, -, -, ep, -, -⟩ := h.v
  refine ⟨?_, ?_, ?_, ?_, ?_⟩
  · unfold t_K at *; rw [e3]; exact hK
  · unfold t_P at *; rw [e3, ep]; exact hP
  · unfold t_Ow at *; rw [e3, h.2 10 (by omega) (by omega), h.1 68 (by omega) (by omega), h.1 69 (by omega) (by omega), h.1 70 (by omega) (by omega)]; exact hO
  · rw [e3, eM]; exact hW
  · unfold t_La at *; rw [e3, h.1 72 (by omega) (by omega)]; exact hL
theorem w_step {P : Int → Bool} {s : Int × (Int → Int)} {Z : x_X} {l0 : Int} (hl0 : 0 ≤ l0) (h1 : Z 64 1 = (w_in P l0.toNat s).1) (hr : ∀ j, 0 ≤ j → j < (w_in P l0.toNat s).1 → Z 65 j = (w_in P l0.toNat s).2 j) : (P l0 = true → (t_tl Z l0 64 1 = (w_in P (l0 + 1).toNat s).1 ∧ ∀ j, 0 ≤ j → j < (w_in P (l0 + 1).toNat s).1 → t_tl Z l0 65 j = (w_in P (l0 + 1).toNat s).2 j)) ∧ (¬ P l0 = true → (Z 64 1 = (w_in P (l0 + 1).toNat s).1 ∧ ∀ j, 0 ≤ j → j < (w_in P (l0 + 1).toNat s).1 → Z 65 j = (w_in P (l0 + 1).toNat s).2 j)) := by
  have hws := w_in_s P hl0 s
  have et := t_tl1 Z l0 h1
  constructor
  · intro hp
    rw [if_pos hp] at hws
    rw [hws]
    refine ⟨et.1, fun j j1 j2 => ?_⟩
    dsimp only at j2 ⊢
    by_cases e : j = (w_in P l0.toNat s).1
    · rw [if_pos e, e]; exact et.2.1
    · rw [if_neg e]; exact (et.2.2 j e).trans (hr j j1 (by omega))
  · intro hp
    rw [if_neg hp] at hws
    rw [hws]
    exact ⟨h1, hr⟩
theorem c_X8_entersPlaces {l : Launch} {E : x_E} {κ : x_Ka} {X : x_X}  (hC : t_C κ X) : x_Met l yX8_entersPlaces cX8_entersPlaces 3 none 5 0 0 E κ X [x_rf E 64] κ (fun v Y => v = none ∧ t_nt X Y ∧ (Y 64 1 = (w_out (fun k l => decide (m_cnt (t_li X) (t_M X) l (X 64 3).toNat = k)) (X 64 3).toNat (X 64 3).toNat).1 ∧ ∀ j, 0 ≤ j → j < (w_out (fun k l => decide (m_cnt (t_li X) (t_M X) l (X 64 3).toNat = k)) (X 64 3).toNat (X 64 3).toNat).1 → Y 65 j = (w_out (fun k l => decide (m_cnt (t_li X) (t_M X) l (X 64 3).toNat = k)) (X 64 3).toNat (X 64 3).toNat).2 j)) := by
  refine x_Met.of [(false, x_rf E 64)] [some (x_rf E 64), none, none] 2 (by decide) rfl rfl ⟨x_cr E (64), trivial⟩ rfl rfl ?_
  intro p e s m args below meth c hargs hin B
  obtain ⟨hK, hP, hO, hW, hLa⟩ := id hC
  obtain ⟨hT, h8, hn⟩ := id hK
  have lp_7 : ∀ (n : Nat) (k : Int) (Y : x_X), ((0 ≤ k ∧ k ≤ X 64 3) ∧ t_nt X Y ∧ (Y 64 1 = (w_out (fun k l => decide (m_cnt (t_li X) (t_M X) l (X 64 3).toNat = k)) (X 64 3).toNat k.toNat).1 ∧ ∀ j, 0 ≤ j → j < (w_out (fun k l => decide (m_cnt (t_li X) (t_M X) l (X 64 3).toNat = k)) (X 64 3).toNat k.toNat).1 → Y 65 j = (w_out (fun k l => decide (m_cnt (t_li X) (t_M X) l (X 64 3).toNat = k)) (X 64 3).toNat k.toNat).2 j)) → ((7 - k).toNat < n) → x_G p l e (x_rm 5 0 0) s m args below meth c 3 E 0 0 (MQ below (x_Q E κ (fun v Y => v = none ∧ t_nt X Y ∧ (Y 64 1 = (w_out (fun k l => decide (m_cnt (t_li X) (t_M X) l (X 64 3).toNat = k)) (X 64 3).toNat (X 64 3).toNat).1 ∧ ∀ j, 0 ≤ j → j < (w_out (fun k l => decide (m_cnt (t_li X) (t_M X) l (X 64 3).toNat = k)) (X 64 3).toNat (X 64 3).toNat).1 → Y 65 j = (w_out (fun k l => decide (m_cnt (t_li X) (t_M X) l (X 64 3).toNat = k)) (X 64 3).toNat (X 64 3).toNat).2 j))) args s 0 0 (fun q => E.1 ≤ q)) κ 7 [some (x_rf E 64), some (vi k), none] [] Y := by
    intro n
    induction n with
    | zero => intro k Y hinv hme; exfalso; omega
    | succ n ih =>
      intro k Y hinv hme
      have ih1 := ih
      obtain ⟨hk, hny, h1y, hry⟩ := hinv
      have y3 : Y 64 3 = X 64 3 := hny.2 3 (by omega) (by omega)
      have lp_17 : ∀ (n : Nat) (l0 : Int) (Z : x_X), (k < X 64 3 ∧ (0 ≤ l0 ∧ l0 ≤ X 64 3) ∧ t_nt X Z ∧ (Z 64 1 = (w_in ((fun k l => decide (m_cnt (t_li X) (t_M X) l (X 64 3).toNat = k)) k) l0.toNat (w_out (fun k l => decide (m_cnt (t_li X) (t_M X) l (X 64 3).toNat = k)) (X 64 3).toNat k.toNat)).1 ∧ ∀ j, 0 ≤ j → j < (w_in ((fun k l => decide (m_cnt (t_li X) (t_M X) l (X 64 3).toNat = k)) k) l0.toNat (w_out (fun k l => decide (m_cnt (t_li X) (t_M X) l (X 64 3).toNat = k)) (X 64 3).toNat k.toNat)).1 → Z 65 j = (w_in ((fun k l => decide (m_cnt (t_li X) (t_M X) l (X 64 3).toNat = k)) k) l0.toNat (w_out (fun k l => decide (m_cnt (t_li X) (t_M X) l (X 64 3).toNat = k)) (X 64 3).toNat k.toNat)).2 j)) → ((7 - l0).toNat < n) → x_G p l e (x_rm 5 0 0) s m args below meth c 3 E 0 0 (MQ below (x_Q E κ (fun v Y => v = none ∧ t_nt X Y ∧ (Y 64 1 = (w_out (fun k l => decide (m_cnt (t_li X) (t_M X) l (X 64 3).toNat = k)) (X 64 3).toNat (X 64 3).toNat).1 ∧ ∀ j, 0 ≤ j → j < (w_out (fun k l => decide (m_cnt (t_li X) (t_M X) l (X 64 3).toNat = k)) (X 64 3).toNat (X 64 3).toNat).1 → Y 65 j = (w_out (fun k l => decide (m_cnt (t_li X) (t_M X) l (X 64 3).toNat = k)) (X 64 3).toNat (X 64 3).toNat).2 j))) args s 0 0 (fun q => E.1 ≤ q)) κ 17 [some (x_rf E 64), some (vi k), some (vi l0)] [] Z := by
        intro n
        induction n with
        | zero => intro l0 Z hin2 hme; exfalso; omega
        | succ n ih =>
          intro l0 Z hin2 hme
          have ih2 := ih
          obtain ⟨hkn, hl0, hnz, h1z, hrz⟩ := hin2
          have hws := w_in_s ((fun k l => decide (m_cnt (t_li X) (t_M X) l (X 64 3).toNat = k)) k) hl0.1 (w_out (fun k l => decide (m_cnt (t_li X) (t_M X) l (X 64 3).toNat = k)) (X 64 3).toNat k.toNat)
          have hwr := w_in_r ((fun k l => decide (m_cnt (t_li X) (t_M X) l (X 64 3).toNat = k)) k) (w_out (fun k l => decide (m_cnt (t_li X) (t_M X) l (X 64 3).toNat = k)) (X 64 3).toNat k.toNat) l0.toNat
          have hwo := w_out_r (fun k l => decide (m_cnt (t_li X) (t_M X) l (X 64 3).toNat = k)) (X 64 3).toNat (by omega) k.toNat
          have hCZ := hnz.C hC
          obtain ⟨z3, zM, zl, zli, -, -, -⟩ := hnz.v
          obtain ⟨hKZ, hPZ, hOZ, hWZ, hLZ⟩ := id hCZ
          refine x_iload_n B dX8_entersPlaces_17 rfl ?_
          refine x_aload_n B dX8_entersPlaces_18 rfl ?_
          refine x_getI B (k := 3) 3 rfl rfl xc_7 (by decide) h8 (Or.inl q1338) (fun _ h => h) dX8_entersPlaces_19 (fun r_19 => ?_)
          rw [z3] at r_19 ⊢
          refine x_icmp_ge B (tgt := 46) dX8_entersPlaces_22 (by decide) ⟨by omega, by omega⟩ ⟨by omega, by omega⟩ (fun h_22 => ?_) (fun h_22 => ?_)
          · refine x_iinc_1 B dX8_entersPlaces_46 (by first | rfl | exact x_cr _ _) ?_
            refine x_goto B (tgt := 7) dX8_entersPlaces_49 (by decide) ?_
            refine x_fg_2 ?_
            obtain rfl : l0 = X 64 3 := by omega
            have hos := w_out_s (fun k l => decide (m_cnt (t_li X) (t_M X) l (X 64 3).toNat = k)) (X 64 3).toNat hk.1
            refine ih1 _ _ ⟨⟨by omega, by omega⟩, hnz, ?_, ?_⟩ (by omega)
            · rw [hos]; exact h1z
            · rw [hos]; exact hrz
          · refine x_aload_n B dX8_entersPlaces_25 rfl ?_
            refine x_iload_n B dX8_entersPlaces_26 rfl ?_
            refine x_goP (x_rV B h8 (show x_cl[7]? = some _ from rfl) (c_X8_aheadOf hKZ hWZ ⟨by omega, by omega⟩) (lw_V q1665 q1667 qs72 q122 q1668) hv_X8_aheadOf ⟨by decide, by decide⟩ ⟨by decide, by decide⟩ rfl rfl (by simp [x_cr, x_c1, x_c2]) dX8_entersPlaces_27) ?_
            rw [z3, zli, zM]
            have hctr := m_cnt_r (t_li X) (t_M X) l0 (X 64 3).toNat
            refine x_iload_n B dX8_entersPlaces_30 rfl ?_
            refine x_icmp_ne B (tgt := 40) dX8_entersPlaces_31 (by decide) ⟨by omega, by omega⟩ ⟨by omega, by omega⟩ (fun h_31 => ?_) (fun h_31 => ?_)
            · refine x_iinc_2 B dX8_entersPlaces_40 (by first | rfl | exact x_cr _ _) ?_
              refine x_goto B (tgt := 17) dX8_entersPlaces_43 (by decide) ?_
              have hlt : l0 + 1 ≤ X 64 3 := by omega
              have hme2 : (7 - (l0 + 1)).toNat < n := by omega
              have h00 : 0 ≤ l0 + 1 := by omega
              first
              | exact ih2 _ _ ⟨hkn, ⟨h00, hlt⟩, hnz.tl l0, (w_step hl0.1 h1z hrz).1 (decide_eq_true h_31)⟩ hme2
              | exact ih2 _ _ ⟨hkn, ⟨h00, hlt⟩, hnz, (w_step hl0.1 h1z hrz).2 (fun q => h_31 (of_decide_eq_true q))⟩ hme2
            · refine x_aload_n B dX8_entersPlaces_34 rfl ?_
              refine x_iload_n B dX8_entersPlaces_35 rfl ?_
              refine x_i2l B dX8_entersPlaces_36 ⟨by omega, by omega⟩ ?_
              refine x_goV (x_rV B h8 (show x_cl[7]? = some _ from rfl) (c_X8_notes hT h8 ⟨by omega, by omega⟩ ⟨by omega, by omega⟩) (lw_V q1616 q1618 qs65 q122 q1619) hv_X8_notes ⟨by decide, by decide⟩ ⟨by decide, by decide⟩ rfl rfl (by simp [x_cr, x_c1, x_c2]) dX8_entersPlaces_37) ?_
              change x_G _ _ _ _ _ _ _ _ _ _ _ _ _ _ _ _ _ _ _ (t_tl Z l0)
              refine x_iinc_2 B dX8_entersPlaces_40 (by first | rfl | exact x_cr _ _) ?_
              refine x_goto B (tgt := 17) dX8_entersPlaces_43 (by decide) ?_
              have hlt : l0 + 1 ≤ X 64 3 := by omega
              have hme2 : (7 - (l0 + 1)).toNat < n := by omega
              have h00 : 0 ≤ l0 + 1 := by omega
              first
              | exact ih2 _ _ ⟨hkn, ⟨h00, hlt⟩, hnz.tl l0, (w_step hl0.1 h1z hrz).1 (decide_eq_true h_31)⟩ hme2
              | exact ih2 _ _ ⟨hkn, ⟨h00, hlt⟩, hnz, (w_step hl0.1 h1z hrz).2 (fun q => h_31 (of_decide_eq_true q))⟩ hme2
      refine x_iload_n B dX8_entersPlaces_7 rfl ?_
      refine x_aload_n B dX8_entersPlaces_8 rfl ?_
      refine x_getI B (k := 3) 3 rfl rfl xc_7 (by decide) h8 (Or.inl q1338) (fun _ h => h) dX8_entersPlaces_9 (fun r_9 => ?_)
      rw [y3] at r_9 ⊢
      refine x_icmp_ge B (tgt := 52) dX8_entersPlaces_12 (by decide) ⟨by omega, by omega⟩ ⟨by omega, by omega⟩ (fun h_12 => ?_) (fun h_12 => ?_)
      · obtain rfl : k = X 64 3 := by omega
        refine x_vret B (fun _ _ h => h) ?_ dX8_entersPlaces_52
        exact ⟨rfl, hny, h1y, hry⟩
      · refine x_iconst B dX8_entersPlaces_15 ?_
        refine x_ist_2 B dX8_entersPlaces_16 (by first | rfl | exact x_cr _ _) ?_
        exact lp_17 _ 0 _ ⟨by omega, ⟨by omega, by omega⟩, hny, h1y, hry⟩ (Nat.lt_succ_self _)
  refine x_aload_n B dX8_entersPlaces_0 rfl ?_
  refine x_iconst B dX8_entersPlaces_1 ?_
  refine x_putI B (k := 1) 1 rfl rfl rfl ⟨by omega, by omega⟩ xc_7 (by decide) rfl nn_7_1 (fun _ => rfl) h8 (Or.inl q1336) (fun _ h => h) dX8_entersPlaces_2 ?_
  refine x_iconst B dX8_entersPlaces_5 ?_
  refine x_ist_1 B dX8_entersPlaces_6 (by first | rfl | exact x_cr _ _) ?_
  refine lp_7 _ 0 _ ⟨⟨by omega, by omega⟩, (t_nt.rf X).z (Or.inr rfl) 0, x_up_s _ _ _ _, fun j j1 j2 => absurd j2 (by show ¬ j < 0; omega)⟩ (Nat.lt_succ_self _)
theorem c_X8_order {l : Launch} {E : x_E} {κ : x_Ka} {X : x_X}  (hC : t_C κ X) : x_Met l yX8_order cX8_order 3 (some .int) 5 0 0 E κ X [x_rf E 64] κ (fun v Y => v = some (vi (w_out (fun k l => decide ((t_M X l 3 > 0 ∧ t_M X l 6 = 0) ∧ m_sc (t_lot X) (t_M X) l (t_M X l 3) (X 64 3).toNat = k)) (X 64 3).toNat (X 64 3).toNat).1) ∧ t_nt X Y ∧ Y 64 0 = 0 ∧ (Y 64 1 = (w_out (fun k l => decide ((t_M X l 3 > 0 ∧ t_M X l 6 = 0) ∧ m_sc (t_lot X) (t_M X) l (t_M X l 3) (X 64 3).toNat = k)) (X 64 3).toNat (X 64 3).toNat).1 ∧ ∀ j, 0 ≤ j → j < (w_out (fun k l => decide ((t_M X l 3 > 0 ∧ t_M X l 6 = 0) ∧ m_sc (t_lot X) (t_M X) l (t_M X l 3) (X 64 3).toNat = k)) (X 64 3).toNat (X 64 3).toNat).1 → Y 65 j = (w_out (fun k l => decide ((t_M X l 3 > 0 ∧ t_M X l 6 = 0) ∧ m_sc (t_lot X) (t_M X) l (t_M X l 3) (X 64 3).toNat = k)) (X 64 3).toNat (X 64 3).toNat).2 j)) := by
  refine x_Met.of [(false, x_rf E 64)] [some (x_rf E 64), none, none] 2 (by decide) rfl rfl ⟨x_cr E (64), trivial⟩ rfl rfl ?_
  intro p e s m args below meth c hargs hin B
  obtain ⟨hK, hP, hO, hW, hLa⟩ := id hC
  obtain ⟨hT, h8, hn⟩ := id hK
  have lp_12 : ∀ (n : Nat) (k : Int) (Y : x_X), ((0 ≤ k ∧ k ≤ X 64 3) ∧ t_nt X Y ∧ (Y 64 1 = (w_out (fun k l => decide ((t_M X l 3 > 0 ∧ t_M X l 6 = 0) ∧ m_sc (t_lot X) (t_M X) l (t_M X l 3) (X 64 3).toNat = k)) (X 64 3).toNat k.toNat).1 ∧ ∀ j, 0 ≤ j → j < (w_out (fun k l => decide ((t_M X l 3 > 0 ∧ t_M X l 6 = 0) ∧ m_sc (t_lot X) (t_M X) l (t_M X l 3) (X 64 3).toNat = k)) (X 64 3).toNat k.toNat).1 → Y 65 j = (w_out (fun k l => decide ((t_M X l 3 > 0 ∧ t_M X l 6 = 0) ∧ m_sc (t_lot X) (t_M X) l (t_M X l 3) (X 64 3).toNat = k)) (X 64 3).toNat k.toNat).2 j) ∧ Y 64 0 = 0) → ((7 - k).toNat < n) → x_G p l e (x_rm 5 0 0) s m args below meth c 3 E 0 0 (MQ below (x_Q E κ (fun v Y => v = some (vi (w_out (fun k l => decide ((t_M X l 3 > 0 ∧ t_M X l 6 = 0) ∧ m_sc (t_lot X) (t_M X) l (t_M X l 3) (X 64 3).toNat = k)) (X 64 3).toNat (X 64 3).toNat).1) ∧ t_nt X Y ∧ Y 64 0 = 0 ∧ (Y 64 1 = (w_out (fun k l => decide ((t_M X l 3 > 0 ∧ t_M X l 6 = 0) ∧ m_sc (t_lot X) (t_M X) l (t_M X l 3) (X 64 3).toNat = k)) (X 64 3).toNat (X 64 3).toNat).1 ∧ ∀ j, 0 ≤ j → j < (w_out (fun k l => decide ((t_M X l 3 > 0 ∧ t_M X l 6 = 0) ∧ m_sc (t_lot X) (t_M X) l (t_M X l 3) (X 64 3).toNat = k)) (X 64 3).toNat (X 64 3).toNat).1 → Y 65 j = (w_out (fun k l => decide ((t_M X l 3 > 0 ∧ t_M X l 6 = 0) ∧ m_sc (t_lot X) (t_M X) l (t_M X l 3) (X 64 3).toNat = k)) (X 64 3).toNat (X 64 3).toNat).2 j))) args s 0 0 (fun q => E.1 ≤ q)) κ 12 [some (x_rf E 64), some (vi k), none] [] Y := by
    intro n
    induction n with
    | zero => intro k Y hinv hme; exfalso; omega
    | succ n ih =>
      intro k Y hinv hme
      have ih1 := ih
      obtain ⟨hk, hny, ⟨h1y, hry⟩, y0⟩ := hinv
      have y3 : Y 64 3 = X 64 3 := hny.2 3 (by omega) (by omega)
      have lp_22 : ∀ (n : Nat) (l0 : Int) (Z : x_X), (k < X 64 3 ∧ (0 ≤ l0 ∧ l0 ≤ X 64 3) ∧ t_nt X Z ∧ (Z 64 1 = (w_in ((fun k l => decide ((t_M X l 3 > 0 ∧ t_M X l 6 = 0) ∧ m_sc (t_lot X) (t_M X) l (t_M X l 3) (X 64 3).toNat = k)) k) l0.toNat (w_out (fun k l => decide ((t_M X l 3 > 0 ∧ t_M X l 6 = 0) ∧ m_sc (t_lot X) (t_M X) l (t_M X l 3) (X 64 3).toNat = k)) (X 64 3).toNat k.toNat)).1 ∧ ∀ j, 0 ≤ j → j < (w_in ((fun k l => decide ((t_M X l 3 > 0 ∧ t_M X l 6 = 0) ∧ m_sc (t_lot X) (t_M X) l (t_M X l 3) (X 64 3).toNat = k)) k) l0.toNat (w_out (fun k l => decide ((t_M X l 3 > 0 ∧ t_M X l 6 = 0) ∧ m_sc (t_lot X) (t_M X) l (t_M X l 3) (X 64 3).toNat = k)) (X 64 3).toNat k.toNat)).1 → Z 65 j = (w_in ((fun k l => decide ((t_M X l 3 > 0 ∧ t_M X l 6 = 0) ∧ m_sc (t_lot X) (t_M X) l (t_M X l 3) (X 64 3).toNat = k)) k) l0.toNat (w_out (fun k l => decide ((t_M X l 3 > 0 ∧ t_M X l 6 = 0) ∧ m_sc (t_lot X) (t_M X) l (t_M X l 3) (X 64 3).toNat = k)) (X 64 3).toNat k.toNat)).2 j) ∧ Z 64 0 = 0) → ((7 - l0).toNat < n) → x_G p l e (x_rm 5 0 0) s m args below meth c 3 E 0 0 (MQ below (x_Q E κ (fun v Y => v = some (vi (w_out (fun k l => decide ((t_M X l 3 > 0 ∧ t_M X l 6 = 0) ∧ m_sc (t_lot X) (t_M X) l (t_M X l 3) (X 64 3).toNat = k)) (X 64 3).toNat (X 64 3).toNat).1) ∧ t_nt X Y ∧ Y 64 0 = 0 ∧ (Y 64 1 = (w_out (fun k l => decide ((t_M X l 3 > 0 ∧ t_M X l 6 = 0) ∧ m_sc (t_lot X) (t_M X) l (t_M X l 3) (X 64 3).toNat = k)) (X 64 3).toNat (X 64 3).toNat).1 ∧ ∀ j, 0 ≤ j → j < (w_out (fun k l => decide ((t_M X l 3 > 0 ∧ t_M X l 6 = 0) ∧ m_sc (t_lot X) (t_M X) l (t_M X l 3) (X 64 3).toNat = k)) (X 64 3).toNat (X 64 3).toNat).1 → Y 65 j = (w_out (fun k l => decide ((t_M X l 3 > 0 ∧ t_M X l 6 = 0) ∧ m_sc (t_lot X) (t_M X) l (t_M X l 3) (X 64 3).toNat = k)) (X 64 3).toNat (X 64 3).toNat).2 j))) args s 0 0 (fun q => E.1 ≤ q)) κ 22 [some (x_rf E 64), some (vi k), some (vi l0)] [] Z := by
        intro n
        induction n with
        | zero => intro l0 Z hin2 hme; exfalso; omega
        | succ n ih =>
          intro l0 Z hin2 hme
          have ih2 := ih
          obtain ⟨hkn, hl0, hnz, ⟨h1z, hrz⟩, z00⟩ := hin2
          have hws := w_in_s ((fun k l => decide ((t_M X l 3 > 0 ∧ t_M X l 6 = 0) ∧ m_sc (t_lot X) (t_M X) l (t_M X l 3) (X 64 3).toNat = k)) k) hl0.1 (w_out (fun k l => decide ((t_M X l 3 > 0 ∧ t_M X l 6 = 0) ∧ m_sc (t_lot X) (t_M X) l (t_M X l 3) (X 64 3).toNat = k)) (X 64 3).toNat k.toNat)
          have hwr := w_in_r ((fun k l => decide ((t_M X l 3 > 0 ∧ t_M X l 6 = 0) ∧ m_sc (t_lot X) (t_M X) l (t_M X l 3) (X 64 3).toNat = k)) k) (w_out (fun k l => decide ((t_M X l 3 > 0 ∧ t_M X l 6 = 0) ∧ m_sc (t_lot X) (t_M X) l (t_M X l 3) (X 64 3).toNat = k)) (X 64 3).toNat k.toNat) l0.toNat
          have hwo := w_out_r (fun k l => decide ((t_M X l 3 > 0 ∧ t_M X l 6 = 0) ∧ m_sc (t_lot X) (t_M X) l (t_M X l 3) (X 64 3).toNat = k)) (X 64 3).toNat (by omega) k.toNat
          have hCZ := hnz.C hC
          obtain ⟨z3, zM, zl, zli, -, -, -⟩ := hnz.v
          obtain ⟨hKZ, hPZ, hOZ, hWZ, hLZ⟩ := id hCZ
          refine x_iload_n B dX8_order_22 rfl ?_
          refine x_aload_n B dX8_order_23 rfl ?_
          refine x_getI B (k := 3) 3 rfl rfl xc_7 (by decide) h8 (Or.inl q1338) (fun _ h => h) dX8_order_24 (fun r_24 => ?_)
          rw [z3] at r_24 ⊢
          refine x_icmp_ge B (tgt := 59) dX8_order_27 (by decide) ⟨by omega, by omega⟩ ⟨by omega, by omega⟩ (fun h_27 => ?_) (fun h_27 => ?_)
          · refine x_iinc_1 B dX8_order_59 (by first | rfl | exact x_cr _ _) ?_
            refine x_goto B (tgt := 12) dX8_order_62 (by decide) ?_
            refine x_fg_2 ?_
            obtain rfl : l0 = X 64 3 := by omega
            have hos := w_out_s (fun k l => decide ((t_M X l 3 > 0 ∧ t_M X l 6 = 0) ∧ m_sc (t_lot X) (t_M X) l (t_M X l 3) (X 64 3).toNat = k)) (X 64 3).toNat hk.1
            refine ih1 _ _ ⟨⟨by omega, by omega⟩, hnz, ⟨?_, ?_⟩, z00⟩ (by omega)
            · rw [hos]; exact h1z
            · rw [hos]; exact hrz
          · refine x_aload_n B dX8_order_30 rfl ?_
            refine x_iload_n B dX8_order_31 rfl ?_
            refine x_goP (x_rV B h8 (show x_cl[7]? = some _ from rfl) (c_X8_isStill hKZ hWZ ⟨by omega, by omega⟩) (lw_V q1593 q1595 qs61 q122 q1596) hv_X8_isStill ⟨by decide, by decide⟩ ⟨by decide, by decide⟩ rfl rfl (by simp [x_cr, x_c1, x_c2]) dX8_order_32) ?_
            rw [zM]
            refine x_if_eq B (tgt := 53) dX8_order_35 (by decide) ⟨by split <;> omega, by split <;> omega⟩ (fun h_35 => ?_) (fun h_35 => ?_)
            · try (have hno : ¬ ((t_M X l0 3 > 0 ∧ t_M X l0 6 = 0) ∧ m_sc (t_lot X) (t_M X) l0 (t_M X l0 3) (X 64 3).toNat = k) := (by intro q; first | exact h_44 q.2 | (rw [if_pos q.1] at h_35; omega)))
              refine x_iinc_2 B dX8_order_53 (by first | rfl | exact x_cr _ _) ?_
              refine x_goto B (tgt := 22) dX8_order_56 (by decide) ?_
              have zt0 : t_tl Z l0 64 0 = 0 := by unfold t_tl; rw [x_up_n _ (Or.inr (by omega)), x_up_o _ (by omega)]; exact z00
              have hlt : l0 + 1 ≤ X 64 3 := by omega
              have hme2 : (7 - (l0 + 1)).toNat < n := by omega
              have h00 : 0 ≤ l0 + 1 := by omega
              first
              | exact ih2 _ _ ⟨hkn, ⟨h00, hlt⟩, hnz.tl l0, (w_step hl0.1 h1z hrz).1 (decide_eq_true hcd), zt0⟩ hme2
              | exact ih2 _ _ ⟨hkn, ⟨h00, hlt⟩, hnz, (w_step hl0.1 h1z hrz).2 (fun q => hno (of_decide_eq_true q)), z00⟩ hme2
            · have hst : t_M X l0 3 > 0 ∧ t_M X l0 6 = 0 := by by_cases q : t_M X l0 3 > 0 ∧ t_M X l0 6 = 0; exact q; rw [if_neg q] at h_35; omega
              refine x_aload_n B dX8_order_38 rfl ?_
              refine x_iload_n B dX8_order_39 rfl ?_
              refine x_goP (x_rV B h8 (show x_cl[7]? = some _ from rfl) (c_X8_calledAhead hKZ hWZ ⟨by omega, by omega⟩) (lw_V q1624 q1626 qs66 q122 q1627) hv_X8_calledAhead ⟨by decide, by decide⟩ ⟨by decide, by decide⟩ rfl rfl (by simp [x_cr, x_c1, x_c2]) dX8_order_40) ?_
              rw [z3, zl, zM]
              have hctr := m_sc_r (t_lot X) (t_M X) l0 (t_M X l0 3) (X 64 3).toNat
              refine x_iload_n B dX8_order_43 rfl ?_
              refine x_icmp_ne B (tgt := 53) dX8_order_44 (by decide) ⟨by omega, by omega⟩ ⟨by omega, by omega⟩ (fun h_44 => ?_) (fun h_44 => ?_)
              · try (have hno : ¬ ((t_M X l0 3 > 0 ∧ t_M X l0 6 = 0) ∧ m_sc (t_lot X) (t_M X) l0 (t_M X l0 3) (X 64 3).toNat = k) := (by intro q; first | exact h_44 q.2 | (rw [if_pos q.1] at h_35; omega)))
                refine x_iinc_2 B dX8_order_53 (by first | rfl | exact x_cr _ _) ?_
                refine x_goto B (tgt := 22) dX8_order_56 (by decide) ?_
                have zt0 : t_tl Z l0 64 0 = 0 := by unfold t_tl; rw [x_up_n _ (Or.inr (by omega)), x_up_o _ (by omega)]; exact z00
                have hlt : l0 + 1 ≤ X 64 3 := by omega
                have hme2 : (7 - (l0 + 1)).toNat < n := by omega
                have h00 : 0 ≤ l0 + 1 := by omega
                first
                | exact ih2 _ _ ⟨hkn, ⟨h00, hlt⟩, hnz.tl l0, (w_step hl0.1 h1z hrz).1 (decide_eq_true hcd), zt0⟩ hme2
                | exact ih2 _ _ ⟨hkn, ⟨h00, hlt⟩, hnz, (w_step hl0.1 h1z hrz).2 (fun q => hno (of_decide_eq_true q)), z00⟩ hme2
              · have hcd : (t_M X l0 3 > 0 ∧ t_M X l0 6 = 0) ∧ m_sc (t_lot X) (t_M X) l0 (t_M X l0 3) (X 64 3).toNat = k := ⟨hst, h_44⟩
                refine x_aload_n B dX8_order_47 rfl ?_
                refine x_iload_n B dX8_order_48 rfl ?_
                refine x_i2l B dX8_order_49 ⟨by omega, by omega⟩ ?_
                refine x_goV (x_rV B h8 (show x_cl[7]? = some _ from rfl) (c_X8_notes hT h8 ⟨by omega, by omega⟩ ⟨by omega, by omega⟩) (lw_V q1616 q1618 qs65 q122 q1619) hv_X8_notes ⟨by decide, by decide⟩ ⟨by decide, by decide⟩ rfl rfl (by simp [x_cr, x_c1, x_c2]) dX8_order_50) ?_
                change x_G _ _ _ _ _ _ _ _ _ _ _ _ _ _ _ _ _ _ _ (t_tl Z l0)
                try (have hno : ¬ ((t_M X l0 3 > 0 ∧ t_M X l0 6 = 0) ∧ m_sc (t_lot X) (t_M X) l0 (t_M X l0 3) (X 64 3).toNat = k) := (by intro q; first | exact h_44 q.2 | (rw [if_pos q.1] at h_35; omega)))
                refine x_iinc_2 B dX8_order_53 (by first | rfl | exact x_cr _ _) ?_
                refine x_goto B (tgt := 22) dX8_order_56 (by decide) ?_
                have zt0 : t_tl Z l0 64 0 = 0 := by unfold t_tl; rw [x_up_n _ (Or.inr (by omega)), x_up_o _ (by omega)]; exact z00
                have hlt : l0 + 1 ≤ X 64 3 := by omega
                have hme2 : (7 - (l0 + 1)).toNat < n := by omega
                have h00 : 0 ≤ l0 + 1 := by omega
                first
                | exact ih2 _ _ ⟨hkn, ⟨h00, hlt⟩, hnz.tl l0, (w_step hl0.1 h1z hrz).1 (decide_eq_true hcd), zt0⟩ hme2
                | exact ih2 _ _ ⟨hkn, ⟨h00, hlt⟩, hnz, (w_step hl0.1 h1z hrz).2 (fun q => hno (of_decide_eq_true q)), z00⟩ hme2
      refine x_iload_n B dX8_order_12 rfl ?_
      refine x_aload_n B dX8_order_13 rfl ?_
      refine x_getI B (k := 3) 3 rfl rfl xc_7 (by decide) h8 (Or.inl q1338) (fun _ h => h) dX8_order_14 (fun r_14 => ?_)
      rw [y3] at r_14 ⊢
      refine x_icmp_ge B (tgt := 65) dX8_order_17 (by decide) ⟨by omega, by omega⟩ ⟨by omega, by omega⟩ (fun h_17 => ?_) (fun h_17 => ?_)
      · obtain rfl : k = X 64 3 := by omega
        refine x_aload_n B dX8_order_65 rfl ?_
        refine x_getI B (k := 1) 1 rfl rfl xc_7 (by decide) h8 (Or.inl q1336) (fun _ h => h) dX8_order_66 (fun r_66 => ?_)
        refine x_iret B (fun _ _ h => h) ?_ dX8_order_69
        exact ⟨by rw [h1y], hny, y0, h1y, hry⟩
      · refine x_iconst B dX8_order_20 ?_
        refine x_ist_2 B dX8_order_21 (by first | rfl | exact x_cr _ _) ?_
        exact lp_22 _ 0 _ ⟨by omega, ⟨by omega, by omega⟩, hny, ⟨h1y, hry⟩, y0⟩ (Nat.lt_succ_self _)
  refine x_aload_n B dX8_order_0 rfl ?_
  refine x_iconst B dX8_order_1 ?_
  refine x_putI B (k := 0) 0 rfl rfl rfl ⟨by omega, by omega⟩ xc_7 (by decide) rfl nn_7_0 (fun _ => rfl) h8 (Or.inl q1335) (fun _ h => h) dX8_order_2 ?_
  refine x_aload_n B dX8_order_5 rfl ?_
  refine x_iconst B dX8_order_6 ?_
  refine x_putI B (k := 1) 1 rfl rfl rfl ⟨by omega, by omega⟩ xc_7 (by decide) rfl nn_7_1 (fun _ => rfl) h8 (Or.inl q1336) (fun _ h => h) dX8_order_7 ?_
  refine x_iconst B dX8_order_10 ?_
  refine x_ist_1 B dX8_order_11 (by first | rfl | exact x_cr _ _) ?_
  refine lp_12 _ 0 _ ⟨⟨by omega, by omega⟩, ((t_nt.rf X).z (Or.inl rfl) 0).z (Or.inr rfl) 0, ⟨x_up_s _ _ _ _, fun j j1 j2 => absurd j2 (by show ¬ j < 0; omega)⟩, by rw [x_up_n _ (Or.inr (by omega)), x_up_s]⟩ (Nat.lt_succ_self _)
