/-- behind a lift -/
def p_e (O : Int → Int → Int → Int) (op mr ag A : Int → Int) (t sum best : Int) : Int := if best = 0 then A 0 else if t = 2 then A (sum + best) else p_w O op mr ag A 12 (t + 1) (sum + best) 0 0 0 (op (t + 1))
/-- from how l stands -/
def p_now (O : Int → Int → Int → Int) (op mr ag A : Int → Int) (M : x_X) (l load : Int) : Int := if M l 7 ≠ 0 then A 0 else if M (-1) 1 = 3 then A (m_sum M l) else if M l 3 = 0 then p_e O op mr ag A (M (-1) 1) (m_sum M l - M l (10 + M (-1) 1)) (M l (10 + M (-1) 1)) else p_w O op mr ag A 12 (M (-1) 1) (m_sum M l - M l (10 + M (-1) 1)) (M (-1) 2 + M l 6) (M l 2) (M l (10 + M (-1) 1)) load
theorem p_end {l : Launch} {E : x_E} {κ : x_Ka} {X : x_X} {A : Int → Int} (h : p_H κ X 37 A) {t sum best : Int} (h1 : 0 ≤ t ∧ t ≤ 2) (h2 : 0 ≤ sum ∧ sum ≤ 40 * t) (h3 : 0 ≤ best ∧ best ≤ 40) : x_Pu l yX4_ended cX4_ended 4 (some .long) 55 E κ X [x_rf E 37, vi t, vi best, vi sum] (vl (p_e (l_odds X (X 37 0)) (X (X 37 0 + 11)) (X (X 37 0 + 12)) (X (X 37 0 + 13)) A t sum best)) :=
  c_X4_ended_P (q := 53) h h1 h2 h3 (fun q1 q2 => by
    have := h.2.2.2.2.2.1 (t + 1) (by omega) (by omega)
    exact c_X5_begun (q := 52) h (by omega) (p_all h 12 _ _ _ _ _ _ (by omega) (by omega) (by omega) (by omega) (by omega) (by omega) (by omega)))
theorem m_rest {n : Int} {M : x_X} (h : m_W n M) {l : Int} (h1 : 0 ≤ l) (h2 : l < n) (h7 : M l 7 = 0) (h3 : M (-1) 1 ≠ 3) : (0 ≤ m_sum M l - M l (10 + M (-1) 1) ∧ m_sum M l - M l (10 + M (-1) 1) ≤ 40 * M (-1) 1) ∧ (0 ≤ M l (10 + M (-1) 1) ∧ M l (10 + M (-1) 1) ≤ 40) := by
  obtain ⟨⟨g1, g2, g3⟩, hr, hx⟩ := h
  have r := hr l h1 h2
  have x := hx l h1 h2
  have ht : M (-1) 1 = 0 ∨ M (-1) 1 = 1 ∨ M (-1) 1 = 2 := by omega
  unfold m_sum
  rw [if_pos h7]
  rcases ht with e | e | e <;> rw [e] at x ⊢ <;> simp only [Int.add_zero, Int.reduceAdd] <;> (constructor <;> omega)
theorem c_X4_looks_P {l : Launch} {E : x_E} {κ : x_Ka} {X : x_X} {L m : Int} (hk : κ 37 = some (.inl (4, 1))) : x_Vo l yX4_looks cX4_looks 3 0 E κ X [x_rf E 37, x_rf E L, x_rf E m] (x_up (x_up X 37 0 L) 37 1 m) := by
  refine x_Met.of [(false, x_rf E 37), (false, x_rf E L), (false, x_rf E m)] [some (x_rf E 37), some (x_rf E L), some (x_rf E m)] 0 (by decide) rfl rfl ⟨x_cr E (37), x_cr E (L), x_cr E (m), trivial⟩ rfl rfl ?_
  intro p e s m args below meth c hargs hin B
  refine x_aload_n B dX4_looks_0 rfl ?_
  refine x_aload_n B dX4_looks_1 rfl ?_
  refine x_putO B (k := 0) 0 rfl rfl rfl xc_4 (by decide) rfl nn_4_0 (fun _ => rfl) hk (Or.inl q276) (fun _ h => h) dX4_looks_2 ?_
  refine x_aload_n B dX4_looks_5 rfl ?_
  refine x_aload_n B dX4_looks_6 rfl ?_
  refine x_putO B (k := 1) 1 rfl rfl rfl xc_4 (by decide) rfl nn_4_1 (fun _ => rfl) hk (Or.inl q279) (fun _ h => h) dX4_looks_7 ?_
  refine x_vret B (fun _ _ h => h) ?_ dX4_looks_10
  exact ⟨rfl, rfl⟩
theorem c_X4_now_P {l : Launch} {E : x_E} {κ : x_Ka} {X : x_X} {A : Int → Int} {i load : Int} (h : p_H κ X 37 A) (hn : X 1 2 ≤ 6) (hi : 0 ≤ i ∧ i < X 1 2) (hW : m_W (X 1 2) (c_M X 3)) (hJ : c_J X 3) (hl : 0 ≤ load ∧ load ≤ 40) : x_Pu l yX4_now cX4_now 5 (some .long) 56 E κ X [x_rf E 37, x_rf E (3 + 1 + 1 + 2 * i), vi load] (vl (p_now (l_odds X (X 37 0)) (X (X 37 0 + 11)) (X (X 37 0 + 12)) (X (X 37 0 + 13)) A (c_M X 3) i load)) := by
  refine x_Met.of [(false, x_rf E 37), (false, x_rf E (3 + 1 + 1 + 2 * i)), (false, vi load)] [some (x_rf E 37), some (x_rf E (3 + 1 + 1 + 2 * i)), some (vi load), none, none] 2 (by decide) rfl rfl ⟨x_cr E (37), x_cr E (3 + 1 + 1 + 2 * i), rfl, trivial⟩ rfl rfl ?_
  intro p e s m args below meth c hargs hin B
  obtain ⟨hT, h0, hL, hw, hti, hpl, hA⟩ := id h
  have hk := h.k37
  have hm : κ 3 = some (.inl (2, 1)) := hT.1 0 0 h0 2 (0, 3, .inl (2, 1)) rfl
  have ks := x_std (l := i) hT hm (by omega) (by omega)
  have g1 : c_M X 3 (-1) 1 = X 3 1 := c_M_g (by omega)
  have g2 : c_M X 3 (-1) 2 = X 3 2 := c_M_g (by omega)
  have s7 : c_M X 3 i 7 = X (3 + 1 + 1 + 2 * i) 7 := c_M_s hi (by omega)
  have s3 : c_M X 3 i 3 = X (3 + 1 + 1 + 2 * i) 3 := c_M_s hi (by omega)
  have s2 : c_M X 3 i 2 = X (3 + 1 + 1 + 2 * i) 2 := c_M_s hi (by omega)
  have s6 : c_M X 3 i 6 = X (3 + 1 + 1 + 2 * i) 6 := c_M_s hi (by omega)
  have es := c_sum (X := X) (mo := 3) hi
  have hsr := m_sum_r hW hi.1 hi.2
  obtain ⟨⟨hW1, hWr, -⟩, hW2, hW3⟩ := id hW
  have w2 := hW2 i hi.1 hi.2
  have w3 := hW3 i hi.1 hi.2
  have hj := hJ i hi.1 hi.2
  refine x_aload_n B dX4_now_0 rfl ?_
  refine x_getZ B (k := 7) 7 rfl rfl xc_3 (by decide) ks (Or.inr q221) (fun _ h => h) dX4_now_1 (fun r_1 => ?_)
  refine x_if_eq B (tgt := 18) dX4_now_4 (by decide) ⟨by omega, by omega⟩ (fun h_4 => ?_) (fun h_4 => ?_)
  · refine x_aload_n B dX4_now_18 rfl ?_
    refine x_getC0 B (k := 2) hT rfl rfl xc_4 (by decide) hk (Or.inl q280) (fun _ h => h) dX4_now_19 (fun k_19 => ?_)
    refine x_getC0 B (k := 2) hT rfl rfl xc_0 (by decide) k_19 (Or.inr q402) (fun _ h => h) dX4_now_22 (fun k_22 => ?_)
    refine x_goP (x_rV B k_22 (show x_cl[2]? = some _ from rfl) (c_X2_isOver hT (by assumption)) (lw_V q1006 q368 q369 q114 q370) hv_X2_isOver ⟨by decide, by decide⟩ ⟨by decide, by decide⟩ rfl rfl (by simp [x_cr, x_c1, x_c2]) dX4_now_25) ?_
    refine x_if_eq B (tgt := 45) dX4_now_28 (by decide) ⟨by split <;> omega, by split <;> omega⟩ (fun h_28 => ?_) (fun h_28 => ?_)
    · have hne : X 3 1 ≠ 3 := by intro q; rw [if_pos q] at h_28; omega
      have h70 : c_M X 3 i 7 = 0 := by omega
      have hre := m_rest hW hi.1 hi.2 h70 (by omega)
      have sb : c_M X 3 i (10 + X 3 1) = X (3 + 1 + 1 + 2 * i + 1) (X 3 1) := by rw [c_M_b hi (by omega)]; congr 1; omega
      rw [g1, sb, ← es] at hre
      refine x_aload_n B dX4_now_45 rfl ?_
      refine x_getC0 B (k := 2) hT rfl rfl xc_4 (by decide) hk (Or.inl q280) (fun _ h => h) dX4_now_46 (fun k_46 => ?_)
      refine x_getC0 B (k := 2) hT rfl rfl xc_0 (by decide) k_46 (Or.inr q402) (fun _ h => h) dX4_now_49 (fun k_49 => ?_)
      refine x_getI B (k := 1) 1 rfl rfl xc_2 (by decide) k_49 (Or.inr q247) (fun _ h => h) dX4_now_52 (fun r_52 => ?_)
      refine x_ist_3 B dX4_now_55 (by first | rfl | exact x_cr _ _) ?_
      refine x_aload_n B dX4_now_56 rfl ?_
      refine x_goP (x_rV B ks (show x_cl[3]? = some _ from rfl) (c_X3_sum hT (by assumption)) (lw_V q1007 q790 q791 q115 q792) hv_X3_sum ⟨by decide, by decide⟩ ⟨by decide, by decide⟩ rfl rfl (by simp [x_cr, x_c1, x_c2]) dX4_now_57) ?_
      refine x_aload_n B dX4_now_60 rfl ?_
      refine x_getC1 B (k := 0) hT rfl rfl xc_3 (by decide) ks (Or.inr q195) (fun _ h => h) dX4_now_61 (fun k_61 => ?_)
      refine x_iload_n B dX4_now_64 rfl ?_
      refine x_iald B k_61 ⟨by omega, by omega⟩ dX4_now_65 (fun r_65 => ?_)
      refine x_isub B dX4_now_66 ?_
      refine x_istw_4 B dX4_now_67 (by first | rfl | exact x_cr _ _) ?_
      refine x_aload_n B dX4_now_69 rfl ?_
      refine x_getI B (k := 3) 3 rfl rfl xc_3 (by decide) ks (Or.inr q209) (fun _ h => h) dX4_now_70 (fun r_70 => ?_)
      refine x_if_ne B (tgt := 92) dX4_now_73 (by decide) ⟨by omega, by omega⟩ (fun h_73 => ?_) (fun h_73 => ?_)
      · refine x_aload_n B dX4_now_92 rfl ?_
        refine x_iload_n B dX4_now_93 rfl ?_
        refine x_iload B dX4_now_94 rfl ?_
        refine x_aload_n B dX4_now_96 rfl ?_
        refine x_getI B (k := 1) 1 rfl rfl xc_3 (by decide) ks (Or.inr q199) (fun _ h => h) dX4_now_97 (fun r_97 => ?_)
        refine x_aload_n B dX4_now_100 rfl ?_
        refine x_getI B (k := 2) 2 rfl rfl xc_3 (by decide) ks (Or.inr q204) (fun _ h => h) dX4_now_101 (fun r_101 => ?_)
        refine x_aload_n B dX4_now_104 rfl ?_
        refine x_getC1 B (k := 0) hT rfl rfl xc_3 (by decide) ks (Or.inr q195) (fun _ h => h) dX4_now_105 (fun k_105 => ?_)
        refine x_iload_n B dX4_now_108 rfl ?_
        refine x_iald B k_105 ⟨by omega, by omega⟩ dX4_now_109 (fun r_109 => ?_)
        refine x_iload_n B dX4_now_110 rfl ?_
        refine x_goP (x_rA B (n := 6) (x_rcK B hk (show x_cl[4]? = some _ from rfl)) (p_all h 12 _ _ _ _ _ _ ⟨by omega, by omega⟩ ⟨by omega, by omega⟩ ⟨by omega, by omega⟩ ⟨by omega, by omega⟩ ⟨by omega, by omega⟩ ⟨by omega, by omega⟩ (by omega) ) (lw_U q1042 q1044 q1046 q1047 q117 q1048) q1043 (by decide +kernel) ⟨by decide, by decide⟩ ⟨by decide, by decide⟩ rfl rfl (by simp [x_cr, x_c1, x_c2]) dX4_now_111) ?_
        refine x_lret B (fun _ _ h => h) ?_ dX4_now_114
        exact ⟨congrArg (fun z => some (vl z)) (by unfold p_now; rw [if_neg (by omega), if_neg (by omega)]; first | rw [if_pos (by omega), g1, sb, es] | rw [if_neg (by omega), g1, g2, s6, s2, sb, es, ← hj (by omega)]), rfl⟩
      · refine x_aload_n B dX4_now_76 rfl ?_
        refine x_iload_n B dX4_now_77 rfl ?_
        refine x_aload_n B dX4_now_78 rfl ?_
        refine x_getC1 B (k := 0) hT rfl rfl xc_3 (by decide) ks (Or.inr q195) (fun _ h => h) dX4_now_79 (fun k_79 => ?_)
        refine x_iload_n B dX4_now_82 rfl ?_
        refine x_iald B k_79 ⟨by omega, by omega⟩ dX4_now_83 (fun r_83 => ?_)
        refine x_iload B dX4_now_84 rfl ?_
        refine x_goP (x_rU B (n := 3) (x_rcK B hk (show x_cl[4]? = some _ from rfl)) (p_end h ⟨by omega, by omega⟩ ⟨by omega, by omega⟩ ⟨by omega, by omega⟩ ) (lw_U q1008 q1010 q1012 q1009 q116 q1013) rfl (by decide +kernel) ⟨by decide, by decide⟩ ⟨by decide, by decide⟩ rfl rfl (by simp [x_cr, x_c1, x_c2]) dX4_now_86) ?_
        refine x_goto B (tgt := 114) dX4_now_89 (by decide) ?_
        refine x_lret B (fun _ _ h => h) ?_ dX4_now_114
        exact ⟨congrArg (fun z => some (vl z)) (by unfold p_now; rw [if_neg (by omega), if_neg (by omega)]; first | rw [if_pos (by omega), g1, sb, es] | rw [if_neg (by omega), g1, g2, s6, s2, sb, es, ← hj (by omega)]), rfl⟩
    · refine x_aload_n B dX4_now_31 rfl ?_
      refine x_getR B (k := 1) 1 rfl rfl xc_4 (by decide) hk (Or.inl q279) (fun _ h => h) dX4_now_32 (?_)
      refine x_aload_n B dX4_now_35 rfl ?_
      refine x_goP (x_rV B ks (show x_cl[3]? = some _ from rfl) (c_X3_sum hT (by assumption)) (lw_V q1007 q790 q791 q115 q792) hv_X3_sum ⟨by decide, by decide⟩ ⟨by decide, by decide⟩ rfl rfl (by simp [x_cr, x_c1, x_c2]) dX4_now_36) ?_
      refine x_aim B q974 hA (by omega) (by omega) ⟨by decide, by decide⟩ ⟨by decide, by decide⟩ (by simp [x_cr, x_c1, x_c2]) dX4_now_39 ?_
      refine x_lret B (fun _ _ h => h) ?_ dX4_now_44
      exact ⟨congrArg (fun z => some (vl z)) (by unfold p_now; rw [if_neg (by omega), if_pos (by rw [g1]; by_cases q : X 3 1 = 3; exact q; rw [if_neg q] at h_28; omega), es]), rfl⟩
  · refine x_aload_n B dX4_now_7 rfl ?_
    refine x_getR B (k := 1) 1 rfl rfl xc_4 (by decide) hk (Or.inl q279) (fun _ h => h) dX4_now_8 (?_)
    refine x_iconst B dX4_now_11 ?_
    refine x_aim B q974 hA (by omega) (by omega) ⟨by decide, by decide⟩ ⟨by decide, by decide⟩ (by simp [x_cr, x_c1, x_c2]) dX4_now_12 ?_
    refine x_lret B (fun _ _ h => h) ?_ dX4_now_17
    exact ⟨congrArg (fun z => some (vl z)) (by unfold p_now; rw [if_pos (by omega)]), rfl⟩
