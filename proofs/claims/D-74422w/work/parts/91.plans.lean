theorem c_X1_plans {l : Launch} {E : x_E} {κ : x_Ka} {X : x_X} {i t w v : Int} (hC : n_C κ X) (hi0 : xR i) (ht0 : xR t) (hw0 : xR w) (hv0 : xR v) : x_Met l yX1_plans cX1_plans 7 (some .int) 6 0 0 E κ X [x_rf E 0, vi i, vi t, vi w, vi v] κ (fun v_ Y_ => if x_in i 0 (X 1 2 - 1) = 1 ∧ x_in t 0 2 = 1 ∧ x_in w 0 2 = 1 ∧ x_in v (if w = 2 then 0 else 1) (if w = 0 then 40 else 9) = 1 then (v_ = some (vi (c_p3 X i t w)) ∧ (∀ a, (a < 3 ∨ 17 ≤ a) → a ≠ 0 → Y_ a = (x_up X (X 2 i + 11 + w) t v) a) ∧ (∀ i9, i9 ≠ 12 → Y_ 0 i9 = (x_up X (X 2 i + 11 + w) t v) 0 i9) ∧ Y_ 0 12 = 0 ∧ c_M Y_ 3 = m_beg ((x_up X (X 2 i + 11 + w) t v) 1 2) (c_op (x_up X (X 2 i + 11 + w) t v)) (c_M (x_up X (X 2 i + 11 + w) t v) 3) ∧ ∀ l, 0 ≤ l → l < (x_up X (X 2 i + 11 + w) t v) 1 2 → Y_ (3 + 1 + 1 + 2 * l) 1 = 0) else (v_ = some (vi (-1)) ∧ Y_ = X)) := by
  refine x_Met.of [(false, x_rf E 0), (false, vi i), (false, vi t), (false, vi w), (false, vi v)] [some (x_rf E 0), some (vi i), some (vi t), some (vi w), some (vi v), none, none] 2 (by decide) rfl rfl ⟨x_cr E (0), rfl, rfl, rfl, rfl, trivial⟩ rfl rfl ?_
  intro p e s m args below meth c hargs hin B
  obtain ⟨hI, hP, hO, hW, hJ⟩ := id hC
  obtain ⟨hT, h0, hn, hl, hla⟩ := id hI
  have z1 := x_in_01 i 0 (X 1 2 - 1)
  have z2 := x_in_01 t 0 2
  have z3 := x_in_01 w 0 2
  refine x_aload_n B dX1_plans_0 rfl ?_
  refine x_iload_n B dX1_plans_1 rfl ?_
  refine x_goP (x_rV B h0 (show x_cl[0]? = some _ from rfl) (c_X1_isLifter hI ⟨by omega, by omega⟩) (lw_V q735 q737 qs13 q110 q738) hv_X1_isLifter ⟨by decide, by decide⟩ ⟨by decide, by decide⟩ rfl rfl (by simp [x_cr, x_c1, x_c2]) dX1_plans_2) ?_
  refine x_if_eq B (tgt := 59) dX1_plans_5 (by decide) ⟨by omega, by omega⟩ (fun h_5 => ?_) (fun h_5 => ?_)
  · refine x_iconst B dX1_plans_59 ?_
    refine x_iret B (fun _ _ h => h) ?_ dX1_plans_60
    have hno : ¬ (x_in i 0 (X 1 2 - 1) = 1 ∧ x_in t 0 2 = 1 ∧ x_in w 0 2 = 1 ∧ x_in v (if w = 2 then 0 else 1) (if w = 0 then 40 else 9) = 1) := by
      intro q
      have q4 := q.2.2.2
      first
      | omega
      | (rw [if_pos (by omega), if_pos (by omega)] at q4; omega)
      | (rw [if_pos (by omega), if_neg (by omega)] at q4; omega)
      | (rw [if_neg (by omega), if_pos (by omega)] at q4; omega)
      | (rw [if_neg (by omega), if_neg (by omega)] at q4; omega)
    rw [if_neg hno]; exact ⟨rfl, rfl⟩
  · refine x_iload_n B dX1_plans_8 rfl ?_
    refine x_goP (x_rS B (c_X1_isLift ⟨by omega, by omega⟩) (lw_S q739 q740 q110 q741) hd_X1_isLift ⟨by decide, by decide⟩ ⟨by decide, by decide⟩ rfl rfl (by simp [x_cr, x_c1, x_c2]) dX1_plans_9) ?_
    refine x_if_eq B (tgt := 59) dX1_plans_12 (by decide) ⟨by omega, by omega⟩ (fun h_12 => ?_) (fun h_12 => ?_)
    · refine x_iconst B dX1_plans_59 ?_
      refine x_iret B (fun _ _ h => h) ?_ dX1_plans_60
      have hno : ¬ (x_in i 0 (X 1 2 - 1) = 1 ∧ x_in t 0 2 = 1 ∧ x_in w 0 2 = 1 ∧ x_in v (if w = 2 then 0 else 1) (if w = 0 then 40 else 9) = 1) := by
        intro q
        have q4 := q.2.2.2
        first
        | omega
        | (rw [if_pos (by omega), if_pos (by omega)] at q4; omega)
        | (rw [if_pos (by omega), if_neg (by omega)] at q4; omega)
        | (rw [if_neg (by omega), if_pos (by omega)] at q4; omega)
        | (rw [if_neg (by omega), if_neg (by omega)] at q4; omega)
      rw [if_neg hno]; exact ⟨rfl, rfl⟩
    · refine x_iload_n B dX1_plans_15 rfl ?_
      refine x_i2l B dX1_plans_16 ⟨by omega, by omega⟩ ?_
      refine x_lconst B 0 dX1_plans_17 (by decide) ?_
      refine x_ldc2 B (2) q742 (by decide) dX1_plans_18 ?_
      refine x_goP (x_rS B (c_X1_in ⟨by omega, by omega⟩ ⟨by omega, by omega⟩ ⟨by omega, by omega⟩) (lw_S q464 q465 q110 q466) hd_X1_in ⟨by decide, by decide⟩ ⟨by decide, by decide⟩ rfl rfl (by simp [x_cr, x_c1, x_c2]) dX1_plans_21) ?_
      refine x_if_eq B (tgt := 59) dX1_plans_24 (by decide) ⟨by omega, by omega⟩ (fun h_24 => ?_) (fun h_24 => ?_)
      · refine x_iconst B dX1_plans_59 ?_
        refine x_iret B (fun _ _ h => h) ?_ dX1_plans_60
        have hno : ¬ (x_in i 0 (X 1 2 - 1) = 1 ∧ x_in t 0 2 = 1 ∧ x_in w 0 2 = 1 ∧ x_in v (if w = 2 then 0 else 1) (if w = 0 then 40 else 9) = 1) := by
          intro q
          have q4 := q.2.2.2
          first
          | omega
          | (rw [if_pos (by omega), if_pos (by omega)] at q4; omega)
          | (rw [if_pos (by omega), if_neg (by omega)] at q4; omega)
          | (rw [if_neg (by omega), if_pos (by omega)] at q4; omega)
          | (rw [if_neg (by omega), if_neg (by omega)] at q4; omega)
        rw [if_neg hno]; exact ⟨rfl, rfl⟩
      · refine x_iload B dX1_plans_27 rfl ?_
        refine x_i2l B dX1_plans_29 ⟨by omega, by omega⟩ ?_
        refine x_iload_n B dX1_plans_30 rfl ?_
        refine x_iconst B dX1_plans_31 ?_
        refine x_icmp_ne B (tgt := 39) dX1_plans_32 (by decide) ⟨by omega, by omega⟩ ⟨by omega, by omega⟩ (fun h_32 => ?_) (fun h_32 => ?_)
        · refine x_lconst B 1 dX1_plans_39 (by decide) ?_
          refine x_iload_n B dX1_plans_40 rfl ?_
          refine x_if_ne B (tgt := 50) dX1_plans_41 (by decide) ⟨by omega, by omega⟩ (fun h_41 => ?_) (fun h_41 => ?_)
          · refine x_ldc2 B (9) q744 (by decide) dX1_plans_50 ?_
            refine x_goP (x_rS B (c_X1_in ⟨by omega, by omega⟩ ⟨by omega, by omega⟩ ⟨by omega, by omega⟩) (lw_S q464 q465 q110 q466) hd_X1_in ⟨by decide, by decide⟩ ⟨by decide, by decide⟩ rfl rfl (by simp [x_cr, x_c1, x_c2]) dX1_plans_53) ?_
            refine x_if_ne B (tgt := 61) dX1_plans_56 (by decide) ⟨by have := x_in_01 v; first | (have q := this 0 40; omega) | (have q := this 0 9; omega) | (have q := this 1 40; omega) | (have q := this 1 9; omega), by have := x_in_01 v; first | (have q := this 0 40; omega) | (have q := this 0 9; omega) | (have q := this 1 40; omega) | (have q := this 1 9; omega)⟩ (fun h_56 => ?_) (fun h_56 => ?_)
            · have hi : 0 ≤ i ∧ i < X 1 2 := by unfold x_in at h_5; split at h_5 <;> omega
              have ht : 0 ≤ t ∧ t ≤ 2 := by unfold x_in at h_12; split at h_12 <;> omega
              have hw : 0 ≤ w ∧ w ≤ 2 := by unfold x_in at h_24; split at h_24 <;> omega
              have hv : (if w = 2 then 0 else 1) ≤ v ∧ v ≤ (if w = 0 then 40 else 9) := by
                unfold x_in at h_56; split at h_56
                · rename_i q; refine ⟨?_, ?_⟩ <;> split <;> omega
                · omega
              have h88 := hla i hi.1 hi.2
              have kpl : κ (X 2 i + 11 + w) = some (.inr (0, 3)) := by
                rcases (show w = 0 ∨ w = 1 ∨ w = 2 by omega) with e | e | e <;> rw [e]
                · rw [show X 2 i + 11 + 0 = x_z (1, 11, .inr (0, 3)) (X 2 i) by show _ = X 2 i + 11; omega]; exact hT.1 _ 8 (hl _ hi.1 hi.2) 3 (1, 11, .inr (0, 3)) rfl
                · rw [show X 2 i + 11 + 1 = x_z (1, 12, .inr (0, 3)) (X 2 i) by show _ = X 2 i + 12; omega]; exact hT.1 _ 8 (hl _ hi.1 hi.2) 4 (1, 12, .inr (0, 3)) rfl
                · rw [show X 2 i + 11 + 2 = x_z (1, 13, .inr (0, 3)) (X 2 i) by show _ = X 2 i + 13; omega]; exact hT.1 _ 8 (hl _ hi.1 hi.2) 5 (1, 13, .inr (0, 3)) rfl
              refine x_aload_n B dX1_plans_61 rfl ?_
              refine x_getC0 B (k := 0) hT rfl rfl xc_0 (by decide) h0 (Or.inl q394) (fun _ h => h) dX1_plans_62 (fun k_62 => ?_)
              refine x_iload_n B dX1_plans_65 rfl ?_
              refine x_goP (x_rV B k_62 (show x_cl[1]? = some _ from rfl) (c_J2_get hT (by assumption) (by omega) ⟨by omega, by omega⟩) (lw_V q745 q372 q373 q113 q374) hv_J2_get ⟨by decide, by decide⟩ ⟨by decide, by decide⟩ rfl rfl (by simp [x_cr, x_c1, x_c2]) dX1_plans_66) ?_
              refine x_cast B (hl _ hi.1 hi.2) (show x_cl[8]? = some _ from rfl) q746 dX1_plans_69 ?_
              refine x_iload_n B dX1_plans_72 rfl ?_
              refine x_goP (x_rV B (hl _ hi.1 hi.2) (show x_cl[8]? = some _ from rfl) (c_X10_plan hT (hl _ hi.1 hi.2) ⟨by omega, by omega⟩) (lw_V q747 q748 q749 q124 q750) hv_X10_plan ⟨by decide, by decide⟩ ⟨by decide, by decide⟩ rfl rfl (by simp [x_cr, x_c1, x_c2]) dX1_plans_73) ?_
              refine x_astw_5 B dX1_plans_76 (by first | rfl | exact x_cr _ _) ?_
              refine x_aload B dX1_plans_78 rfl ?_
              refine x_iload_n B dX1_plans_80 rfl ?_
              refine x_iald B kpl ⟨by omega, by omega⟩ dX1_plans_81 (fun r_81 => ?_)
              have e81 : X (X 2 i + 11 + w) t = c_p3 X i t w := by unfold c_p3; rw [if_pos ⟨hi.1, hi.2, ht.1, by omega, hw.1, by omega⟩]
              rw [e81] at r_81 ⊢
              refine x_istw_6 B dX1_plans_82 (by first | rfl | exact x_cr _ _) ?_
              refine x_aload B dX1_plans_84 rfl ?_
              refine x_iload_n B dX1_plans_86 rfl ?_
              refine x_iload B dX1_plans_87 rfl ?_
              refine x_iast B kpl ⟨by omega, by omega⟩ hv0 dX1_plans_89 ?_
              have hIp : n_I κ (x_up X (X 2 i + 11 + w) t v) := by unfold n_I at *; rw [x_up_o _ (by omega), x_up_o _ (by omega)]; exact hI
              refine x_aload_n B dX1_plans_90 rfl ?_
              refine x_go (x_rV B h0 (show x_cl[0]? = some _ from rfl) (c_X1_beginsAnew hIp) (lw_V q710 q712 qs11 q110 q713) hv_X1_beginsAnew ⟨by decide, by decide⟩ ⟨by decide, by decide⟩ rfl rfl (by simp [x_cr, x_c1, x_c2]) dX1_plans_91) (fun v_91 X_91 p_91 => ?_)
              obtain ⟨rfl, hp⟩ := p_91
              refine x_pop B dX1_plans_94 (by first | rfl | exact x_cr _ _) ?_
              refine x_iload B dX1_plans_95 rfl ?_
              refine x_iret B (fun _ _ h => h) ?_ dX1_plans_97
              rw [if_pos ⟨by omega, by omega, by omega, by unfold x_in; rw [if_pos hv]⟩]; exact ⟨rfl, hp⟩
            · refine x_iconst B dX1_plans_59 ?_
              refine x_iret B (fun _ _ h => h) ?_ dX1_plans_60
              have hno : ¬ (x_in i 0 (X 1 2 - 1) = 1 ∧ x_in t 0 2 = 1 ∧ x_in w 0 2 = 1 ∧ x_in v (if w = 2 then 0 else 1) (if w = 0 then 40 else 9) = 1) := by
                intro q
                have q4 := q.2.2.2
                first
                | omega
                | (rw [if_pos (by omega), if_pos (by omega)] at q4; omega)
                | (rw [if_pos (by omega), if_neg (by omega)] at q4; omega)
                | (rw [if_neg (by omega), if_pos (by omega)] at q4; omega)
                | (rw [if_neg (by omega), if_neg (by omega)] at q4; omega)
              rw [if_neg hno]; exact ⟨rfl, rfl⟩
          · refine x_ldc2 B (40) q743 (by decide) dX1_plans_44 ?_
            refine x_goto B (tgt := 53) dX1_plans_47 (by decide) ?_
            refine x_goP (x_rS B (c_X1_in ⟨by omega, by omega⟩ ⟨by omega, by omega⟩ ⟨by omega, by omega⟩) (lw_S q464 q465 q110 q466) hd_X1_in ⟨by decide, by decide⟩ ⟨by decide, by decide⟩ rfl rfl (by simp [x_cr, x_c1, x_c2]) dX1_plans_53) ?_
            refine x_if_ne B (tgt := 61) dX1_plans_56 (by decide) ⟨by have := x_in_01 v; first | (have q := this 0 40; omega) | (have q := this 0 9; omega) | (have q := this 1 40; omega) | (have q := this 1 9; omega), by have := x_in_01 v; first | (have q := this 0 40; omega) | (have q := this 0 9; omega) | (have q := this 1 40; omega) | (have q := this 1 9; omega)⟩ (fun h_56 => ?_) (fun h_56 => ?_)
            · have hi : 0 ≤ i ∧ i < X 1 2 := by unfold x_in at h_5; split at h_5 <;> omega
              have ht : 0 ≤ t ∧ t ≤ 2 := by unfold x_in at h_12; split at h_12 <;> omega
              have hw : 0 ≤ w ∧ w ≤ 2 := by unfold x_in at h_24; split at h_24 <;> omega
              have hv : (if w = 2 then 0 else 1) ≤ v ∧ v ≤ (if w = 0 then 40 else 9) := by
                unfold x_in at h_56; split at h_56
                · rename_i q; refine ⟨?_, ?_⟩ <;> split <;> omega
                · omega
              have h88 := hla i hi.1 hi.2
              have kpl : κ (X 2 i + 11 + w) = some (.inr (0, 3)) := by
                rcases (show w = 0 ∨ w = 1 ∨ w = 2 by omega) with e | e | e <;> rw [e]
                · rw [show X 2 i + 11 + 0 = x_z (1, 11, .inr (0, 3)) (X 2 i) by show _ = X 2 i + 11; omega]; exact hT.1 _ 8 (hl _ hi.1 hi.2) 3 (1, 11, .inr (0, 3)) rfl
                · rw [show X 2 i + 11 + 1 = x_z (1, 12, .inr (0, 3)) (X 2 i) by show _ = X 2 i + 12; omega]; exact hT.1 _ 8 (hl _ hi.1 hi.2) 4 (1, 12, .inr (0, 3)) rfl
                · rw [show X 2 i + 11 + 2 = x_z (1, 13, .inr (0, 3)) (X 2 i) by show _ = X 2 i + 13; omega]; exact hT.1 _ 8 (hl _ hi.1 hi.2) 5 (1, 13, .inr (0, 3)) rfl
              refine x_aload_n B dX1_plans_61 rfl ?_
              refine x_getC0 B (k := 0) hT rfl rfl xc_0 (by decide) h0 (Or.inl q394) (fun _ h => h) dX1_plans_62 (fun k_62 => ?_)
              refine x_iload_n B dX1_plans_65 rfl ?_
              refine x_goP (x_rV B k_62 (show x_cl[1]? = some _ from rfl) (c_J2_get hT (by assumption) (by omega) ⟨by omega, by omega⟩) (lw_V q745 q372 q373 q113 q374) hv_J2_get ⟨by decide, by decide⟩ ⟨by decide, by decide⟩ rfl rfl (by simp [x_cr, x_c1, x_c2]) dX1_plans_66) ?_
              refine x_cast B (hl _ hi.1 hi.2) (show x_cl[8]? = some _ from rfl) q746 dX1_plans_69 ?_
              refine x_iload_n B dX1_plans_72 rfl ?_
              refine x_goP (x_rV B (hl _ hi.1 hi.2) (show x_cl[8]? = some _ from rfl) (c_X10_plan hT (hl _ hi.1 hi.2) ⟨by omega, by omega⟩) (lw_V q747 q748 q749 q124 q750) hv_X10_plan ⟨by decide, by decide⟩ ⟨by decide, by decide⟩ rfl rfl (by simp [x_cr, x_c1, x_c2]) dX1_plans_73) ?_
              refine x_astw_5 B dX1_plans_76 (by first | rfl | exact x_cr _ _) ?_
              refine x_aload B dX1_plans_78 rfl ?_
              refine x_iload_n B dX1_plans_80 rfl ?_
              refine x_iald B kpl ⟨by omega, by omega⟩ dX1_plans_81 (fun r_81 => ?_)
              have e81 : X (X 2 i + 11 + w) t = c_p3 X i t w := by unfold c_p3; rw [if_pos ⟨hi.1, hi.2, ht.1, by omega, hw.1, by omega⟩]
              rw [e81] at r_81 ⊢
              refine x_istw_6 B dX1_plans_82 (by first | rfl | exact x_cr _ _) ?_
              refine x_aload B dX1_plans_84 rfl ?_
              refine x_iload_n B dX1_plans_86 rfl ?_
              refine x_iload B dX1_plans_87 rfl ?_
              refine x_iast B kpl ⟨by omega, by omega⟩ hv0 dX1_plans_89 ?_
              have hIp : n_I κ (x_up X (X 2 i + 11 + w) t v) := by unfold n_I at *; rw [x_up_o _ (by omega), x_up_o _ (by omega)]; exact hI
              refine x_aload_n B dX1_plans_90 rfl ?_
              refine x_go (x_rV B h0 (show x_cl[0]? = some _ from rfl) (c_X1_beginsAnew hIp) (lw_V q710 q712 qs11 q110 q713) hv_X1_beginsAnew ⟨by decide, by decide⟩ ⟨by decide, by decide⟩ rfl rfl (by simp [x_cr, x_c1, x_c2]) dX1_plans_91) (fun v_91 X_91 p_91 => ?_)
              obtain ⟨rfl, hp⟩ := p_91
              refine x_pop B dX1_plans_94 (by first | rfl | exact x_cr _ _) ?_
              refine x_iload B dX1_plans_95 rfl ?_
              refine x_iret B (fun _ _ h => h) ?_ dX1_plans_97
              rw [if_pos ⟨by omega, by omega, by omega, by unfold x_in; rw [if_pos hv]⟩]; exact ⟨rfl, hp⟩
            · refine x_iconst B dX1_plans_59 ?_
              refine x_iret B (fun _ _ h => h) ?_ dX1_plans_60
              have hno : ¬ (x_in i 0 (X 1 2 - 1) = 1 ∧ x_in t 0 2 = 1 ∧ x_in w 0 2 = 1 ∧ x_in v (if w = 2 then 0 else 1) (if w = 0 then 40 else 9) = 1) := by
                intro q
                have q4 := q.2.2.2
                first
                | omega
                | (rw [if_pos (by omega), if_pos (by omega)] at q4; omega)
                | (rw [if_pos (by omega), if_neg (by omega)] at q4; omega)
                | (rw [if_neg (by omega), if_pos (by omega)] at q4; omega)
                | (rw [if_neg (by omega), if_neg (by omega)] at q4; omega)
              rw [if_neg hno]; exact ⟨rfl, rfl⟩
        · refine x_lconst B 0 dX1_plans_35 (by decide) ?_
          refine x_goto B (tgt := 40) dX1_plans_36 (by decide) ?_
          refine x_iload_n B dX1_plans_40 rfl ?_
          refine x_if_ne B (tgt := 50) dX1_plans_41 (by decide) ⟨by omega, by omega⟩ (fun h_41 => ?_) (fun h_41 => ?_)
          · refine x_ldc2 B (9) q744 (by decide) dX1_plans_50 ?_
            refine x_goP (x_rS B (c_X1_in ⟨by omega, by omega⟩ ⟨by omega, by omega⟩ ⟨by omega, by omega⟩) (lw_S q464 q465 q110 q466) hd_X1_in ⟨by decide, by decide⟩ ⟨by decide, by decide⟩ rfl rfl (by simp [x_cr, x_c1, x_c2]) dX1_plans_53) ?_
            refine x_if_ne B (tgt := 61) dX1_plans_56 (by decide) ⟨by have := x_in_01 v; first | (have q := this 0 40; omega) | (have q := this 0 9; omega) | (have q := this 1 40; omega) | (have q := this 1 9; omega), by have := x_in_01 v; first | (have q := this 0 40; omega) | (have q := this 0 9; omega) | (have q := this 1 40; omega) | (have q := this 1 9; omega)⟩ (fun h_56 => ?_) (fun h_56 => ?_)
            · have hi : 0 ≤ i ∧ i < X 1 2 := by unfold x_in at h_5; split at h_5 <;> omega
              have ht : 0 ≤ t ∧ t ≤ 2 := by unfold x_in at h_12; split at h_12 <;> omega
              have hw : 0 ≤ w ∧ w ≤ 2 := by unfold x_in at h_24; split at h_24 <;> omega
              have hv : (if w = 2 then 0 else 1) ≤ v ∧ v ≤ (if w = 0 then 40 else 9) := by
                unfold x_in at h_56; split at h_56
                · rename_i q; refine ⟨?_, ?_⟩ <;> split <;> omega
                · omega
              have h88 := hla i hi.1 hi.2
              have kpl : κ (X 2 i + 11 + w) = some (.inr (0, 3)) := by
                rcases (show w = 0 ∨ w = 1 ∨ w = 2 by omega) with e | e | e <;> rw [e]
                · rw [show X 2 i + 11 + 0 = x_z (1, 11, .inr (0, 3)) (X 2 i) by show _ = X 2 i + 11; omega]; exact hT.1 _ 8 (hl _ hi.1 hi.2) 3 (1, 11, .inr (0, 3)) rfl
                · rw [show X 2 i + 11 + 1 = x_z (1, 12, .inr (0, 3)) (X 2 i) by show _ = X 2 i + 12; omega]; exact hT.1 _ 8 (hl _ hi.1 hi.2) 4 (1, 12, .inr (0, 3)) rfl
                · rw [show X 2 i + 11 + 2 = x_z (1, 13, .inr (0, 3)) (X 2 i) by show _ = X 2 i + 13; omega]; exact hT.1 _ 8 (hl _ hi.1 hi.2) 5 (1, 13, .inr (0, 3)) rfl
              refine x_aload_n B dX1_plans_61 rfl ?_
              refine x_getC0 B (k := 0) hT rfl rfl xc_0 (by decide) h0 (Or.inl q394) (fun _ h => h) dX1_plans_62 (fun k_62 => ?_)
              refine x_iload_n B dX1_plans_65 rfl ?_
              refine x_goP (x_rV B k_62 (show x_cl[1]? = some _ from rfl) (c_J2_get hT (by assumption) (by omega) ⟨by omega, by omega⟩) (lw_V q745 q372 q373 q113 q374) hv_J2_get ⟨by decide, by decide⟩ ⟨by decide, by decide⟩ rfl rfl (by simp [x_cr, x_c1, x_c2]) dX1_plans_66) ?_
              refine x_cast B (hl _ hi.1 hi.2) (show x_cl[8]? = some _ from rfl) q746 dX1_plans_69 ?_
              refine x_iload_n B dX1_plans_72 rfl ?_
              refine x_goP (x_rV B (hl _ hi.1 hi.2) (show x_cl[8]? = some _ from rfl) (c_X10_plan hT (hl _ hi.1 hi.2) ⟨by omega, by omega⟩) (lw_V q747 q748 q749 q124 q750) hv_X10_plan ⟨by decide, by decide⟩ ⟨by decide, by decide⟩ rfl rfl (by simp [x_cr, x_c1, x_c2]) dX1_plans_73) ?_
              refine x_astw_5 B dX1_plans_76 (by first | rfl | exact x_cr _ _) ?_
              refine x_aload B dX1_plans_78 rfl ?_
              refine x_iload_n B dX1_plans_80 rfl ?_
              refine x_iald B kpl ⟨by omega, by omega⟩ dX1_plans_81 (fun r_81 => ?_)
              have e81 : X (X 2 i + 11 + w) t = c_p3 X i t w := by unfold c_p3; rw [if_pos ⟨hi.1, hi.2, ht.1, by omega, hw.1, by omega⟩]
              rw [e81] at r_81 ⊢
              refine x_istw_6 B dX1_plans_82 (by first | rfl | exact x_cr _ _) ?_
              refine x_aload B dX1_plans_84 rfl ?_
              refine x_iload_n B dX1_plans_86 rfl ?_
              refine x_iload B dX1_plans_87 rfl ?_
              refine x_iast B kpl ⟨by omega, by omega⟩ hv0 dX1_plans_89 ?_
              have hIp : n_I κ (x_up X (X 2 i + 11 + w) t v) := by unfold n_I at *; rw [x_up_o _ (by omega), x_up_o _ (by omega)]; exact hI
              refine x_aload_n B dX1_plans_90 rfl ?_
              refine x_go (x_rV B h0 (show x_cl[0]? = some _ from rfl) (c_X1_beginsAnew hIp) (lw_V q710 q712 qs11 q110 q713) hv_X1_beginsAnew ⟨by decide, by decide⟩ ⟨by decide, by decide⟩ rfl rfl (by simp [x_cr, x_c1, x_c2]) dX1_plans_91) (fun v_91 X_91 p_91 => ?_)
              obtain ⟨rfl, hp⟩ := p_91
              refine x_pop B dX1_plans_94 (by first | rfl | exact x_cr _ _) ?_
              refine x_iload B dX1_plans_95 rfl ?_
              refine x_iret B (fun _ _ h => h) ?_ dX1_plans_97
              rw [if_pos ⟨by omega, by omega, by omega, by unfold x_in; rw [if_pos hv]⟩]; exact ⟨rfl, hp⟩
            · refine x_iconst B dX1_plans_59 ?_
              refine x_iret B (fun _ _ h => h) ?_ dX1_plans_60
              have hno : ¬ (x_in i 0 (X 1 2 - 1) = 1 ∧ x_in t 0 2 = 1 ∧ x_in w 0 2 = 1 ∧ x_in v (if w = 2 then 0 else 1) (if w = 0 then 40 else 9) = 1) := by
                intro q
                have q4 := q.2.2.2
                first
                | omega
                | (rw [if_pos (by omega), if_pos (by omega)] at q4; omega)
                | (rw [if_pos (by omega), if_neg (by omega)] at q4; omega)
                | (rw [if_neg (by omega), if_pos (by omega)] at q4; omega)
                | (rw [if_neg (by omega), if_neg (by omega)] at q4; omega)
              rw [if_neg hno]; exact ⟨rfl, rfl⟩
          · refine x_ldc2 B (40) q743 (by decide) dX1_plans_44 ?_
            refine x_goto B (tgt := 53) dX1_plans_47 (by decide) ?_
            refine x_goP (x_rS B (c_X1_in ⟨by omega, by omega⟩ ⟨by omega, by omega⟩ ⟨by omega, by omega⟩) (lw_S q464 q465 q110 q466) hd_X1_in ⟨by decide, by decide⟩ ⟨by decide, by decide⟩ rfl rfl (by simp [x_cr, x_c1, x_c2]) dX1_plans_53) ?_
            refine x_if_ne B (tgt := 61) dX1_plans_56 (by decide) ⟨by have := x_in_01 v; first | (have q := this 0 40; omega) | (have q := this 0 9; omega) | (have q := this 1 40; omega) | (have q := this 1 9; omega), by have := x_in_01 v; first | (have q := this 0 40; omega) | (have q := this 0 9; omega) | (have q := this 1 40; omega) | (have q := this 1 9; omega)⟩ (fun h_56 => ?_) (fun h_56 => ?_)
            · have hi : 0 ≤ i ∧ i < X 1 2 := by unfold x_in at h_5; split at h_5 <;> omega
              have ht : 0 ≤ t ∧ t ≤ 2 := by unfold x_in at h_12; split at h_12 <;> omega
              have hw : 0 ≤ w ∧ w ≤ 2 := by unfold x_in at h_24; split at h_24 <;> omega
              have hv : (if w = 2 then 0 else 1) ≤ v ∧ v ≤ (if w = 0 then 40 else 9) := by
                unfold x_in at h_56; split at h_56
                · rename_i q; refine ⟨?_, ?_⟩ <;> split <;> omega
                · omega
              have h88 := hla i hi.1 hi.2
              have kpl : κ (X 2 i + 11 + w) = some (.inr (0, 3)) := by
                rcases (show w = 0 ∨ w = 1 ∨ w = 2 by omega) with e | e | e <;> rw [e]
                · rw [show X 2 i + 11 + 0 = x_z (1, 11, .inr (0, 3)) (X 2 i) by show _ = X 2 i + 11; omega]; exact hT.1 _ 8 (hl _ hi.1 hi.2) 3 (1, 11, .inr (0, 3)) rfl
                · rw [show X 2 i + 11 + 1 = x_z (1, 12, .inr (0, 3)) (X 2 i) by show _ = X 2 i + 12; omega]; exact hT.1 _ 8 (hl _ hi.1 hi.2) 4 (1, 12, .inr (0, 3)) rfl
                · rw [show X 2 i + 11 + 2 = x_z (1, 13, .inr (0, 3)) (X 2 i) by show _ = X 2 i + 13; omega]; exact hT.1 _ 8 (hl _ hi.1 hi.2) 5 (1, 13, .inr (0, 3)) rfl
              refine x_aload_n B dX1_plans_61 rfl ?_
              refine x_getC0 B (k := 0) hT rfl rfl xc_0 (by decide) h0 (Or.inl q394) (fun _ h => h) dX1_plans_62 (fun k_62 => ?_)
              refine x_iload_n B dX1_plans_65 rfl ?_
              refine x_goP (x_rV B k_62 (show x_cl[1]? = some _ from rfl) (c_J2_get hT (by assumption) (by omega) ⟨by omega, by omega⟩) (lw_V q745 q372 q373 q113 q374) hv_J2_get ⟨by decide, by decide⟩ ⟨by decide, by decide⟩ rfl rfl (by simp [x_cr, x_c1, x_c2]) dX1_plans_66) ?_
              refine x_cast B (hl _ hi.1 hi.2) (show x_cl[8]? = some _ from rfl) q746 dX1_plans_69 ?_
              refine x_iload_n B dX1_plans_72 rfl ?_
              refine x_goP (x_rV B (hl _ hi.1 hi.2) (show x_cl[8]? = some _ from rfl) (c_X10_plan hT (hl _ hi.1 hi.2) ⟨by omega, by omega⟩) (lw_V q747 q748 q749 q124 q750) hv_X10_plan ⟨by decide, by decide⟩ ⟨by decide, by decide⟩ rfl rfl (by simp [x_cr, x_c1, x_c2]) dX1_plans_73) ?_
              refine x_astw_5 B dX1_plans_76 (by first | rfl | exact x_cr _ _) ?_
              refine x_aload B dX1_plans_78 rfl ?_
              refine x_iload_n B dX1_plans_80 rfl ?_
              refine x_iald B kpl ⟨by omega, by omega⟩ dX1_plans_81 (fun r_81 => ?_)
              have e81 : X (X 2 i + 11 + w) t = c_p3 X i t w := by unfold c_p3; rw [if_pos ⟨hi.1, hi.2, ht.1, by omega, hw.1, by omega⟩]
              rw [e81] at r_81 ⊢
              refine x_istw_6 B dX1_plans_82 (by first | rfl | exact x_cr _ _) ?_
              refine x_aload B dX1_plans_84 rfl ?_
              refine x_iload_n B dX1_plans_86 rfl ?_
              refine x_iload B dX1_plans_87 rfl ?_
              refine x_iast B kpl ⟨by omega, by omega⟩ hv0 dX1_plans_89 ?_
              have hIp : n_I κ (x_up X (X 2 i + 11 + w) t v) := by unfold n_I at *; rw [x_up_o _ (by omega), x_up_o _ (by omega)]; exact hI
              refine x_aload_n B dX1_plans_90 rfl ?_
              refine x_go (x_rV B h0 (show x_cl[0]? = some _ from rfl) (c_X1_beginsAnew hIp) (lw_V q710 q712 qs11 q110 q713) hv_X1_beginsAnew ⟨by decide, by decide⟩ ⟨by decide, by decide⟩ rfl rfl (by simp [x_cr, x_c1, x_c2]) dX1_plans_91) (fun v_91 X_91 p_91 => ?_)
              obtain ⟨rfl, hp⟩ := p_91
              refine x_pop B dX1_plans_94 (by first | rfl | exact x_cr _ _) ?_
              refine x_iload B dX1_plans_95 rfl ?_
              refine x_iret B (fun _ _ h => h) ?_ dX1_plans_97
              rw [if_pos ⟨by omega, by omega, by omega, by unfold x_in; rw [if_pos hv]⟩]; exact ⟨rfl, hp⟩
            · refine x_iconst B dX1_plans_59 ?_
              refine x_iret B (fun _ _ h => h) ?_ dX1_plans_60
              have hno : ¬ (x_in i 0 (X 1 2 - 1) = 1 ∧ x_in t 0 2 = 1 ∧ x_in w 0 2 = 1 ∧ x_in v (if w = 2 then 0 else 1) (if w = 0 then 40 else 9) = 1) := by
                intro q
                have q4 := q.2.2.2
                first
                | omega
                | (rw [if_pos (by omega), if_pos (by omega)] at q4; omega)
                | (rw [if_pos (by omega), if_neg (by omega)] at q4; omega)
                | (rw [if_neg (by omega), if_pos (by omega)] at q4; omega)
                | (rw [if_neg (by omega), if_neg (by omega)] at q4; omega)
              rw [if_neg hno]; exact ⟨rfl, rfl⟩
