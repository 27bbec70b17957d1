theorem c_X1_sign {l : Launch} {E : x_E} {κ : x_Ka} {X : x_X} {z : Int} (hT : x_T κ) (h0 : κ 0 = some (.inl (0, 1))) (h5 : 0 ≤ X 0 5 ∧ X 0 5 ≤ 240) (hz : xR z) : x_Met l yX1_sign cX1_sign 3 (some .int) 0 0 0 E κ X [x_rf E 0, vi z] κ (fun v_ Y_ => if X 0 5 + 4 > 240 then (v_ = some (vi (-1)) ∧ Y_ = X) else (v_ = some (vi (X 0 5 + 4)) ∧ Y_ = g_sg X z 4)) := by
  refine x_Met.of [(false, x_rf E 0), (false, vi z)] [some (x_rf E 0), some (vi z), none] 1 (by decide) rfl rfl ⟨x_cr E (0), rfl, trivial⟩ rfl rfl ?_
  intro p e s m args below meth c hargs hin B
  have lp_17 : ∀ (n : Nat) (k j : Int) (Y : x_X), ((0 ≤ j ∧ j ≤ 4) ∧ k = 24 - 8 * j ∧ X 0 5 + 4 ≤ 240 ∧ Y = g_sg X z j) → ((5 - j).toNat < n) → x_G p l e (x_rm 0 0 0) s m args below meth c 3 E 0 0 (MQ below (x_Q E κ (fun v_ Y_ => if X 0 5 + 4 > 240 then (v_ = some (vi (-1)) ∧ Y_ = X) else (v_ = some (vi (X 0 5 + 4)) ∧ Y_ = g_sg X z 4))) args s 0 0 (fun q => E.1 ≤ q)) κ 17 [some (x_rf E 0), some (vi z), some (vi k)] [] Y := by
    intro n
    induction n with
    | zero => intro k j Y hinv hme; exfalso; omega
    | succ n ih =>
      intro k j Y hinv hme
      obtain ⟨hj, rfl, h4, rfl⟩ := hinv
      have e5 : g_sg X z j 0 5 = X 0 5 + j := by unfold g_sg; rw [if_neg (by omega), if_pos ⟨rfl, rfl⟩]
      have e6 : x_up (g_sg X z j) 31 (X 0 5 + j) (i_i2b (i_shr z (24 - 8 * j))) 0 5 = X 0 5 + j := by rw [x_up_o _ (by omega)]; exact e5
      refine x_iload_n B dX1_sign_17 rfl ?_
      refine x_if_lt B (tgt := 50) dX1_sign_18 (by decide) ⟨by omega, by omega⟩ (fun h_18 => ?_) (fun h_18 => ?_)
      · obtain rfl : j = 4 := by omega
        refine x_aload_n B dX1_sign_50 rfl ?_
        refine x_getI B (k := 5) 5 rfl rfl xc_0 (by decide) h0 (Or.inl q406) (fun _ h => h) dX1_sign_51 (fun r_51 => ?_)
        rw [e5]
        refine x_iret B (fun _ _ h => h) ?_ dX1_sign_54
        rw [if_neg (by omega)]; exact ⟨rfl, rfl⟩
      · refine x_aload_n B dX1_sign_21 rfl ?_
        refine x_getC0 B (k := 4) hT rfl rfl xc_0 (by decide) h0 (Or.inl q405) (fun _ h => h) dX1_sign_22 (fun k_22 => ?_)
        refine x_aload_n B dX1_sign_25 rfl ?_
        refine x_getI B (k := 5) 5 rfl rfl xc_0 (by decide) h0 (Or.inl q406) (fun _ h => h) dX1_sign_26 (fun r_26 => ?_)
        rw [e5] at r_26 ⊢
        refine x_iload_n B dX1_sign_29 rfl ?_
        refine x_iload_n B dX1_sign_30 rfl ?_
        refine x_ishr B dX1_sign_31 ?_
        refine x_i2b B dX1_sign_32 ?_
        refine x_bast B k_22 ⟨by omega, by omega⟩ (i_i2b_r _) dX1_sign_33 ?_
        refine x_aload_n B dX1_sign_34 rfl ?_
        refine x_dup B dX1_sign_35 (by first | rfl | exact x_cr _ _) ?_
        refine x_getI B (k := 5) 5 rfl rfl xc_0 (by decide) h0 (Or.inl q406) (fun _ h => h) dX1_sign_36 (fun r_36 => ?_)
        rw [e6] at r_36 ⊢
        refine x_iconst B dX1_sign_39 ?_
        refine x_iadd B dX1_sign_40 ?_
        refine x_putI B (k := 5) 5 rfl rfl rfl ⟨by omega, by omega⟩ xc_0 (by decide) rfl nn_0_5 (fun _ => rfl) h0 (Or.inl q406) (fun _ h => h) dX1_sign_41 ?_
        refine x_iinc_2 B dX1_sign_44 (by first | rfl | exact x_cr _ _) ?_
        refine x_goto B (tgt := 17) dX1_sign_47 (by decide) ?_
        refine ih _ (j + 1) _ ⟨⟨by omega, by omega⟩, by omega, h4, ?_⟩ (by omega)
        exact g_sg_s hj.1
  refine x_aload_n B dX1_sign_0 rfl ?_
  refine x_getI B (k := 5) 5 rfl rfl xc_0 (by decide) h0 (Or.inl q406) (fun _ h => h) dX1_sign_1 (fun r_1 => ?_)
  refine x_iconst B dX1_sign_4 ?_
  refine x_iadd B dX1_sign_5 ?_
  refine x_sipush B dX1_sign_6 (by decide) ?_
  refine x_icmp_le B (tgt := 14) dX1_sign_9 (by decide) ⟨by omega, by omega⟩ ⟨by omega, by omega⟩ (fun h_9 => ?_) (fun h_9 => ?_)
  · refine x_bipush B dX1_sign_14 (by decide) ?_
    refine x_ist_2 B dX1_sign_16 (by first | rfl | exact x_cr _ _) ?_
    exact lp_17 _ _ 0 X ⟨⟨by omega, by omega⟩, by omega, by omega, g_sg_0 X z⟩ (Nat.lt_succ_self _)
  · refine x_iconst B dX1_sign_12 ?_
    refine x_iret B (fun _ _ h => h) ?_ dX1_sign_13
    rw [if_pos (by omega)]; exact ⟨rfl, rfl⟩
theorem c_X1_lifter {l : Launch} {E : x_E} {κ : x_Ka} {X : x_X} {i t w : Int} (hC : n_C κ X) (hi0 : xR i) (ht0 : xR t) (hw0 : xR w) : x_Pu l yX1_lifter cX1_lifter 6 (some .int) 4 E κ X [x_rf E 0, vi i, vi t, vi w] (vi (u_lfr (X 1 2) (c_body X) (c_lot X) (c_pl X) (c_M X 3) i t w)) := by
  refine x_Met.of [(false, x_rf E 0), (false, vi i), (false, vi t), (false, vi w)] [some (x_rf E 0), some (vi i), some (vi t), some (vi w), none, none] 2 (by decide) rfl rfl ⟨x_cr E (0), rfl, rfl, rfl, trivial⟩ rfl rfl ?_
  intro p e s m args below meth c hargs hin B
  obtain ⟨hI, hP, hO, hW, hJ⟩ := id hC
  obtain ⟨hT, h0, hn, hl, hla⟩ := id hI
  have z1 := x_in_01 i 0 (X 1 2 - 1)
  have z2 := x_in_01 t 0 2
  refine x_aload_n B dX1_lifter_0 rfl ?_
  refine x_iload_n B dX1_lifter_1 rfl ?_
  refine x_goP (x_rV B h0 (show x_cl[0]? = some _ from rfl) (c_X1_isLifter hI ⟨by omega, by omega⟩) (lw_V q735 q737 qs13 q110 q738) hv_X1_isLifter ⟨by decide, by decide⟩ ⟨by decide, by decide⟩ rfl rfl (by simp [x_cr, x_c1, x_c2]) dX1_lifter_2) ?_
  refine x_if_eq B (tgt := 15) dX1_lifter_5 (by decide) ⟨by omega, by omega⟩ (fun h_5 => ?_) (fun h_5 => ?_)
  · refine x_iconst B dX1_lifter_15 ?_
    refine x_iret B (fun _ _ h => h) ?_ dX1_lifter_16
    exact ⟨congrArg (fun z => some (vi z)) (by unfold u_lfr; rw [if_neg (by omega)]), rfl⟩
  · refine x_iload_n B dX1_lifter_8 rfl ?_
    refine x_goP (x_rS B (c_X1_isLift ⟨by omega, by omega⟩) (lw_S q739 q740 q110 q741) hd_X1_isLift ⟨by decide, by decide⟩ ⟨by decide, by decide⟩ rfl rfl (by simp [x_cr, x_c1, x_c2]) dX1_lifter_9) ?_
    refine x_if_ne B (tgt := 17) dX1_lifter_12 (by decide) ⟨by omega, by omega⟩ (fun h_12 => ?_) (fun h_12 => ?_)
    · have hi : 0 ≤ i ∧ i < X 1 2 := by unfold x_in at h_5; split at h_5 <;> omega
      have ht : 0 ≤ t ∧ t ≤ 2 := by unfold x_in at h_12; split at h_12 <;> omega
      have wi := hW.2.1 i hi.1 hi.2
      have g3 : c_M X 3 (-1) 3 = X 3 3 := c_M_g (by omega)
      have s3 : c_M X 3 i 3 = X (3 + 1 + 1 + 2 * i) 3 := c_M_s hi (by omega)
      have s4 : c_M X 3 i 4 = X (3 + 1 + 1 + 2 * i) 4 := c_M_s hi (by omega)
      have s5 : c_M X 3 i 5 = X (3 + 1 + 1 + 2 * i) 5 := c_M_s hi (by omega)
      have s6 : c_M X 3 i 6 = X (3 + 1 + 1 + 2 * i) 6 := c_M_s hi (by omega)
      have s7 : c_M X 3 i 7 = X (3 + 1 + 1 + 2 * i) 7 := c_M_s hi (by omega)
      refine x_aload_n B dX1_lifter_17 rfl ?_
      refine x_getC0 B (k := 0) hT rfl rfl xc_0 (by decide) h0 (Or.inl q394) (fun _ h => h) dX1_lifter_18 (fun k_18 => ?_)
      refine x_iload_n B dX1_lifter_21 rfl ?_
      refine x_goP (x_rV B k_18 (show x_cl[1]? = some _ from rfl) (c_J2_get hT (by assumption) (by omega) ⟨by omega, by omega⟩) (lw_V q745 q372 q373 q113 q374) hv_J2_get ⟨by decide, by decide⟩ ⟨by decide, by decide⟩ rfl rfl (by simp [x_cr, x_c1, x_c2]) dX1_lifter_22) ?_
      refine x_cast B (hl _ hi.1 hi.2) (show x_cl[8]? = some _ from rfl) q746 dX1_lifter_25 ?_
      refine x_astw_4 B dX1_lifter_28 (by first | rfl | exact x_cr _ _) ?_
      refine x_aload_n B dX1_lifter_30 rfl ?_
      refine x_getC0 B (k := 2) hT rfl rfl xc_0 (by decide) h0 (Or.inl q400) (fun _ h => h) dX1_lifter_31 (fun k_31 => ?_)
      refine x_getC1 B (k := 0) hT rfl rfl xc_2 (by decide) k_31 (Or.inr q244) (fun _ h => h) dX1_lifter_34 (fun k_34 => ?_)
      refine x_iload_n B dX1_lifter_37 rfl ?_
      refine x_aaldC B (t := 10) hT k_34 rfl rfl rfl rfl ⟨by omega, by omega⟩ dX1_lifter_38 (fun k_38 => ?_)
      refine x_astw_5 B dX1_lifter_39 (by first | rfl | exact x_cr _ _) ?_
      refine x_iload_n B dX1_lifter_41 rfl ?_
      by_cases hs_0 : w = 0
      · refine x_tswI B (off := 62) (tgt := 104) ⟨by omega, by omega⟩ hs_0 dX1_lifter_42 ⟨by decide, by decide⟩ (by decide) (by decide) ?_
        refine x_aload B dX1_lifter_104 rfl ?_
        refine x_getI B (k := 0) 0 rfl rfl xc_8 (by decide) (hl _ hi.1 hi.2) (Or.inr q518) (fun _ h => h) dX1_lifter_106 (fun r_106 => ?_)
        refine x_iret B (fun _ _ h => h) ?_ dX1_lifter_109
        exact ⟨congrArg (fun z => some (vi z)) (by unfold u_lfr; rw [if_pos ⟨by omega, by omega⟩, if_pos hs_0]; unfold c_body; rw [if_pos hi]), rfl⟩
      by_cases hs_1 : w = 1
      · refine x_tswI B (off := 68) (tgt := 110) ⟨by omega, by omega⟩ hs_1 dX1_lifter_42 ⟨by decide, by decide⟩ (by decide) (by decide) ?_
        refine x_aload B dX1_lifter_110 rfl ?_
        refine x_getI B (k := 1) 1 rfl rfl xc_8 (by decide) (hl _ hi.1 hi.2) (Or.inr q521) (fun _ h => h) dX1_lifter_112 (fun r_112 => ?_)
        refine x_iret B (fun _ _ h => h) ?_ dX1_lifter_115
        exact ⟨congrArg (fun z => some (vi z)) (by unfold u_lfr; rw [if_pos ⟨by omega, by omega⟩, if_neg (by omega), if_pos hs_1]; unfold c_lot; rw [if_pos hi]), rfl⟩
      by_cases hs_2 : w = 2
      · refine x_tswI B (off := 74) (tgt := 116) ⟨by omega, by omega⟩ hs_2 dX1_lifter_42 ⟨by decide, by decide⟩ (by decide) (by decide) ?_
        refine x_aload B dX1_lifter_116 rfl ?_
        refine x_iload_n B dX1_lifter_118 rfl ?_
        refine x_iconst B dX1_lifter_119 ?_
        refine x_isub B dX1_lifter_120 ?_
        refine x_goP (x_rV B (hl _ hi.1 hi.2) (show x_cl[8]? = some _ from rfl) (c_X10_plan hT (hl _ hi.1 hi.2) ⟨by omega, by omega⟩) (lw_V q747 q748 q749 q124 q750) hv_X10_plan ⟨by decide, by decide⟩ ⟨by decide, by decide⟩ rfl rfl (by simp [x_cr, x_c1, x_c2]) dX1_lifter_121) ?_
        have kpl : κ (X 2 i + 11 + (w - 2)) = some (.inr (0, 3)) := by
          rcases (show w = 2 ∨ w = 3 ∨ w = 4 by omega) with e | e | e <;> rw [e]
          · rw [show X 2 i + 11 + (2 - 2) = x_z (1, 11, .inr (0, 3)) (X 2 i) by show _ = X 2 i + 11; omega]; exact hT.1 _ 8 (hl _ hi.1 hi.2) 3 (1, 11, .inr (0, 3)) rfl
          · rw [show X 2 i + 11 + (3 - 2) = x_z (1, 12, .inr (0, 3)) (X 2 i) by show _ = X 2 i + 12; omega]; exact hT.1 _ 8 (hl _ hi.1 hi.2) 4 (1, 12, .inr (0, 3)) rfl
          · rw [show X 2 i + 11 + (4 - 2) = x_z (1, 13, .inr (0, 3)) (X 2 i) by show _ = X 2 i + 13; omega]; exact hT.1 _ 8 (hl _ hi.1 hi.2) 5 (1, 13, .inr (0, 3)) rfl
        refine x_iload_n B dX1_lifter_124 rfl ?_
        refine x_iald B kpl ⟨by omega, by omega⟩ dX1_lifter_125 (fun r_125 => ?_)
        refine x_iret B (fun _ _ h => h) ?_ dX1_lifter_126
        first
        | exact ⟨congrArg (fun z => some (vi z)) (by unfold u_lfr; rw [if_pos ⟨by omega, by omega⟩, if_neg (by omega), if_neg (by omega), if_pos hs_2]; unfold c_pl; rw [if_pos hi, hs_2]; congr 1), rfl⟩
        | exact ⟨congrArg (fun z => some (vi z)) (by unfold u_lfr; rw [if_pos ⟨by omega, by omega⟩, if_neg (by omega), if_neg (by omega), if_neg (by omega), if_pos hs_3]; unfold c_pl; rw [if_pos hi, hs_3]; congr 1), rfl⟩
        | exact ⟨congrArg (fun z => some (vi z)) (by unfold u_lfr; rw [if_pos ⟨by omega, by omega⟩, if_neg (by omega), if_neg (by omega), if_neg (by omega), if_neg (by omega), if_pos hs_4]; unfold c_pl; rw [if_pos hi, hs_4]; congr 1), rfl⟩
      by_cases hs_3 : w = 3
      · refine x_tswI B (off := 74) (tgt := 116) ⟨by omega, by omega⟩ hs_3 dX1_lifter_42 ⟨by decide, by decide⟩ (by decide) (by decide) ?_
        refine x_aload B dX1_lifter_116 rfl ?_
        refine x_iload_n B dX1_lifter_118 rfl ?_
        refine x_iconst B dX1_lifter_119 ?_
        refine x_isub B dX1_lifter_120 ?_
        refine x_goP (x_rV B (hl _ hi.1 hi.2) (show x_cl[8]? = some _ from rfl) (c_X10_plan hT (hl _ hi.1 hi.2) ⟨by omega, by omega⟩) (lw_V q747 q748 q749 q124 q750) hv_X10_plan ⟨by decide, by decide⟩ ⟨by decide, by decide⟩ rfl rfl (by simp [x_cr, x_c1, x_c2]) dX1_lifter_121) ?_
        have kpl : κ (X 2 i + 11 + (w - 2)) = some (.inr (0, 3)) := by
          rcases (show w = 2 ∨ w = 3 ∨ w = 4 by omega) with e | e | e <;> rw [e]
          · rw [show X 2 i + 11 + (2 - 2) = x_z (1, 11, .inr (0, 3)) (X 2 i) by show _ = X 2 i + 11; omega]; exact hT.1 _ 8 (hl _ hi.1 hi.2) 3 (1, 11, .inr (0, 3)) rfl
          · rw [show X 2 i + 11 + (3 - 2) = x_z (1, 12, .inr (0, 3)) (X 2 i) by show _ = X 2 i + 12; omega]; exact hT.1 _ 8 (hl _ hi.1 hi.2) 4 (1, 12, .inr (0, 3)) rfl
          · rw [show X 2 i + 11 + (4 - 2) = x_z (1, 13, .inr (0, 3)) (X 2 i) by show _ = X 2 i + 13; omega]; exact hT.1 _ 8 (hl _ hi.1 hi.2) 5 (1, 13, .inr (0, 3)) rfl
        refine x_iload_n B dX1_lifter_124 rfl ?_
        refine x_iald B kpl ⟨by omega, by omega⟩ dX1_lifter_125 (fun r_125 => ?_)
        refine x_iret B (fun _ _ h => h) ?_ dX1_lifter_126
        first
        | exact ⟨congrArg (fun z => some (vi z)) (by unfold u_lfr; rw [if_pos ⟨by omega, by omega⟩, if_neg (by omega), if_neg (by omega), if_pos hs_2]; unfold c_pl; rw [if_pos hi, hs_2]; congr 1), rfl⟩
        | exact ⟨congrArg (fun z => some (vi z)) (by unfold u_lfr; rw [if_pos ⟨by omega, by omega⟩, if_neg (by omega), if_neg (by omega), if_neg (by omega), if_pos hs_3]; unfold c_pl; rw [if_pos hi, hs_3]; congr 1), rfl⟩
        | exact ⟨congrArg (fun z => some (vi z)) (by unfold u_lfr; rw [if_pos ⟨by omega, by omega⟩, if_neg (by omega), if_neg (by omega), if_neg (by omega), if_neg (by omega), if_pos hs_4]; unfold c_pl; rw [if_pos hi, hs_4]; congr 1), rfl⟩
      by_cases hs_4 : w = 4
      · refine x_tswI B (off := 74) (tgt := 116) ⟨by omega, by omega⟩ hs_4 dX1_lifter_42 ⟨by decide, by decide⟩ (by decide) (by decide) ?_
        refine x_aload B dX1_lifter_116 rfl ?_
        refine x_iload_n B dX1_lifter_118 rfl ?_
        refine x_iconst B dX1_lifter_119 ?_
        refine x_isub B dX1_lifter_120 ?_
        refine x_goP (x_rV B (hl _ hi.1 hi.2) (show x_cl[8]? = some _ from rfl) (c_X10_plan hT (hl _ hi.1 hi.2) ⟨by omega, by omega⟩) (lw_V q747 q748 q749 q124 q750) hv_X10_plan ⟨by decide, by decide⟩ ⟨by decide, by decide⟩ rfl rfl (by simp [x_cr, x_c1, x_c2]) dX1_lifter_121) ?_
        have kpl : κ (X 2 i + 11 + (w - 2)) = some (.inr (0, 3)) := by
          rcases (show w = 2 ∨ w = 3 ∨ w = 4 by omega) with e | e | e <;> rw [e]
          · rw [show X 2 i + 11 + (2 - 2) = x_z (1, 11, .inr (0, 3)) (X 2 i) by show _ = X 2 i + 11; omega]; exact hT.1 _ 8 (hl _ hi.1 hi.2) 3 (1, 11, .inr (0, 3)) rfl
          · rw [show X 2 i + 11 + (3 - 2) = x_z (1, 12, .inr (0, 3)) (X 2 i) by show _ = X 2 i + 12; omega]; exact hT.1 _ 8 (hl _ hi.1 hi.2) 4 (1, 12, .inr (0, 3)) rfl
          · rw [show X 2 i + 11 + (4 - 2) = x_z (1, 13, .inr (0, 3)) (X 2 i) by show _ = X 2 i + 13; omega]; exact hT.1 _ 8 (hl _ hi.1 hi.2) 5 (1, 13, .inr (0, 3)) rfl
        refine x_iload_n B dX1_lifter_124 rfl ?_
        refine x_iald B kpl ⟨by omega, by omega⟩ dX1_lifter_125 (fun r_125 => ?_)
        refine x_iret B (fun _ _ h => h) ?_ dX1_lifter_126
        first
        | exact ⟨congrArg (fun z => some (vi z)) (by unfold u_lfr; rw [if_pos ⟨by omega, by omega⟩, if_neg (by omega), if_neg (by omega), if_pos hs_2]; unfold c_pl; rw [if_pos hi, hs_2]; congr 1), rfl⟩
        | exact ⟨congrArg (fun z => some (vi z)) (by unfold u_lfr; rw [if_pos ⟨by omega, by omega⟩, if_neg (by omega), if_neg (by omega), if_neg (by omega), if_pos hs_3]; unfold c_pl; rw [if_pos hi, hs_3]; congr 1), rfl⟩
        | exact ⟨congrArg (fun z => some (vi z)) (by unfold u_lfr; rw [if_pos ⟨by omega, by omega⟩, if_neg (by omega), if_neg (by omega), if_neg (by omega), if_neg (by omega), if_pos hs_4]; unfold c_pl; rw [if_pos hi, hs_4]; congr 1), rfl⟩
      by_cases hs_5 : w = 5
      · refine x_tswI B (off := 85) (tgt := 127) ⟨by omega, by omega⟩ hs_5 dX1_lifter_42 ⟨by decide, by decide⟩ (by decide) (by decide) ?_
        refine x_aload B dX1_lifter_127 rfl ?_
        refine x_getC1 B (k := 0) hT rfl rfl xc_3 (by decide) k_38 (Or.inr q196) (fun _ h => h) dX1_lifter_129 (fun k_129 => ?_)
        refine x_iload_n B dX1_lifter_132 rfl ?_
        refine x_iald B k_129 ⟨by omega, by omega⟩ dX1_lifter_133 (fun r_133 => ?_)
        refine x_iret B (fun _ _ h => h) ?_ dX1_lifter_134
        exact ⟨congrArg (fun z => some (vi z)) (by unfold u_lfr; rw [if_pos ⟨by omega, by omega⟩, if_neg (by omega), if_neg (by omega), if_neg (by omega), if_neg (by omega), if_neg (by omega), if_pos hs_5]; rw [c_M_b hi (by omega)]; congr 1; omega), rfl⟩
      by_cases hs_6 : w = 6
      · refine x_tswI B (off := 93) (tgt := 135) ⟨by omega, by omega⟩ hs_6 dX1_lifter_42 ⟨by decide, by decide⟩ (by decide) (by decide) ?_
        refine x_aload B dX1_lifter_135 rfl ?_
        refine x_getI B (k := 3) 3 rfl rfl xc_3 (by decide) k_38 (Or.inr q211) (fun _ h => h) dX1_lifter_137 (fun r_137 => ?_)
        refine x_iret B (fun _ _ h => h) ?_ dX1_lifter_140
        exact ⟨congrArg (fun z => some (vi z)) (by unfold u_lfr; rw [if_pos ⟨by omega, by omega⟩, if_neg (by omega), if_neg (by omega), if_neg (by omega), if_neg (by omega), if_neg (by omega), if_neg (by omega), if_pos hs_6]; rw [s3]), rfl⟩
      by_cases hs_7 : w = 7
      · refine x_tswI B (off := 99) (tgt := 141) ⟨by omega, by omega⟩ hs_7 dX1_lifter_42 ⟨by decide, by decide⟩ (by decide) (by decide) ?_
        refine x_aload B dX1_lifter_141 rfl ?_
        refine x_aload_n B dX1_lifter_143 rfl ?_
        refine x_getC0 B (k := 2) hT rfl rfl xc_0 (by decide) h0 (Or.inl q400) (fun _ h => h) dX1_lifter_144 (fun k_144 => ?_)
        refine x_getI B (k := 3) 3 rfl rfl xc_2 (by decide) k_144 (Or.inr q253) (fun _ h => h) dX1_lifter_147 (fun r_147 => ?_)
        refine x_goP (x_rV B k_38 (show x_cl[3]? = some _ from rfl) (c_X3_least hT (by assumption) ⟨by omega, by omega⟩) (lw_V q777 q778 q779 q115 q780) hv_X3_least ⟨by decide, by decide⟩ ⟨by decide, by decide⟩ rfl rfl (by simp [x_cr, x_c1, x_c2]) dX1_lifter_150) ?_
        refine x_iret B (fun _ _ h => h) ?_ dX1_lifter_153
        exact ⟨congrArg (fun z => some (vi z)) (by unfold u_lfr; rw [if_pos ⟨by omega, by omega⟩, if_neg (by omega), if_neg (by omega), if_neg (by omega), if_neg (by omega), if_neg (by omega), if_neg (by omega), if_neg (by omega), if_pos hs_7]; unfold m_least s_least; rw [s3, s6, s4, g3]), rfl⟩
      by_cases hs_8 : w = 8
      · refine x_tswI B (off := 112) (tgt := 154) ⟨by omega, by omega⟩ hs_8 dX1_lifter_42 ⟨by decide, by decide⟩ (by decide) (by decide) ?_
        refine x_aload B dX1_lifter_154 rfl ?_
        refine x_getI B (k := 5) 5 rfl rfl xc_3 (by decide) k_38 (Or.inr q215) (fun _ h => h) dX1_lifter_156 (fun r_156 => ?_)
        refine x_iret B (fun _ _ h => h) ?_ dX1_lifter_159
        exact ⟨congrArg (fun z => some (vi z)) (by unfold u_lfr; rw [if_pos ⟨by omega, by omega⟩, if_neg (by omega), if_neg (by omega), if_neg (by omega), if_neg (by omega), if_neg (by omega), if_neg (by omega), if_neg (by omega), if_neg (by omega), if_pos hs_8]; rw [s5]), rfl⟩
      by_cases hs_9 : w = 9
      · refine x_tswI B (off := 118) (tgt := 160) ⟨by omega, by omega⟩ hs_9 dX1_lifter_42 ⟨by decide, by decide⟩ (by decide) (by decide) ?_
        refine x_aload B dX1_lifter_160 rfl ?_
        refine x_goP (x_rV B k_38 (show x_cl[3]? = some _ from rfl) (c_X3_isToTry hT (by assumption)) (lw_V q782 q783 q784 q115 q785) hv_X3_isToTry ⟨by decide, by decide⟩ ⟨by decide, by decide⟩ rfl rfl (by simp [x_cr, x_c1, x_c2]) dX1_lifter_162) ?_
        have tr1 : 0 ≤ s_toTry X (3 + 1 + 1 + 2 * i) ∧ s_toTry X (3 + 1 + 1 + 2 * i) ≤ 1 := by unfold s_toTry; split <;> omega
        refine x_goP (x_rS B (c_X1_bit ⟨by omega, by omega⟩) (lw_S q786 q787 q110 q788) hd_X1_bit ⟨by decide, by decide⟩ ⟨by decide, by decide⟩ rfl rfl (by simp [x_cr, x_c1, x_c2]) dX1_lifter_165) ?_
        refine x_iret B (fun _ _ h => h) ?_ dX1_lifter_168
        exact ⟨congrArg (fun z => some (vi z)) (by unfold u_lfr; rw [if_pos ⟨by omega, by omega⟩, if_neg (by omega), if_neg (by omega), if_neg (by omega), if_neg (by omega), if_neg (by omega), if_neg (by omega), if_neg (by omega), if_neg (by omega), if_neg (by omega), if_pos hs_9]; unfold s_toTry; rw [s3, s6]), rfl⟩
      by_cases hs_10 : w = 10
      · refine x_tswI B (off := 127) (tgt := 169) ⟨by omega, by omega⟩ hs_10 dX1_lifter_42 ⟨by decide, by decide⟩ (by decide) (by decide) ?_
        refine x_aload B dX1_lifter_169 rfl ?_
        refine x_getZ B (k := 7) 7 rfl rfl xc_3 (by decide) k_38 (Or.inr q223) (fun _ h => h) dX1_lifter_171 (fun r_171 => ?_)
        refine x_goP (x_rS B (c_X1_bit ⟨by omega, by omega⟩) (lw_S q786 q787 q110 q788) hd_X1_bit ⟨by decide, by decide⟩ ⟨by decide, by decide⟩ rfl rfl (by simp [x_cr, x_c1, x_c2]) dX1_lifter_174) ?_
        refine x_iret B (fun _ _ h => h) ?_ dX1_lifter_177
        exact ⟨congrArg (fun z => some (vi z)) (by unfold u_lfr; rw [if_pos ⟨by omega, by omega⟩, if_neg (by omega), if_neg (by omega), if_neg (by omega), if_neg (by omega), if_neg (by omega), if_neg (by omega), if_neg (by omega), if_neg (by omega), if_neg (by omega), if_neg (by omega), if_pos hs_10]; rw [s7]), rfl⟩
      by_cases hs_11 : w = 11
      · refine x_tswI B (off := 136) (tgt := 178) ⟨by omega, by omega⟩ hs_11 dX1_lifter_42 ⟨by decide, by decide⟩ (by decide) (by decide) ?_
        refine x_aload B dX1_lifter_178 rfl ?_
        refine x_goP (x_rV B k_38 (show x_cl[3]? = some _ from rfl) (c_X3_sum hT (by assumption)) (lw_V q789 q790 q791 q115 q792) hv_X3_sum ⟨by decide, by decide⟩ ⟨by decide, by decide⟩ rfl rfl (by simp [x_cr, x_c1, x_c2]) dX1_lifter_180) ?_
        refine x_iret B (fun _ _ h => h) ?_ dX1_lifter_183
        exact ⟨congrArg (fun z => some (vi z)) (by unfold u_lfr; rw [if_pos ⟨by omega, by omega⟩, if_neg (by omega), if_neg (by omega), if_neg (by omega), if_neg (by omega), if_neg (by omega), if_neg (by omega), if_neg (by omega), if_neg (by omega), if_neg (by omega), if_neg (by omega), if_neg (by omega), if_pos hs_11]; exact c_sum hi), rfl⟩
      refine x_tswO B (tgt := 184) ⟨by omega, by omega⟩ dX1_lifter_42 (by omega) (by decide) ?_
      refine x_iconst B dX1_lifter_184 ?_
      refine x_iret B (fun _ _ h => h) ?_ dX1_lifter_185
      exact ⟨congrArg (fun z => some (vi z)) (by unfold u_lfr; rw [if_pos ⟨by omega, by omega⟩, if_neg (by omega), if_neg (by omega), if_neg (by omega), if_neg (by omega), if_neg (by omega), if_neg (by omega), if_neg (by omega), if_neg (by omega), if_neg (by omega), if_neg (by omega), if_neg (by omega), if_neg (by omega)]), rfl⟩
    · refine x_iconst B dX1_lifter_15 ?_
      refine x_iret B (fun _ _ h => h) ?_ dX1_lifter_16
      exact ⟨congrArg (fun z => some (vi z)) (by unfold u_lfr; rw [if_neg (by omega)]), rfl⟩
theorem c_O_r {κ : x_Ka} {X : x_X} {i t x f : Int} (hC : n_C κ X) (hi : 0 ≤ i ∧ i < X 1 2) (ht : 0 ≤ t ∧ t < 3) (hf : 0 ≤ f) : 0 ≤ c_O X i t x f ∧ c_O X i t x f ≤ 1000 := by
  unfold c_O; rw [if_pos ⟨hi.1, hi.2, ht.1, ht.2⟩]; exact l_odds_r (hC.2.2.1.1 i hi.1 hi.2) ht hf hC.2.2.1.2.1
/-- rows are told anew -/
theorem k_eq.z7 {X Y : x_X} (h : k_eq X Y) {z : Int} : k_eq X (x_up Y 0 7 z) := h.up7 (Or.inl rfl)
theorem k_eq.tl {X Y : x_X} (h : k_eq X Y) {z : Int} (hlo : 88 ≤ X (-1) 0) : k_eq X (x_tl Y z) := (h.up (Or.inr (Or.inl rfl)) hlo).up7 (Or.inl rfl)
theorem f_eq.tl {X Y : x_X} (h : f_eq X Y) {z : Int} : f_eq X (x_tl Y z) := (h.up (by omega)).up (by omega)
theorem c_X1_called {l : Launch} {E : x_E} {κ : x_Ka} {X : x_X}  (hC : n_C κ X) (k87 : κ 87 = some (.inr (1, 1))) : x_Met l yX1_called cX1_called 2 (some .int) 5 0 0 E κ X [x_rf E 0] κ (fun v_ Y_ => if m_cal (X 1 2) (c_lot X) (c_M X 3) = -1 then (v_ = some (vi (-2)) ∧ Y_ = X) else (v_ = some (vi (m_cal (X 1 2) (c_lot X) (c_M X 3))) ∧ k_eq X Y_ ∧ f_eq X Y_ ∧ Y_ 0 7 = 2 ∧ Y_ 32 0 = c_M X 3 (m_cal (X 1 2) (c_lot X) (c_M X 3)) 3 ∧ Y_ 32 1 = c_O X (m_cal (X 1 2) (c_lot X) (c_M X 3)) (c_M X 3 (-1) 1) (c_M X 3 (m_cal (X 1 2) (c_lot X) (c_M X 3)) 3) (c_M X 3 (m_cal (X 1 2) (c_lot X) (c_M X 3)) 2))) := by
  refine x_Met.of [(false, x_rf E 0)] [some (x_rf E 0), none] 1 (by decide) rfl rfl ⟨x_cr E (0), trivial⟩ rfl rfl ?_
  intro p e s m args below meth c hargs hin B
  obtain ⟨hI, hP, hO, hW, hJ⟩ := id hC
  obtain ⟨hT, h0, hn, hl, hla⟩ := id hI
  refine x_lows (fun hlow => ?_)
  have hlo := hI.lo k87 hlow
  have hlo0 := hlo.1
  have hcr := m_cb_r (c_lot X) (c_M X 3) (X 1 2).toNat
  generalize hle : m_cal (X 1 2) (c_lot X) (c_M X 3) = l0
  have hle2 : m_cb (c_lot X) (c_M X 3) (X 1 2).toNat = l0 := hle
  rw [hle2] at hcr
  have u7 : ∀ a, a ≠ 0 → (x_up X 0 7 0) a = X a := fun a h => x_up_o X h
  refine x_aload_n B dX1_called_0 rfl ?_
  refine x_getC0 B (k := 2) hT rfl rfl xc_0 (by decide) h0 (Or.inl q400) (fun _ h => h) dX1_called_1 (fun k_1 => ?_)
  refine x_goP (x_rV B k_1 (show x_cl[2]? = some _ from rfl) (c_X2_called hI (hT.1 0 0 h0 2 (0, 3, .inl (2, 1)) rfl) (by omega)) (lw_V q797 q798 q799 q114 q800) hv_X2_called ⟨by decide, by decide⟩ ⟨by decide, by decide⟩ rfl rfl (by simp [x_cr, x_c1, x_c2]) dX1_called_4) ?_
  rw [hle]
  refine x_ist_1 B dX1_called_7 (by first | rfl | exact x_cr _ _) ?_
  refine x_iload_n B dX1_called_8 rfl ?_
  refine x_iconst B dX1_called_9 ?_
  refine x_icmp_ne B (tgt := 16) dX1_called_10 (by decide) ⟨by omega, by omega⟩ ⟨by omega, by omega⟩ (fun h_10 => ?_) (fun h_10 => ?_)
  · have hco := m_cb_ok (c_lot X) (c_M X 3) (X 1 2).toNat (by omega)
    rw [hle2] at hco
    have hl0 : 0 ≤ l0 ∧ l0 < X 1 2 := by omega
    have w1 := hW.1
    have w2 := hW.2.1 l0 hl0.1 hl0.2
    have w3 := hW.2.2 l0 hl0.1 hl0.2
    have g1 : c_M X 3 (-1) 1 = X 3 1 := c_M_g (by omega)
    have s3 : c_M X 3 l0 3 = X (3 + 1 + 1 + 2 * l0) 3 := c_M_s hl0 (by omega)
    have s2 : c_M X 3 l0 2 = X (3 + 1 + 1 + 2 * l0) 2 := c_M_s hl0 (by omega)
    have hlt : X 3 1 < 3 := by rcases Int.lt_or_le (X 3 1) 3 with q | q; exact q; exfalso; have := w3.2.1 (by omega); omega
    refine x_aload_n B dX1_called_16 rfl ?_
    refine x_iconst B dX1_called_17 ?_
    refine x_putI B (k := 7) 7 rfl rfl rfl ⟨by omega, by omega⟩ xc_0 (by decide) rfl nn_0_7 (fun _ => rfl) h0 (Or.inl q408) (fun _ h => h) dX1_called_18 ?_
    have hIu : n_I κ (x_up X 0 7 0) := by unfold n_I at *; rw [u7 1 (by omega), u7 2 (by omega)]; exact hI
    refine x_aload_n B dX1_called_21 rfl ?_
    refine x_aload_n B dX1_called_22 rfl ?_
    refine x_getC0 B (k := 2) hT rfl rfl xc_0 (by decide) h0 (Or.inl q400) (fun _ h => h) dX1_called_23 (fun k_23 => ?_)
    refine x_getC1 B (k := 0) hT rfl rfl xc_2 (by decide) k_23 (Or.inr q244) (fun _ h => h) dX1_called_26 (fun k_26 => ?_)
    refine x_iload_n B dX1_called_29 rfl ?_
    refine x_aaldC B (t := 10) hT k_26 rfl rfl rfl rfl ⟨by omega, by omega⟩ dX1_called_30 (fun k_30 => ?_)
    refine x_getI B (k := 3) 3 rfl rfl xc_3 (by decide) k_30 (Or.inr q211) (fun _ h => h) dX1_called_31 (fun r_31 => ?_)
    rw [u7 _ (by omega)] at r_31 ⊢
    refine x_i2l B dX1_called_34 ⟨by omega, by omega⟩ ?_
    refine x_goV (x_rV B h0 (show x_cl[0]? = some _ from rfl) (c_X1_tell hT h0 ⟨by rw [x_up_s]; omega, by rw [x_up_s]; omega⟩ ⟨by omega, by omega⟩) (lw_V q806 q808 qs16 q110 q809) hv_X1_tell ⟨by decide, by decide⟩ ⟨by decide, by decide⟩ rfl rfl (by simp [x_cr, x_c1, x_c2]) dX1_called_35) ?_
    have et : x_up (x_up (x_up X 0 7 0) 32 ((x_up X 0 7 0) 0 7) (X (3 + 1 + 1 + 2 * l0) 3)) 0 7 ((x_up X 0 7 0) 0 7 + 1) = x_tl (x_up X 0 7 0) (X (3 + 1 + 1 + 2 * l0) 3) := rfl
    rw [et]
    have t1 := x_tl1 (x_up X 0 7 0) (X (3 + 1 + 1 + 2 * l0) 3) (x_up_s X 0 7 0)
    have hk1 : k_eq X (x_tl (x_up X 0 7 0) (X (3 + 1 + 1 + 2 * l0) 3)) := ((k_eq.rf X).z7).tl hlo0
    have hv1 := hk1.v hI hlo
    have hC1 := hv1.C hC
    generalize hY1 : x_tl (x_up X 0 7 0) (X (3 + 1 + 1 + 2 * l0) 3) = Y1 at t1 hk1 hv1 hC1 ⊢
    have y1 : Y1 1 2 = X 1 2 := congrFun (hv1.1 1 (by omega) (by omega)) 2
    have y3 : Y1 3 = X 3 := hv1.1 3 (by omega) (by omega)
    have ys : Y1 (3 + 1 + 1 + 2 * l0) = X (3 + 1 + 1 + 2 * l0) := hv1.1 _ (by omega) (by omega)
    refine x_aload_n B dX1_called_38 rfl ?_
    refine x_aload_n B dX1_called_39 rfl ?_
    refine x_getC0 B (k := 2) hT rfl rfl xc_0 (by decide) h0 (Or.inl q400) (fun _ h => h) dX1_called_40 (fun k_40 => ?_)
    refine x_iload_n B dX1_called_43 rfl ?_
    refine x_goP (x_rV B k_40 (show x_cl[2]? = some _ from rfl) (c_X2_odds hC1.1 (hT.1 0 0 h0 2 (0, 3, .inl (2, 1)) rfl) hC1.2.2.1 ⟨by omega, by rw [y1]; omega⟩ ⟨by rw [y3]; omega, by rw [y3]; omega⟩ ⟨by rw [ys]; omega, by rw [ys]; omega⟩) (lw_V q810 q811 q812 q114 q813) hv_X2_odds ⟨by decide, by decide⟩ ⟨by decide, by decide⟩ rfl rfl (by simp [x_cr, x_c1, x_c2]) dX1_called_44) ?_
    rw [y3, ys, hv1.O]
    have hOr := c_O_r (x := X (3 + 1 + 1 + 2 * l0) 3) hC hl0 ⟨by omega, hlt⟩ (show 0 ≤ X (3 + 1 + 1 + 2 * l0) 2 by omega)
    refine x_i2l B dX1_called_47 ⟨by omega, by omega⟩ ?_
    refine x_goV (x_rV B h0 (show x_cl[0]? = some _ from rfl) (c_X1_tell hT h0 ⟨by rw [t1.1]; omega, by rw [t1.1]; omega⟩ ⟨by omega, by omega⟩) (lw_V q806 q808 qs16 q110 q809) hv_X1_tell ⟨by decide, by decide⟩ ⟨by decide, by decide⟩ rfl rfl (by simp [x_cr, x_c1, x_c2]) dX1_called_48) ?_
    refine x_iload_n B dX1_called_51 rfl ?_
    refine x_iret B (fun _ _ h => h) ?_ dX1_called_52
    rw [if_neg (by omega)]
    have t2 := x_tl1 Y1 (c_O X l0 (X 3 1) (X (3 + 1 + 1 + 2 * l0) 3) (X (3 + 1 + 1 + 2 * l0) 2)) t1.1
    have hf1 : f_eq X Y1 := by rw [← hY1]; exact ((f_eq.up (fun _ _ _ => rfl) (by omega))).tl
    refine ⟨rfl, hk1.tl hlo0, hf1.tl, t2.1, ?_, ?_⟩
    · rw [s3]; exact (t2.2.2 0 (by omega)).trans t1.2.1
    · rw [g1, s3, s2]; exact t2.2.1
  · refine x_bipush B dX1_called_13 (by decide) ?_
    refine x_iret B (fun _ _ h => h) ?_ dX1_called_15
    rw [if_pos (by omega)]; exact ⟨rfl, rfl⟩
theorem c_X1_asks {l : Launch} {E : x_E} {κ : x_Ka} {X : x_X} {i w : Int} (hC : n_C κ X) (hi0 : xR i) (hw0 : xR w) : x_Met l yX1_asks cX1_asks 4 (some .int) 4 0 0 E κ X [x_rf E 0, vi i, vi w] κ (fun v_ Y_ => v_ = some (vi (u_asks (X 1 2) (c_M X 3) i w)) ∧ Y_ = (if 0 ≤ u_asks (X 1 2) (c_M X 3) i w then x_up (x_up X (3 + 1 + 1 + 2 * i) 3 w) (3 + 1 + 1 + 2 * i) 5 (u_asks (X 1 2) (c_M X 3) i w) else X)) := by
  refine x_Met.of [(false, x_rf E 0), (false, vi i), (false, vi w)] [some (x_rf E 0), some (vi i), some (vi w), none] 1 (by decide) rfl rfl ⟨x_cr E (0), rfl, rfl, trivial⟩ rfl rfl ?_
  intro p e s m args below meth c hargs hin B
  obtain ⟨hI, hP, hO, hW, hJ⟩ := id hC
  obtain ⟨hT, h0, hn, hl, hla⟩ := id hI
  have z1 := x_in_01 i 0 (X 1 2 - 1)
  have z2 := x_in_01 w 1 40
  refine x_aload_n B dX1_asks_0 rfl ?_
  refine x_iload_n B dX1_asks_1 rfl ?_
  refine x_goP (x_rV B h0 (show x_cl[0]? = some _ from rfl) (c_X1_isLifter hI ⟨by omega, by omega⟩) (lw_V q735 q737 qs13 q110 q738) hv_X1_isLifter ⟨by decide, by decide⟩ ⟨by decide, by decide⟩ rfl rfl (by simp [x_cr, x_c1, x_c2]) dX1_asks_2) ?_
  refine x_if_eq B (tgt := 20) dX1_asks_5 (by decide) ⟨by omega, by omega⟩ (fun h_5 => ?_) (fun h_5 => ?_)
  · refine x_iconst B dX1_asks_20 ?_
    refine x_iret B (fun _ _ h => h) ?_ dX1_asks_21
    have eu : u_asks (X 1 2) (c_M X 3) i w = -1 := by unfold u_asks; rw [if_neg (by omega)]
    rw [eu]; exact ⟨rfl, rfl⟩
  · refine x_iload_n B dX1_asks_8 rfl ?_
    refine x_i2l B dX1_asks_9 ⟨by omega, by omega⟩ ?_
    refine x_lconst B 1 dX1_asks_10 (by decide) ?_
    refine x_ldc2 B (40) q743 (by decide) dX1_asks_11 ?_
    refine x_goP (x_rS B (c_X1_in ⟨by omega, by omega⟩ ⟨by omega, by omega⟩ ⟨by omega, by omega⟩) (lw_S q464 q465 q110 q466) hd_X1_in ⟨by decide, by decide⟩ ⟨by decide, by decide⟩ rfl rfl (by simp [x_cr, x_c1, x_c2]) dX1_asks_14) ?_
    refine x_if_ne B (tgt := 22) dX1_asks_17 (by decide) ⟨by omega, by omega⟩ (fun h_17 => ?_) (fun h_17 => ?_)
    · have hi : 0 ≤ i ∧ i < X 1 2 := by unfold x_in at h_5; split at h_5 <;> omega
      have hw : 1 ≤ w ∧ w ≤ 40 := by unfold x_in at h_17; split at h_17 <;> omega
      have wi := hW.2.1 i hi.1 hi.2
      have g3 : c_M X 3 (-1) 3 = X 3 3 := c_M_g (by omega)
      have s3 : c_M X 3 i 3 = X (3 + 1 + 1 + 2 * i) 3 := c_M_s hi (by omega)
      have s4 : c_M X 3 i 4 = X (3 + 1 + 1 + 2 * i) 4 := c_M_s hi (by omega)
      have s5 : c_M X 3 i 5 = X (3 + 1 + 1 + 2 * i) 5 := c_M_s hi (by omega)
      have s6 : c_M X 3 i 6 = X (3 + 1 + 1 + 2 * i) 6 := c_M_s hi (by omega)
      have s7 : c_M X 3 i 7 = X (3 + 1 + 1 + 2 * i) 7 := c_M_s hi (by omega)
      have el : m_least (c_M X 3) i = s_least X (3 + 1 + 1 + 2 * i) (X 3 3) := by unfold m_least s_least; rw [s3, s6, s4, g3]
      have mlr := m_least_r hW hi.1 hi.2
      have et : s_toTry X (3 + 1 + 1 + 2 * i) = if c_M X 3 i 3 > 0 ∧ c_M X 3 i 6 = 0 then 1 else 0 := by unfold s_toTry; rw [s3, s6]
      have tr1 : 0 ≤ s_toTry X (3 + 1 + 1 + 2 * i) ∧ s_toTry X (3 + 1 + 1 + 2 * i) ≤ 1 := by unfold s_toTry; split <;> omega
      refine x_aload_n B dX1_asks_22 rfl ?_
      refine x_getC0 B (k := 2) hT rfl rfl xc_0 (by decide) h0 (Or.inl q400) (fun _ h => h) dX1_asks_23 (fun k_23 => ?_)
      refine x_getC1 B (k := 0) hT rfl rfl xc_2 (by decide) k_23 (Or.inr q244) (fun _ h => h) dX1_asks_26 (fun k_26 => ?_)
      refine x_iload_n B dX1_asks_29 rfl ?_
      refine x_aaldC B (t := 10) hT k_26 rfl rfl rfl rfl ⟨by omega, by omega⟩ dX1_asks_30 (fun k_30 => ?_)
      refine x_ast_3 B dX1_asks_31 (by first | rfl | exact x_cr _ _) ?_
      refine x_aload_n B dX1_asks_32 rfl ?_
      refine x_goP (x_rV B k_30 (show x_cl[3]? = some _ from rfl) (c_X3_isToTry hT (by assumption)) (lw_V q782 q783 q784 q115 q785) hv_X3_isToTry ⟨by decide, by decide⟩ ⟨by decide, by decide⟩ rfl rfl (by simp [x_cr, x_c1, x_c2]) dX1_asks_33) ?_
      refine x_if_ne B (tgt := 42) dX1_asks_36 (by decide) ⟨by omega, by omega⟩ (fun h_36 => ?_) (fun h_36 => ?_)
      · have hst : c_M X 3 i 3 > 0 ∧ c_M X 3 i 6 = 0 := by by_cases q : c_M X 3 i 3 > 0 ∧ c_M X 3 i 6 = 0; exact q; rw [et, if_neg q] at h_36; omega
        refine x_aload_n B dX1_asks_42 rfl ?_
        refine x_getI B (k := 5) 5 rfl rfl xc_3 (by decide) k_30 (Or.inr q215) (fun _ h => h) dX1_asks_43 (fun r_43 => ?_)
        refine x_if_ne B (tgt := 52) dX1_asks_46 (by decide) ⟨by omega, by omega⟩ (fun h_46 => ?_) (fun h_46 => ?_)
        · refine x_iload_n B dX1_asks_52 rfl ?_
          refine x_aload_n B dX1_asks_53 rfl ?_
          refine x_aload_n B dX1_asks_54 rfl ?_
          refine x_getC0 B (k := 2) hT rfl rfl xc_0 (by decide) h0 (Or.inl q400) (fun _ h => h) dX1_asks_55 (fun k_55 => ?_)
          refine x_getI B (k := 3) 3 rfl rfl xc_2 (by decide) k_55 (Or.inr q253) (fun _ h => h) dX1_asks_58 (fun r_58 => ?_)
          refine x_goP (x_rV B k_30 (show x_cl[3]? = some _ from rfl) (c_X3_least hT (by assumption) ⟨by omega, by omega⟩) (lw_V q777 q778 q779 q115 q780) hv_X3_least ⟨by decide, by decide⟩ ⟨by decide, by decide⟩ rfl rfl (by simp [x_cr, x_c1, x_c2]) dX1_asks_61) ?_
          refine x_icmp_lt B (tgt := 75) dX1_asks_64 (by decide) ⟨by omega, by omega⟩ ⟨by omega, by omega⟩ (fun h_64 => ?_) (fun h_64 => ?_)
          · refine x_bipush B dX1_asks_75 (by decide) ?_
            refine x_iret B (fun _ _ h => h) ?_ dX1_asks_77
            have eu : u_asks (X 1 2) (c_M X 3) i w = -4 := by unfold u_asks; rw [if_pos ⟨by omega, by omega⟩, if_pos hst, if_neg (by omega), if_pos (by omega)]
            rw [eu]; exact ⟨rfl, rfl⟩
          · refine x_iload_n B dX1_asks_67 rfl ?_
            refine x_aload_n B dX1_asks_68 rfl ?_
            refine x_getI B (k := 3) 3 rfl rfl xc_3 (by decide) k_30 (Or.inr q211) (fun _ h => h) dX1_asks_69 (fun r_69 => ?_)
            refine x_icmp_ne B (tgt := 78) dX1_asks_72 (by decide) ⟨by omega, by omega⟩ ⟨by omega, by omega⟩ (fun h_72 => ?_) (fun h_72 => ?_)
            · refine x_aload_n B dX1_asks_78 rfl ?_
              refine x_iload_n B dX1_asks_79 rfl ?_
              refine x_putI B (k := 3) 3 rfl rfl rfl ⟨by omega, by omega⟩ xc_3 (by decide) rfl nn_3_3 (fun _ => rfl) k_30 (Or.inr q211) (fun _ h => h) dX1_asks_80 ?_
              refine x_aload_n B dX1_asks_83 rfl ?_
              refine x_dup B dX1_asks_84 (by first | rfl | exact x_cr _ _) ?_
              refine x_getI B (k := 5) 5 rfl rfl xc_3 (by decide) k_30 (Or.inr q215) (fun _ h => h) dX1_asks_85 (fun r_85 => ?_)
              rw [x_up_n X (Or.inr (by omega))] at r_85 ⊢
              refine x_iconst B dX1_asks_88 ?_
              refine x_isub B dX1_asks_89 ?_
              refine x_putI B (k := 5) 5 rfl rfl rfl ⟨by omega, by omega⟩ xc_3 (by decide) rfl nn_3_5 (fun _ => rfl) k_30 (Or.inr q215) (fun _ h => h) dX1_asks_90 ?_
              refine x_aload_n B dX1_asks_93 rfl ?_
              refine x_getI B (k := 5) 5 rfl rfl xc_3 (by decide) k_30 (Or.inr q215) (fun _ h => h) dX1_asks_94 (fun r_94 => ?_)
              rw [x_up_s]
              refine x_iret B (fun _ _ h => h) ?_ dX1_asks_97
              have eu : u_asks (X 1 2) (c_M X 3) i w = X (3 + 1 + 1 + 2 * i) 5 - 1 := by unfold u_asks; rw [if_pos ⟨by omega, by omega⟩, if_pos hst, if_neg (by omega), if_neg (by omega), s5]
              rw [eu, if_pos (by omega)]; exact ⟨rfl, rfl⟩
            · refine x_bipush B dX1_asks_75 (by decide) ?_
              refine x_iret B (fun _ _ h => h) ?_ dX1_asks_77
              have eu : u_asks (X 1 2) (c_M X 3) i w = -4 := by unfold u_asks; rw [if_pos ⟨by omega, by omega⟩, if_pos hst, if_neg (by omega), if_pos (by omega)]
              rw [eu]; exact ⟨rfl, rfl⟩
        · refine x_bipush B dX1_asks_49 (by decide) ?_
          refine x_iret B (fun _ _ h => h) ?_ dX1_asks_51
          have eu : u_asks (X 1 2) (c_M X 3) i w = -3 := by unfold u_asks; rw [if_pos ⟨by omega, by omega⟩, if_pos hst, if_pos (by omega)]
          rw [eu]; exact ⟨rfl, rfl⟩
      · refine x_bipush B dX1_asks_39 (by decide) ?_
        refine x_iret B (fun _ _ h => h) ?_ dX1_asks_41
        have eu : u_asks (X 1 2) (c_M X 3) i w = -2 := by unfold u_asks; rw [if_pos ⟨by omega, by omega⟩, if_neg (fun q => by rw [et, if_pos q] at h_36; omega)]
        rw [eu]; exact ⟨rfl, rfl⟩
    · refine x_iconst B dX1_asks_20 ?_
      refine x_iret B (fun _ _ h => h) ?_ dX1_asks_21
      have eu : u_asks (X 1 2) (c_M X 3) i w = -1 := by unfold u_asks; rw [if_neg (by omega)]
      rw [eu]; exact ⟨rfl, rfl⟩
theorem c_X1_tried {l : Launch} {E : x_E} {κ : x_Ka} {X : x_X} {k w : Int} (hT : x_T κ) (h0 : κ 0 = some (.inl (0, 1))) (h12 : 0 ≤ X 0 12 ∧ X 0 12 ≤ 54) (hk0 : xR k) (hw0 : xR w) : x_Pu l yX1_tried cX1_tried 3 (some .int) 1 E κ X [x_rf E 0, vi k, vi w] (vi (u_tried (X 0 12) (c_G X) k w)) := by
  refine x_Met.of [(false, x_rf E 0), (false, vi k), (false, vi w)] [some (x_rf E 0), some (vi k), some (vi w)] 0 (by decide) rfl rfl ⟨x_cr E (0), rfl, rfl, trivial⟩ rfl rfl ?_
  intro p e s m args below meth c hargs hin B
  have z1 := x_in_01 k 0 (X 0 12 - 1)
  refine x_iload_n B dX1_tried_0 rfl ?_
  refine x_i2l B dX1_tried_1 ⟨by omega, by omega⟩ ?_
  refine x_lconst B 0 dX1_tried_2 (by decide) ?_
  refine x_aload_n B dX1_tried_3 rfl ?_
  refine x_getI B (k := 12) 12 rfl rfl xc_0 (by decide) h0 (Or.inl q413) (fun _ h => h) dX1_tried_4 (fun r_4 => ?_)
  refine x_iconst B dX1_tried_7 ?_
  refine x_isub B dX1_tried_8 ?_
  refine x_i2l B dX1_tried_9 ⟨by omega, by omega⟩ ?_
  refine x_goP (x_rS B (c_X1_in ⟨by omega, by omega⟩ ⟨by omega, by omega⟩ ⟨by omega, by omega⟩) (lw_S q464 q465 q110 q466) hd_X1_in ⟨by decide, by decide⟩ ⟨by decide, by decide⟩ rfl rfl (by simp [x_cr, x_c1, x_c2]) dX1_tried_10) ?_
  refine x_if_ne B (tgt := 18) dX1_tried_13 (by decide) ⟨by omega, by omega⟩ (fun h_13 => ?_) (fun h_13 => ?_)
  · have hk : 0 ≤ k ∧ k < X 0 12 := by unfold x_in at h_13; split at h_13 <;> omega
    refine x_iload_n B dX1_tried_18 rfl ?_
    by_cases hs_0 : w = 0
    · refine x_tswI B (off := 29) (tgt := 48) ⟨by omega, by omega⟩ hs_0 dX1_tried_19 ⟨by decide, by decide⟩ (by decide) (by decide) ?_
      refine x_aload_n B dX1_tried_48 rfl ?_
      refine x_getC0 B (k := 8) hT rfl rfl xc_0 (by decide) h0 (Or.inl q409) (fun _ h => h) dX1_tried_49 (fun k_49 => ?_)
      refine x_iload_n B dX1_tried_52 rfl ?_
      refine x_iald B k_49 ⟨by omega, by omega⟩ dX1_tried_53 (fun r_53 => ?_)
      refine x_iret B (fun _ _ h => h) ?_ dX1_tried_54
      exact ⟨congrArg (fun z => some (vi z)) (by unfold u_tried c_G; rw [if_pos ⟨by omega, by unfold x_in; rw [if_pos (by omega)]⟩, if_pos hk, if_pos hs_0]), rfl⟩
    by_cases hs_1 : w = 1
    · refine x_tswI B (off := 36) (tgt := 55) ⟨by omega, by omega⟩ hs_1 dX1_tried_19 ⟨by decide, by decide⟩ (by decide) (by decide) ?_
      refine x_aload_n B dX1_tried_55 rfl ?_
      refine x_getC0 B (k := 9) hT rfl rfl xc_0 (by decide) h0 (Or.inl q410) (fun _ h => h) dX1_tried_56 (fun k_56 => ?_)
      refine x_iload_n B dX1_tried_59 rfl ?_
      refine x_iald B k_56 ⟨by omega, by omega⟩ dX1_tried_60 (fun r_60 => ?_)
      refine x_iret B (fun _ _ h => h) ?_ dX1_tried_61
      exact ⟨congrArg (fun z => some (vi z)) (by unfold u_tried c_G; rw [if_pos ⟨by omega, by unfold x_in; rw [if_pos (by omega)]⟩, if_pos hk, if_neg (by omega), if_pos hs_1]), rfl⟩
    by_cases hs_2 : w = 2
    · refine x_tswI B (off := 43) (tgt := 62) ⟨by omega, by omega⟩ hs_2 dX1_tried_19 ⟨by decide, by decide⟩ (by decide) (by decide) ?_
      refine x_aload_n B dX1_tried_62 rfl ?_
      refine x_getC0 B (k := 10) hT rfl rfl xc_0 (by decide) h0 (Or.inl q411) (fun _ h => h) dX1_tried_63 (fun k_63 => ?_)
      refine x_iload_n B dX1_tried_66 rfl ?_
      refine x_iald B k_63 ⟨by omega, by omega⟩ dX1_tried_67 (fun r_67 => ?_)
      refine x_iret B (fun _ _ h => h) ?_ dX1_tried_68
      exact ⟨congrArg (fun z => some (vi z)) (by unfold u_tried c_G; rw [if_pos ⟨by omega, by unfold x_in; rw [if_pos (by omega)]⟩, if_pos hk, if_neg (by omega), if_neg (by omega), if_pos hs_2]), rfl⟩
    by_cases hs_3 : w = 3
    · refine x_tswI B (off := 50) (tgt := 69) ⟨by omega, by omega⟩ hs_3 dX1_tried_19 ⟨by decide, by decide⟩ (by decide) (by decide) ?_
      refine x_aload_n B dX1_tried_69 rfl ?_
      refine x_getC0 B (k := 11) hT rfl rfl xc_0 (by decide) h0 (Or.inl q412) (fun _ h => h) dX1_tried_70 (fun k_70 => ?_)
      refine x_iload_n B dX1_tried_73 rfl ?_
      refine x_zald B k_70 ⟨by omega, by omega⟩ dX1_tried_74 (fun r_74 => ?_)
      refine x_goP (x_rS B (c_X1_bit ⟨by omega, by omega⟩) (lw_S q786 q787 q110 q788) hd_X1_bit ⟨by decide, by decide⟩ ⟨by decide, by decide⟩ rfl rfl (by simp [x_cr, x_c1, x_c2]) dX1_tried_75) ?_
      refine x_iret B (fun _ _ h => h) ?_ dX1_tried_78
      exact ⟨congrArg (fun z => some (vi z)) (by unfold u_tried c_G; rw [if_pos ⟨by omega, by unfold x_in; rw [if_pos (by omega)]⟩, if_pos hk, if_neg (by omega), if_neg (by omega), if_neg (by omega), if_pos hs_3]), rfl⟩
    refine x_tswO B (tgt := 79) ⟨by omega, by omega⟩ dX1_tried_19 (by omega) (by decide) ?_
    refine x_iconst B dX1_tried_79 ?_
    refine x_iret B (fun _ _ h => h) ?_ dX1_tried_80
    exact ⟨congrArg (fun z => some (vi z)) (by unfold u_tried; rw [if_neg (fun q => by have := q.2; unfold x_in at this; split at this <;> omega)]), rfl⟩
  · refine x_iconst B dX1_tried_16 ?_
    refine x_iret B (fun _ _ h => h) ?_ dX1_tried_17
    exact ⟨congrArg (fun z => some (vi z)) (by unfold u_tried; rw [if_neg (by omega)]), rfl⟩
theorem x_rg36 {p : Program} {l : Launch} {e : Env} {R : Room} {s : State} {m : MethodId} {args : Array Value} {below : List Frame} {meth : Method} {c : Code} {nL : Nat} {E : x_E} {cells slots : Nat} {Q : State → Prop} {κ : x_Ka} {pc : Nat} {L : List (Option Value)} {st : List Value} {X : x_X} {a n : Int} (hk : κ a = some (.inr (2, n))) (k : (∀ j, 0 ≤ j → j < n → 0 ≤ X a j ∧ X a j ≤ 1) → x_G p l e R s m args below meth c nL E cells slots Q κ pc L st X) : x_G p l e R s m args below meth c nL E cells slots Q κ pc L st X := fun H locs ls hH hS hL => k (fun j j1 j2 => by
  obtain ⟨-, -, hr, -⟩ := hH.2 _ _ hk
  exact hr j j1 j2) H locs ls hH hS hL
theorem g_sm_b {f : Int → Int} : ∀ n : Nat, (∀ k : Int, 0 ≤ k → k < n → 0 ≤ f k ∧ f k ≤ 1) → 0 ≤ g_sm f n ∧ g_sm f n ≤ n
  | 0, _ => by simp [g_sm]
  | n + 1, h => by have := g_sm_b n (fun k h1 h2 => h k h1 (by omega)); have := h n (by omega) (by omega); unfold g_sm; omega
theorem c_X1_goodMany {l : Launch} {E : x_E} {κ : x_Ka} {X : x_X}  (hT : x_T κ) (h0 : κ 0 = some (.inl (0, 1))) (h12 : 0 ≤ X 0 12 ∧ X 0 12 ≤ 54) : x_Pu l yX1_goodMany cX1_goodMany 3 (some .int) 1 E κ X [x_rf E 0] (vi (g_sm (fun k => X 36 k) (X 0 12).toNat)) := by
  refine x_Met.of [(false, x_rf E 0)] [some (x_rf E 0), none, none] 2 (by decide) rfl rfl ⟨x_cr E (0), trivial⟩ rfl rfl ?_
  intro p e s m args below meth c hargs hin B
  refine x_rg36 (hT.1 0 0 h0 11 (0, 36, .inr (2, 54)) rfl) (fun h36 => ?_)
  have hgb : ∀ n : Nat, (n : Int) ≤ 54 → 0 ≤ g_sm (fun k => X 36 k) n ∧ g_sm (fun k => X 36 k) n ≤ n := fun n hn => g_sm_b n (fun k k1 k2 => h36 k k1 (by omega))
  have lp_4 : ∀ (n : Nat) (k : Int), (0 ≤ k ∧ k ≤ X 0 12) → ((60 - k).toNat < n) → x_G p l e (x_rm 1 0 0) s m args below meth c 3 E 0 0 (MQ below (x_Q E κ (fun v_ X_ => v_ = some (vi (g_sm (fun k => X 36 k) (X 0 12).toNat)) ∧ X_ = X)) args s 0 0 (fun q => E.1 ≤ q)) κ 4 [some (x_rf E 0), some (vi (g_sm (fun k => X 36 k) k.toNat)), some (vi k)] [] X := by
    intro n
    induction n with
    | zero => intro k hi hme; exfalso; omega
    | succ n ih =>
      intro k hi hme
      have hgs := g_sm_s (fun k => X 36 k) hi.1
      refine x_iload_n B dX1_goodMany_4 rfl ?_
      refine x_aload_n B dX1_goodMany_5 rfl ?_
      refine x_getI B (k := 12) 12 rfl rfl xc_0 (by decide) h0 (Or.inl q413) (fun _ h => h) dX1_goodMany_6 (fun r_6 => ?_)
      refine x_icmp_ge B (tgt := 30) dX1_goodMany_9 (by decide) ⟨by omega, by omega⟩ ⟨by omega, by omega⟩ (fun h_9 => ?_) (fun h_9 => ?_)
      · obtain rfl : k = X 0 12 := by omega
        refine x_iload_n B dX1_goodMany_30 rfl ?_
        refine x_iret B (fun _ _ h => h) ?_ dX1_goodMany_31
        exact ⟨rfl, rfl⟩
      · refine x_iload_n B dX1_goodMany_12 rfl ?_
        refine x_aload_n B dX1_goodMany_13 rfl ?_
        refine x_getC0 B (k := 11) hT rfl rfl xc_0 (by decide) h0 (Or.inl q412) (fun _ h => h) dX1_goodMany_14 (fun k_14 => ?_)
        refine x_iload_n B dX1_goodMany_17 rfl ?_
        refine x_zald B k_14 ⟨by omega, by omega⟩ dX1_goodMany_18 (fun r_18 => ?_)
        refine x_goP (x_rS B (c_X1_bit ⟨by omega, by omega⟩) (lw_S q786 q787 q110 q788) hd_X1_bit ⟨by decide, by decide⟩ ⟨by decide, by decide⟩ rfl rfl (by simp [x_cr, x_c1, x_c2]) dX1_goodMany_19) ?_
        refine x_iadd B dX1_goodMany_22 ?_
        refine x_ist_1 B dX1_goodMany_23 (by first | rfl | exact x_cr _ _) ?_
        refine x_iinc_2 B dX1_goodMany_24 (by first | rfl | exact x_cr _ _) ?_
        refine x_goto B (tgt := 4) dX1_goodMany_27 (by decide) ?_
        rw [← hgs]
        exact ih _ ⟨by omega, by omega⟩ (by omega)
  refine x_iconst B dX1_goodMany_0 ?_
  refine x_ist_1 B dX1_goodMany_1 (by first | rfl | exact x_cr _ _) ?_
  refine x_iconst B dX1_goodMany_2 ?_
  refine x_ist_2 B dX1_goodMany_3 (by first | rfl | exact x_cr _ _) ?_
  exact lp_4 _ 0 ⟨by omega, by omega⟩ (Nat.lt_succ_self _)
theorem c_X1_outs {l : Launch} {E : x_E} {κ : x_Ka} {X : x_X}  (hC : n_C κ X) : x_Pu l yX1_outs cX1_outs 3 (some .int) 1 E κ X [x_rf E 0] (vi (g_or (c_M X 3) (X 1 2).toNat)) := by
  refine x_Met.of [(false, x_rf E 0)] [some (x_rf E 0), none, none] 2 (by decide) rfl rfl ⟨x_cr E (0), trivial⟩ rfl rfl ?_
  intro p e s m args below meth c hargs hin B
  obtain ⟨hI, hP, hO, hW, hJ⟩ := id hC
  obtain ⟨hT, h0, hn, hl, hla⟩ := id hI
  have lp_4 : ∀ (n : Nat) (k z : Int), ((0 ≤ k ∧ k ≤ X 1 2) ∧ z = g_or (c_M X 3) k.toNat) → ((7 - k).toNat < n) → x_G p l e (x_rm 1 0 0) s m args below meth c 3 E 0 0 (MQ below (x_Q E κ (fun v_ X_ => v_ = some (vi (g_or (c_M X 3) (X 1 2).toNat)) ∧ X_ = X)) args s 0 0 (fun q => E.1 ≤ q)) κ 4 [some (x_rf E 0), some (vi z), some (vi k)] [] X := by
    intro n
    induction n with
    | zero => intro k z hinv hme; exfalso; omega
    | succ n ih =>
      intro k z hinv hme
      obtain ⟨hi, hz⟩ := hinv
      have hgs := g_or_s (c_M X 3) hi.1
      refine x_iload_n B dX1_outs_4 rfl ?_
      refine x_aload_n B dX1_outs_5 rfl ?_
      refine x_getC0 B (k := 0) hT rfl rfl xc_0 (by decide) h0 (Or.inl q394) (fun _ h => h) dX1_outs_6 (fun k_6 => ?_)
      refine x_goP (x_rV B k_6 (show x_cl[1]? = some _ from rfl) (c_J2_size hT (by assumption)) (lw_V q643 q364 q365 q113 q366) hv_J2_size ⟨by decide, by decide⟩ ⟨by decide, by decide⟩ rfl rfl (by simp [x_cr, x_c1, x_c2]) dX1_outs_9) ?_
      refine x_icmp_ge B (tgt := 46) dX1_outs_12 (by decide) ⟨by omega, by omega⟩ ⟨by omega, by omega⟩ (fun h_12 => ?_) (fun h_12 => ?_)
      · obtain rfl : k = X 1 2 := by omega
        refine x_iload_n B dX1_outs_46 rfl ?_
        refine x_iret B (fun _ _ h => h) ?_ dX1_outs_47
        exact ⟨congrArg (fun z => some (vi z)) (by exact hz), rfl⟩
      · refine x_iload_n B dX1_outs_15 rfl ?_
        refine x_aload_n B dX1_outs_16 rfl ?_
        refine x_getC0 B (k := 2) hT rfl rfl xc_0 (by decide) h0 (Or.inl q400) (fun _ h => h) dX1_outs_17 (fun k_17 => ?_)
        refine x_getC1 B (k := 0) hT rfl rfl xc_2 (by decide) k_17 (Or.inr q244) (fun _ h => h) dX1_outs_20 (fun k_20 => ?_)
        refine x_iload_n B dX1_outs_23 rfl ?_
        refine x_aaldC B (t := 10) hT k_20 rfl rfl rfl rfl ⟨by omega, by omega⟩ dX1_outs_24 (fun k_24 => ?_)
        refine x_getZ B (k := 7) 7 rfl rfl xc_3 (by decide) k_24 (Or.inr q223) (fun _ h => h) dX1_outs_25 (fun r_25 => ?_)
        refine x_if_eq B (tgt := 37) dX1_outs_28 (by decide) ⟨by omega, by omega⟩ (fun h_28 => ?_) (fun h_28 => ?_)
        · refine x_iconst B dX1_outs_37 ?_
          refine x_ior B dX1_outs_38 ?_
          refine x_ist_1 B dX1_outs_39 (by first | rfl | exact x_cr _ _) ?_
          refine x_iinc_2 B dX1_outs_40 (by first | rfl | exact x_cr _ _) ?_
          refine x_goto B (tgt := 4) dX1_outs_43 (by decide) ?_
          refine ih _ _ ⟨⟨by omega, by omega⟩, ?_⟩ (by omega)
          have s7 : c_M X 3 k 7 = X (3 + 1 + 1 + 2 * k) 7 := c_M_s (by omega) (by omega)
          rw [hgs, s7, hz]
          first | rw [if_pos h_28] | rw [if_neg h_28]
        · refine x_iconst B dX1_outs_31 ?_
          refine x_iload_n B dX1_outs_32 rfl ?_
          refine x_ishl B dX1_outs_33 ?_
          refine x_goto B (tgt := 38) dX1_outs_34 (by decide) ?_
          refine x_ior B dX1_outs_38 ?_
          refine x_ist_1 B dX1_outs_39 (by first | rfl | exact x_cr _ _) ?_
          refine x_iinc_2 B dX1_outs_40 (by first | rfl | exact x_cr _ _) ?_
          refine x_goto B (tgt := 4) dX1_outs_43 (by decide) ?_
          refine ih _ _ ⟨⟨by omega, by omega⟩, ?_⟩ (by omega)
          have s7 : c_M X 3 k 7 = X (3 + 1 + 1 + 2 * k) 7 := c_M_s (by omega) (by omega)
          rw [hgs, s7, hz]
          first | rw [if_pos h_28] | rw [if_neg h_28]
  refine x_iconst B dX1_outs_0 ?_
  refine x_ist_1 B dX1_outs_1 (by first | rfl | exact x_cr _ _) ?_
  refine x_iconst B dX1_outs_2 ?_
  refine x_ist_2 B dX1_outs_3 (by first | rfl | exact x_cr _ _) ?_
  exact lp_4 _ 0 0 ⟨⟨by omega, by omega⟩, rfl⟩ (Nat.lt_succ_self _)
theorem c_X1_count {l : Launch} {E : x_E} {κ : x_Ka} {X : x_X} {w : Int} (hC : n_C κ X) (h12 : 0 ≤ X 0 12 ∧ X 0 12 ≤ 54) (hw0 : xR w) : x_Pu l yX1_count cX1_count 2 (some .int) 2 E κ X [x_rf E 0, vi w] (vi (u_count (X 1 2) (X 0 12) (g_sm (fun k => X 36 k) (X 0 12).toNat) (X 0 1) (X 0 7) (X 0 5) (c_M X 3) w)) := by
  refine x_Met.of [(false, x_rf E 0), (false, vi w)] [some (x_rf E 0), some (vi w)] 0 (by decide) rfl rfl ⟨x_cr E (0), rfl, trivial⟩ rfl rfl ?_
  intro p e s m args below meth c hargs hin B
  obtain ⟨hI, hP, hO, hW, hJ⟩ := id hC
  obtain ⟨hT, h0, hn, hl, hla⟩ := id hI
  refine x_iload_n B dX1_count_0 rfl ?_
  by_cases hs_0 : w = 0
  · refine x_tswI B (off := 55) (tgt := 56) ⟨by omega, by omega⟩ hs_0 dX1_count_1 ⟨by decide, by decide⟩ (by decide) (by decide) ?_
    refine x_aload_n B dX1_count_56 rfl ?_
    refine x_getC0 B (k := 0) hT rfl rfl xc_0 (by decide) h0 (Or.inl q394) (fun _ h => h) dX1_count_57 (fun k_57 => ?_)
    refine x_goP (x_rV B k_57 (show x_cl[1]? = some _ from rfl) (c_J2_size hT (by assumption)) (lw_V q643 q364 q365 q113 q366) hv_J2_size ⟨by decide, by decide⟩ ⟨by decide, by decide⟩ rfl rfl (by simp [x_cr, x_c1, x_c2]) dX1_count_60) ?_
    refine x_iret B (fun _ _ h => h) ?_ dX1_count_63
    exact ⟨congrArg (fun z => some (vi z)) (by unfold u_count; rw [if_pos hs_0]), rfl⟩
  by_cases hs_1 : w = 1
  · refine x_tswI B (off := 63) (tgt := 64) ⟨by omega, by omega⟩ hs_1 dX1_count_1 ⟨by decide, by decide⟩ (by decide) (by decide) ?_
    refine x_aload_n B dX1_count_64 rfl ?_
    refine x_getC0 B (k := 2) hT rfl rfl xc_0 (by decide) h0 (Or.inl q400) (fun _ h => h) dX1_count_65 (fun k_65 => ?_)
    refine x_getI B (k := 1) 1 rfl rfl xc_2 (by decide) k_65 (Or.inr q248) (fun _ h => h) dX1_count_68 (fun r_68 => ?_)
    refine x_iret B (fun _ _ h => h) ?_ dX1_count_71
    exact ⟨congrArg (fun z => some (vi z)) (by unfold u_count; rw [if_neg (by omega), if_pos hs_1]; rw [c_M_g (by omega)]), rfl⟩
  by_cases hs_2 : w = 2
  · refine x_tswI B (off := 71) (tgt := 72) ⟨by omega, by omega⟩ hs_2 dX1_count_1 ⟨by decide, by decide⟩ (by decide) (by decide) ?_
    refine x_aload_n B dX1_count_72 rfl ?_
    refine x_getC0 B (k := 2) hT rfl rfl xc_0 (by decide) h0 (Or.inl q400) (fun _ h => h) dX1_count_73 (fun k_73 => ?_)
    refine x_getI B (k := 2) 2 rfl rfl xc_2 (by decide) k_73 (Or.inr q250) (fun _ h => h) dX1_count_76 (fun r_76 => ?_)
    refine x_iret B (fun _ _ h => h) ?_ dX1_count_79
    exact ⟨congrArg (fun z => some (vi z)) (by unfold u_count; rw [if_neg (by omega), if_neg (by omega), if_pos hs_2]; rw [c_M_g (by omega)]), rfl⟩
  by_cases hs_3 : w = 3
  · refine x_tswI B (off := 79) (tgt := 80) ⟨by omega, by omega⟩ hs_3 dX1_count_1 ⟨by decide, by decide⟩ (by decide) (by decide) ?_
    refine x_aload_n B dX1_count_80 rfl ?_
    refine x_getC0 B (k := 2) hT rfl rfl xc_0 (by decide) h0 (Or.inl q400) (fun _ h => h) dX1_count_81 (fun k_81 => ?_)
    refine x_getI B (k := 3) 3 rfl rfl xc_2 (by decide) k_81 (Or.inr q253) (fun _ h => h) dX1_count_84 (fun r_84 => ?_)
    refine x_iret B (fun _ _ h => h) ?_ dX1_count_87
    exact ⟨congrArg (fun z => some (vi z)) (by unfold u_count; rw [if_neg (by omega), if_neg (by omega), if_neg (by omega), if_pos hs_3]; rw [c_M_g (by omega)]), rfl⟩
  by_cases hs_4 : w = 4
  · refine x_tswI B (off := 87) (tgt := 88) ⟨by omega, by omega⟩ hs_4 dX1_count_1 ⟨by decide, by decide⟩ (by decide) (by decide) ?_
    refine x_aload_n B dX1_count_88 rfl ?_
    refine x_getI B (k := 12) 12 rfl rfl xc_0 (by decide) h0 (Or.inl q413) (fun _ h => h) dX1_count_89 (fun r_89 => ?_)
    refine x_iret B (fun _ _ h => h) ?_ dX1_count_92
    exact ⟨congrArg (fun z => some (vi z)) (by unfold u_count; rw [if_neg (by omega), if_neg (by omega), if_neg (by omega), if_neg (by omega), if_pos hs_4]), rfl⟩
  by_cases hs_5 : w = 5
  · refine x_tswI B (off := 92) (tgt := 93) ⟨by omega, by omega⟩ hs_5 dX1_count_1 ⟨by decide, by decide⟩ (by decide) (by decide) ?_
    refine x_aload_n B dX1_count_93 rfl ?_
    refine x_goP (x_rV B h0 (show x_cl[0]? = some _ from rfl) (c_X1_goodMany hT h0 h12) (lw_V q1290 q1292 qs38 q110 q1293) hv_X1_goodMany ⟨by decide, by decide⟩ ⟨by decide, by decide⟩ rfl rfl (by simp [x_cr, x_c1, x_c2]) dX1_count_94) ?_
    refine x_iret B (fun _ _ h => h) ?_ dX1_count_97
    exact ⟨congrArg (fun z => some (vi z)) (by unfold u_count; rw [if_neg (by omega), if_neg (by omega), if_neg (by omega), if_neg (by omega), if_neg (by omega), if_pos hs_5]), rfl⟩
  by_cases hs_6 : w = 6
  · refine x_tswI B (off := 97) (tgt := 98) ⟨by omega, by omega⟩ hs_6 dX1_count_1 ⟨by decide, by decide⟩ (by decide) (by decide) ?_
    refine x_aload_n B dX1_count_98 rfl ?_
    refine x_getI B (k := 1) 1 rfl rfl xc_0 (by decide) h0 (Or.inl q398) (fun _ h => h) dX1_count_99 (fun r_99 => ?_)
    refine x_iret B (fun _ _ h => h) ?_ dX1_count_102
    exact ⟨congrArg (fun z => some (vi z)) (by unfold u_count; rw [if_neg (by omega), if_neg (by omega), if_neg (by omega), if_neg (by omega), if_neg (by omega), if_neg (by omega), if_pos hs_6]), rfl⟩
  by_cases hs_7 : w = 7
  · refine x_tswI B (off := 102) (tgt := 103) ⟨by omega, by omega⟩ hs_7 dX1_count_1 ⟨by decide, by decide⟩ (by decide) (by decide) ?_
    refine x_aload_n B dX1_count_103 rfl ?_
    refine x_getI B (k := 7) 7 rfl rfl xc_0 (by decide) h0 (Or.inl q408) (fun _ h => h) dX1_count_104 (fun r_104 => ?_)
    refine x_iret B (fun _ _ h => h) ?_ dX1_count_107
    exact ⟨congrArg (fun z => some (vi z)) (by unfold u_count; rw [if_neg (by omega), if_neg (by omega), if_neg (by omega), if_neg (by omega), if_neg (by omega), if_neg (by omega), if_neg (by omega), if_pos hs_7]), rfl⟩
  by_cases hs_8 : w = 8
  · refine x_tswI B (off := 107) (tgt := 108) ⟨by omega, by omega⟩ hs_8 dX1_count_1 ⟨by decide, by decide⟩ (by decide) (by decide) ?_
    refine x_aload_n B dX1_count_108 rfl ?_
    refine x_getI B (k := 5) 5 rfl rfl xc_0 (by decide) h0 (Or.inl q406) (fun _ h => h) dX1_count_109 (fun r_109 => ?_)
    refine x_iret B (fun _ _ h => h) ?_ dX1_count_112
    exact ⟨congrArg (fun z => some (vi z)) (by unfold u_count; rw [if_neg (by omega), if_neg (by omega), if_neg (by omega), if_neg (by omega), if_neg (by omega), if_neg (by omega), if_neg (by omega), if_neg (by omega), if_pos hs_8]), rfl⟩
  by_cases hs_9 : w = 9
  · refine x_tswI B (off := 112) (tgt := 113) ⟨by omega, by omega⟩ hs_9 dX1_count_1 ⟨by decide, by decide⟩ (by decide) (by decide) ?_
    refine x_aload_n B dX1_count_113 rfl ?_
    refine x_goP (x_rV B h0 (show x_cl[0]? = some _ from rfl) (c_X1_outs hC) (lw_V q1294 q1296 qs39 q110 q1297) hv_X1_outs ⟨by decide, by decide⟩ ⟨by decide, by decide⟩ rfl rfl (by simp [x_cr, x_c1, x_c2]) dX1_count_114) ?_
    refine x_iret B (fun _ _ h => h) ?_ dX1_count_117
    exact ⟨congrArg (fun z => some (vi z)) (by unfold u_count; rw [if_neg (by omega), if_neg (by omega), if_neg (by omega), if_neg (by omega), if_neg (by omega), if_neg (by omega), if_neg (by omega), if_neg (by omega), if_neg (by omega), if_pos hs_9]), rfl⟩
  refine x_tswO B (tgt := 118) ⟨by omega, by omega⟩ dX1_count_1 (by omega) (by decide) ?_
  refine x_iconst B dX1_count_118 ?_
  refine x_iret B (fun _ _ h => h) ?_ dX1_count_119
  exact ⟨congrArg (fun z => some (vi z)) (by unfold u_count; rw [if_neg (by omega), if_neg (by omega), if_neg (by omega), if_neg (by omega), if_neg (by omega), if_neg (by omega), if_neg (by omega), if_neg (by omega), if_neg (by omega), if_neg (by omega)]), rfl⟩
