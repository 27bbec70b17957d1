theorem c_X7_last {l : Launch} {E : x_E} {κ : x_Ka} {X : x_X} {sd i load has_ : Int} (h : d_H κ X) (hl2 : (sd = 1 ∧ i = X 60 3) ∨ (sd = 0 ∧ i = X 60 4)) (hx : 0 ≤ load ∧ load ≤ 40) (hy : 0 ≤ has_ ∧ has_ ≤ 40) : x_Pu l yX7_last cX7_last 7 (some .int) 5 E κ X [x_rf E 60, vi i, vi load, vi has_] (vi (d_lst (d_E X) (d_O X) (d_W X) sd load has_)) := by
  refine x_Met.of [(false, x_rf E 60), (false, vi i), (false, vi load), (false, vi has_)] [some (x_rf E 60), some (vi i), some (vi load), some (vi has_), none, none, none] 3 (by decide) rfl rfl ⟨x_cr E (60), rfl, rfl, rfl, trivial⟩ rfl rfl ?_
  intro p e s m args below meth c hargs hin B
  obtain ⟨hC, ha, hb, hne⟩ := id h
  obtain ⟨hI, hP, hO, hW, hJ⟩ := id hC
  obtain ⟨hT, h0, hn, hl, hla⟩ := id hI
  have hk := h.k60
  have hdl : d_l (X 60 3) (X 60 4) sd = i := by unfold d_l; split <;> omega
  have hi : 0 ≤ i ∧ i < X 1 2 := by omega
  have w2 := hW.2.1 i hi.1 hi.2
  have sb : c_M X 3 i 12 = X (3 + 1 + 1 + 2 * i + 1) 2 := c_M_b hi (by omega)
  have ew : d_W X sd = X (3 + 1 + 1 + 2 * i + 1) 2 := by unfold d_W d_ow; rw [hdl, sb]
  have hR := h.R
  have q1 := hR.2
  have q2 := hR.1 sd load
  have e1 := q1 load has_
  have e2 := q1 has_ load
  have e3 := q1 (X (3 + 1 + 1 + 2 * i + 1) 2) has_
  have e4 := q1 has_ (X (3 + 1 + 1 + 2 * i + 1) 2)
  refine x_aload_n B dX7_last_0 rfl ?_
  refine x_getC0 B (k := 5) hT rfl rfl xc_6 (by decide) hk (Or.inl q341) (fun _ h => h) dX7_last_1 (fun k_1 => ?_)
  refine x_getC0 B (k := 2) hT rfl rfl xc_0 (by decide) k_1 (Or.inr q399) (fun _ h => h) dX7_last_4 (fun k_4 => ?_)
  refine x_getC1 B (k := 0) hT rfl rfl xc_2 (by decide) k_4 (Or.inr q243) (fun _ h => h) dX7_last_7 (fun k_7 => ?_)
  refine x_iload_n B dX7_last_10 rfl ?_
  refine x_aaldC B (t := 10) hT k_7 rfl rfl rfl rfl ⟨by omega, by omega⟩ dX7_last_11 (fun k_11 => ?_)
  refine x_getC1 B (k := 0) hT rfl rfl xc_3 (by decide) k_11 (Or.inr q193) (fun _ h => h) dX7_last_12 (fun k_12 => ?_)
  refine x_iconst B dX7_last_15 ?_
  refine x_iald B k_12 ⟨by omega, by omega⟩ dX7_last_16 (fun r_16 => ?_)
  refine x_istw_4 B dX7_last_17 (by first | rfl | exact x_cr _ _) ?_
  refine x_iload_n B dX7_last_19 rfl ?_
  refine x_aload_n B dX7_last_20 rfl ?_
  refine x_getI B (k := 3) 3 rfl rfl xc_6 (by decide) hk (Or.inl q339) (fun _ h => h) dX7_last_21 (fun r_21 => ?_)
  refine x_icmp_ne B (tgt := 36) dX7_last_24 (by decide) ⟨by omega, by omega⟩ ⟨by omega, by omega⟩ (fun h_24 => ?_) (fun h_24 => ?_)
  · refine x_aload_n B dX7_last_36 rfl ?_
    refine x_iload_n B dX7_last_37 rfl ?_
    refine x_iload_n B dX7_last_38 rfl ?_
    refine x_goP (x_rV B hk (show x_cl[6]? = some _ from rfl) (c_X7_ended (by assumption) ⟨by omega, by omega⟩ ⟨by omega, by omega⟩) (lw_V q1247 q1249 qs34 q119 q1250) hv_X7_ended ⟨by decide, by decide⟩ ⟨by decide, by decide⟩ rfl rfl (by simp [x_cr, x_c1, x_c2]) dX7_last_39) ?_
    refine x_istw_5 B dX7_last_42 (by first | rfl | exact x_cr _ _) ?_
    refine x_iload_n B dX7_last_44 rfl ?_
    refine x_aload_n B dX7_last_45 rfl ?_
    refine x_getI B (k := 3) 3 rfl rfl xc_6 (by decide) hk (Or.inl q339) (fun _ h => h) dX7_last_46 (fun r_46 => ?_)
    refine x_icmp_ne B (tgt := 62) dX7_last_49 (by decide) ⟨by omega, by omega⟩ ⟨by omega, by omega⟩ (fun h_49 => ?_) (fun h_49 => ?_)
    · refine x_aload_n B dX7_last_62 rfl ?_
      refine x_iload_n B dX7_last_63 rfl ?_
      refine x_iload B dX7_last_64 rfl ?_
      refine x_goP (x_rV B hk (show x_cl[6]? = some _ from rfl) (c_X7_ended (by assumption) ⟨by omega, by omega⟩ ⟨by omega, by omega⟩) (lw_V q1247 q1249 qs34 q119 q1250) hv_X7_ended ⟨by decide, by decide⟩ ⟨by decide, by decide⟩ rfl rfl (by simp [x_cr, x_c1, x_c2]) dX7_last_66) ?_
      refine x_istw_6 B dX7_last_69 (by first | rfl | exact x_cr _ _) ?_
      refine x_aload_n B dX7_last_71 rfl ?_
      refine x_iload_n B dX7_last_72 rfl ?_
      refine x_iload_n B dX7_last_73 rfl ?_
      refine x_goP (x_rV B hk (show x_cl[6]? = some _ from rfl) (c_X7_odds (sd := sd) h hl2 ⟨by omega, by omega⟩) (lw_V q1253 q1255 qs35 q119 q1256) hv_X7_odds ⟨by decide, by decide⟩ ⟨by decide, by decide⟩ rfl rfl (by simp [x_cr, x_c1, x_c2]) dX7_last_74) ?_
      refine x_iload B dX7_last_77 rfl ?_
      refine x_i2l B dX7_last_79 ⟨by omega, by omega⟩ ?_
      refine x_iload B dX7_last_80 rfl ?_
      refine x_i2l B dX7_last_82 ⟨by omega, by omega⟩ ?_
      refine x_goP (x_rSN B (c_X1_mixed ⟨by omega, by omega⟩ ⟨by omega, by omega⟩ ⟨by omega, by omega⟩) q1260 q1060 q110 q1061 hd_X1_mixed ⟨by decide, by decide⟩ ⟨by decide, by decide⟩ rfl rfl (by simp [x_cr, x_c1, x_c2]) dX7_last_83) ?_
      refine x_l2i B dX7_last_86 ?_
      refine x_iret B (fun _ _ h => h) ?_ dX7_last_87
      exact ⟨congrArg (fun z => some (vi z)) (by unfold d_lst; rw [ew]; first | (exfalso; omega) | rw [if_pos (by omega)] | rw [if_neg (by omega)]), rfl⟩
    · refine x_aload_n B dX7_last_52 rfl ?_
      refine x_iload B dX7_last_53 rfl ?_
      refine x_iload_n B dX7_last_55 rfl ?_
      refine x_goP (x_rV B hk (show x_cl[6]? = some _ from rfl) (c_X7_ended (by assumption) ⟨by omega, by omega⟩ ⟨by omega, by omega⟩) (lw_V q1247 q1249 qs34 q119 q1250) hv_X7_ended ⟨by decide, by decide⟩ ⟨by decide, by decide⟩ rfl rfl (by simp [x_cr, x_c1, x_c2]) dX7_last_56) ?_
      refine x_goto B (tgt := 69) dX7_last_59 (by decide) ?_
      refine x_istw_6 B dX7_last_69 (by first | rfl | exact x_cr _ _) ?_
      refine x_aload_n B dX7_last_71 rfl ?_
      refine x_iload_n B dX7_last_72 rfl ?_
      refine x_iload_n B dX7_last_73 rfl ?_
      refine x_goP (x_rV B hk (show x_cl[6]? = some _ from rfl) (c_X7_odds (sd := sd) h hl2 ⟨by omega, by omega⟩) (lw_V q1253 q1255 qs35 q119 q1256) hv_X7_odds ⟨by decide, by decide⟩ ⟨by decide, by decide⟩ rfl rfl (by simp [x_cr, x_c1, x_c2]) dX7_last_74) ?_
      refine x_iload B dX7_last_77 rfl ?_
      refine x_i2l B dX7_last_79 ⟨by omega, by omega⟩ ?_
      refine x_iload B dX7_last_80 rfl ?_
      refine x_i2l B dX7_last_82 ⟨by omega, by omega⟩ ?_
      refine x_goP (x_rSN B (c_X1_mixed ⟨by omega, by omega⟩ ⟨by omega, by omega⟩ ⟨by omega, by omega⟩) q1260 q1060 q110 q1061 hd_X1_mixed ⟨by decide, by decide⟩ ⟨by decide, by decide⟩ rfl rfl (by simp [x_cr, x_c1, x_c2]) dX7_last_83) ?_
      refine x_l2i B dX7_last_86 ?_
      refine x_iret B (fun _ _ h => h) ?_ dX7_last_87
      exact ⟨congrArg (fun z => some (vi z)) (by unfold d_lst; rw [ew]; first | (exfalso; omega) | rw [if_pos (by omega)] | rw [if_neg (by omega)]), rfl⟩
  · refine x_aload_n B dX7_last_27 rfl ?_
    refine x_iload_n B dX7_last_28 rfl ?_
    refine x_iload_n B dX7_last_29 rfl ?_
    refine x_goP (x_rV B hk (show x_cl[6]? = some _ from rfl) (c_X7_ended (by assumption) ⟨by omega, by omega⟩ ⟨by omega, by omega⟩) (lw_V q1247 q1249 qs34 q119 q1250) hv_X7_ended ⟨by decide, by decide⟩ ⟨by decide, by decide⟩ rfl rfl (by simp [x_cr, x_c1, x_c2]) dX7_last_30) ?_
    refine x_goto B (tgt := 42) dX7_last_33 (by decide) ?_
    refine x_istw_5 B dX7_last_42 (by first | rfl | exact x_cr _ _) ?_
    refine x_iload_n B dX7_last_44 rfl ?_
    refine x_aload_n B dX7_last_45 rfl ?_
    refine x_getI B (k := 3) 3 rfl rfl xc_6 (by decide) hk (Or.inl q339) (fun _ h => h) dX7_last_46 (fun r_46 => ?_)
    refine x_icmp_ne B (tgt := 62) dX7_last_49 (by decide) ⟨by omega, by omega⟩ ⟨by omega, by omega⟩ (fun h_49 => ?_) (fun h_49 => ?_)
    · refine x_aload_n B dX7_last_62 rfl ?_
      refine x_iload_n B dX7_last_63 rfl ?_
      refine x_iload B dX7_last_64 rfl ?_
      refine x_goP (x_rV B hk (show x_cl[6]? = some _ from rfl) (c_X7_ended (by assumption) ⟨by omega, by omega⟩ ⟨by omega, by omega⟩) (lw_V q1247 q1249 qs34 q119 q1250) hv_X7_ended ⟨by decide, by decide⟩ ⟨by decide, by decide⟩ rfl rfl (by simp [x_cr, x_c1, x_c2]) dX7_last_66) ?_
      refine x_istw_6 B dX7_last_69 (by first | rfl | exact x_cr _ _) ?_
      refine x_aload_n B dX7_last_71 rfl ?_
      refine x_iload_n B dX7_last_72 rfl ?_
      refine x_iload_n B dX7_last_73 rfl ?_
      refine x_goP (x_rV B hk (show x_cl[6]? = some _ from rfl) (c_X7_odds (sd := sd) h hl2 ⟨by omega, by omega⟩) (lw_V q1253 q1255 qs35 q119 q1256) hv_X7_odds ⟨by decide, by decide⟩ ⟨by decide, by decide⟩ rfl rfl (by simp [x_cr, x_c1, x_c2]) dX7_last_74) ?_
      refine x_iload B dX7_last_77 rfl ?_
      refine x_i2l B dX7_last_79 ⟨by omega, by omega⟩ ?_
      refine x_iload B dX7_last_80 rfl ?_
      refine x_i2l B dX7_last_82 ⟨by omega, by omega⟩ ?_
      refine x_goP (x_rSN B (c_X1_mixed ⟨by omega, by omega⟩ ⟨by omega, by omega⟩ ⟨by omega, by omega⟩) q1260 q1060 q110 q1061 hd_X1_mixed ⟨by decide, by decide⟩ ⟨by decide, by decide⟩ rfl rfl (by simp [x_cr, x_c1, x_c2]) dX7_last_83) ?_
      refine x_l2i B dX7_last_86 ?_
      refine x_iret B (fun _ _ h => h) ?_ dX7_last_87
      exact ⟨congrArg (fun z => some (vi z)) (by unfold d_lst; rw [ew]; first | (exfalso; omega) | rw [if_pos (by omega)] | rw [if_neg (by omega)]), rfl⟩
    · refine x_aload_n B dX7_last_52 rfl ?_
      refine x_iload B dX7_last_53 rfl ?_
      refine x_iload_n B dX7_last_55 rfl ?_
      refine x_goP (x_rV B hk (show x_cl[6]? = some _ from rfl) (c_X7_ended (by assumption) ⟨by omega, by omega⟩ ⟨by omega, by omega⟩) (lw_V q1247 q1249 qs34 q119 q1250) hv_X7_ended ⟨by decide, by decide⟩ ⟨by decide, by decide⟩ rfl rfl (by simp [x_cr, x_c1, x_c2]) dX7_last_56) ?_
      refine x_goto B (tgt := 69) dX7_last_59 (by decide) ?_
      refine x_istw_6 B dX7_last_69 (by first | rfl | exact x_cr _ _) ?_
      refine x_aload_n B dX7_last_71 rfl ?_
      refine x_iload_n B dX7_last_72 rfl ?_
      refine x_iload_n B dX7_last_73 rfl ?_
      refine x_goP (x_rV B hk (show x_cl[6]? = some _ from rfl) (c_X7_odds (sd := sd) h hl2 ⟨by omega, by omega⟩) (lw_V q1253 q1255 qs35 q119 q1256) hv_X7_odds ⟨by decide, by decide⟩ ⟨by decide, by decide⟩ rfl rfl (by simp [x_cr, x_c1, x_c2]) dX7_last_74) ?_
      refine x_iload B dX7_last_77 rfl ?_
      refine x_i2l B dX7_last_79 ⟨by omega, by omega⟩ ?_
      refine x_iload B dX7_last_80 rfl ?_
      refine x_i2l B dX7_last_82 ⟨by omega, by omega⟩ ?_
      refine x_goP (x_rSN B (c_X1_mixed ⟨by omega, by omega⟩ ⟨by omega, by omega⟩ ⟨by omega, by omega⟩) q1260 q1060 q110 q1061 hd_X1_mixed ⟨by decide, by decide⟩ ⟨by decide, by decide⟩ rfl rfl (by simp [x_cr, x_c1, x_c2]) dX7_last_83) ?_
      refine x_l2i B dX7_last_86 ?_
      refine x_iret B (fun _ _ h => h) ?_ dX7_last_87
      exact ⟨congrArg (fun z => some (vi z)) (by unfold d_lst; rw [ew]; first | (exfalso; omega) | rw [if_pos (by omega)] | rw [if_neg (by omega)]), rfl⟩
theorem c_X7_isBetter {l : Launch} {E : x_E} {κ : x_Ka} {X : x_X} {sd i v z : Int} (hk : κ 60 = some (.inl (6, 1))) (hl2 : (sd = 1 ∧ i = X 60 3) ∨ (sd = 0 ∧ i ≠ X 60 3)) (hi : xR i) (hv : xR v) (hz : xR z) : x_Pu l yX7_isBetter cX7_isBetter 4 (some .boolean) 0 E κ X [x_rf E 60, vi i, vi v, vi z] (vi (d_bt sd v z)) := by
  refine x_Met.of [(false, x_rf E 60), (false, vi i), (false, vi v), (false, vi z)] [some (x_rf E 60), some (vi i), some (vi v), some (vi z)] 0 (by decide) rfl rfl ⟨x_cr E (60), rfl, rfl, rfl, trivial⟩ rfl rfl ?_
  intro p e s m args below meth c hargs hin B
  refine x_iload_n B dX7_isBetter_0 rfl ?_
  refine x_aload_n B dX7_isBetter_1 rfl ?_
  refine x_getI B (k := 3) 3 rfl rfl xc_6 (by decide) hk (Or.inl q339) (fun _ h => h) dX7_isBetter_2 (fun r_2 => ?_)
  refine x_icmp_ne B (tgt := 21) dX7_isBetter_5 (by decide) ⟨by omega, by omega⟩ ⟨by omega, by omega⟩ (fun h_5 => ?_) (fun h_5 => ?_)
  · refine x_iload_n B dX7_isBetter_21 rfl ?_
    refine x_iload_n B dX7_isBetter_22 rfl ?_
    refine x_icmp_ge B (tgt := 30) dX7_isBetter_23 (by decide) ⟨by omega, by omega⟩ ⟨by omega, by omega⟩ (fun h_23 => ?_) (fun h_23 => ?_)
    · refine x_iconst B dX7_isBetter_30 ?_
      refine x_zret B (fun _ _ h => h) ⟨by omega, by omega⟩ ?_ dX7_isBetter_31
      exact ⟨congrArg (fun z => some (vi z)) (by unfold d_bt; first | (rw [if_pos (by omega)]; first | rw [if_pos (by omega)] | rw [if_neg (by omega)]) | (rw [if_neg (by omega)]; first | rw [if_pos (by omega)] | rw [if_neg (by omega)])), rfl⟩
    · refine x_iconst B dX7_isBetter_26 ?_
      refine x_goto B (tgt := 31) dX7_isBetter_27 (by decide) ?_
      refine x_zret B (fun _ _ h => h) ⟨by omega, by omega⟩ ?_ dX7_isBetter_31
      exact ⟨congrArg (fun z => some (vi z)) (by unfold d_bt; first | (rw [if_pos (by omega)]; first | rw [if_pos (by omega)] | rw [if_neg (by omega)]) | (rw [if_neg (by omega)]; first | rw [if_pos (by omega)] | rw [if_neg (by omega)])), rfl⟩
  · refine x_iload_n B dX7_isBetter_8 rfl ?_
    refine x_iload_n B dX7_isBetter_9 rfl ?_
    refine x_icmp_le B (tgt := 17) dX7_isBetter_10 (by decide) ⟨by omega, by omega⟩ ⟨by omega, by omega⟩ (fun h_10 => ?_) (fun h_10 => ?_)
    · refine x_iconst B dX7_isBetter_17 ?_
      refine x_goto B (tgt := 31) dX7_isBetter_18 (by decide) ?_
      refine x_zret B (fun _ _ h => h) ⟨by omega, by omega⟩ ?_ dX7_isBetter_31
      exact ⟨congrArg (fun z => some (vi z)) (by unfold d_bt; first | (rw [if_pos (by omega)]; first | rw [if_pos (by omega)] | rw [if_neg (by omega)]) | (rw [if_neg (by omega)]; first | rw [if_pos (by omega)] | rw [if_neg (by omega)])), rfl⟩
    · refine x_iconst B dX7_isBetter_13 ?_
      refine x_goto B (tgt := 31) dX7_isBetter_14 (by decide) ?_
      refine x_zret B (fun _ _ h => h) ⟨by omega, by omega⟩ ?_ dX7_isBetter_31
      exact ⟨congrArg (fun z => some (vi z)) (by unfold d_bt; first | (rw [if_pos (by omega)]; first | rw [if_pos (by omega)] | rw [if_neg (by omega)]) | (rw [if_neg (by omega)]; first | rw [if_pos (by omega)] | rw [if_neg (by omega)])), rfl⟩
theorem c_X7_answers {l : Launch} {E : x_E} {κ : x_Ka} {X : x_X} {sd i load ch has_ : Int} (h : d_H κ X) (hl2 : (sd = 1 ∧ i = X 60 3) ∨ (sd = 0 ∧ i = X 60 4)) (hx : 0 ≤ load ∧ load ≤ 40) (hc : 0 ≤ ch ∧ ch ≤ 2) (hy : 0 ≤ has_ ∧ has_ ≤ 40) : x_Pu l yX7_answers cX7_answers 8 (some .int) 6 E κ X [x_rf E 60, vi i, vi load, vi ch, vi has_] (vi (d_ans (d_E X) (d_O X) (d_W X) sd load ch has_)) := by
  refine x_Met.of [(false, x_rf E 60), (false, vi i), (false, vi load), (false, vi ch), (false, vi has_)] [some (x_rf E 60), some (vi i), some (vi load), some (vi ch), some (vi has_), none, none, none] 3 (by decide) rfl rfl ⟨x_cr E (60), rfl, rfl, rfl, rfl, trivial⟩ rfl rfl ?_
  intro p e s m args below meth c hargs hin B
  obtain ⟨hC, ha, hb, hne⟩ := id h
  obtain ⟨hI, hP, hO, hW, hJ⟩ := id hC
  obtain ⟨hT, h0, hn, hl, hla⟩ := id hI
  have hk := h.k60
  have hi : 0 ≤ i ∧ i < X 1 2 := by omega
  have hR := h.R
  have lp_15 : ∀ (n : Nat) (q : Nat) (x best : Int), ((load + 1 ≤ x ∧ x ≤ 41) ∧ (0 ≤ best ∧ best ≤ 1000000) ∧ (q : Int) = (if ch > 0 then 41 - x else 0) ∧ d_ans (d_E X) (d_O X) (d_W X) sd load ch has_ = d_as (fun x => d_lst (d_E X) (d_O X) (d_W X) sd x has_) sd q x best) → ((42 - x).toNat < n) → x_G p l e (x_rm 6 0 0) s m args below meth c 8 E 0 0 (MQ below (x_Q E κ (fun v_ X_ => v_ = some (vi (d_ans (d_E X) (d_O X) (d_W X) sd load ch has_)) ∧ X_ = X)) args s 0 0 (fun q => E.1 ≤ q)) κ 15 [some (x_rf E 60), some (vi i), some (vi load), some (vi ch), some (vi has_), some (vi best), some (vi x), none] [] X := by
    intro n
    induction n with
    | zero => intro q x best hinv hme; exfalso; omega
    | succ n ih =>
      intro q x best hinv hme
      obtain ⟨hxr, hbr, hq, he⟩ := hinv
      have hlr := d_lst_r (ow := d_W X) hR sd x has_
      have hbt := d_bt_r sd (d_lst (d_E X) (d_O X) (d_W X) sd x has_) best
      refine x_iload B dX7_answers_15 rfl ?_
      refine x_bipush B dX7_answers_17 (by decide) ?_
      refine x_icmp_gt B (tgt := 64) dX7_answers_19 (by decide) ⟨by omega, by omega⟩ ⟨by omega, by omega⟩ (fun h_19 => ?_) (fun h_19 => ?_)
      · refine x_iload B dX7_answers_64 rfl ?_
        refine x_iret B (fun _ _ h => h) ?_ dX7_answers_66
        exact ⟨congrArg (fun z => some (vi z)) (by rw [he]; obtain rfl : q = 0 := (by first | (rw [if_neg (by omega)] at hq; omega) | (split at hq <;> omega)); rfl), rfl⟩
      · refine x_iload_n B dX7_answers_22 rfl ?_
        refine x_if_le B (tgt := 64) dX7_answers_23 (by decide) ⟨by omega, by omega⟩ (fun h_23 => ?_) (fun h_23 => ?_)
        · refine x_iload B dX7_answers_64 rfl ?_
          refine x_iret B (fun _ _ h => h) ?_ dX7_answers_66
          exact ⟨congrArg (fun z => some (vi z)) (by rw [he]; obtain rfl : q = 0 := (by first | (rw [if_neg (by omega)] at hq; omega) | (split at hq <;> omega)); rfl), rfl⟩
        · refine x_aload_n B dX7_answers_26 rfl ?_
          refine x_iload_n B dX7_answers_27 rfl ?_
          refine x_iload B dX7_answers_28 rfl ?_
          refine x_iload B dX7_answers_30 rfl ?_
          refine x_goP (x_rV B hk (show x_cl[6]? = some _ from rfl) (c_X7_last (sd := sd) h hl2 ⟨by omega, by omega⟩ hy) (lw_V q1243 q1245 qs33 q119 q1246) hv_X7_last ⟨by decide, by decide⟩ ⟨by decide, by decide⟩ rfl rfl (by simp [x_cr, x_c1, x_c2]) dX7_answers_32) ?_
          refine x_istw_7 B dX7_answers_35 (by first | rfl | exact x_cr _ _) ?_
          refine x_aload_n B dX7_answers_37 rfl ?_
          refine x_iload_n B dX7_answers_38 rfl ?_
          refine x_iload B dX7_answers_39 rfl ?_
          refine x_iload B dX7_answers_41 rfl ?_
          refine x_goP (x_rV B hk (show x_cl[6]? = some _ from rfl) (c_X7_isBetter (sd := sd) hk (by omega) ⟨by omega, by omega⟩ ⟨by omega, by omega⟩ ⟨by omega, by omega⟩) (lw_V q1261 q1263 qs36 q119 q1264) hv_X7_isBetter ⟨by decide, by decide⟩ ⟨by decide, by decide⟩ rfl rfl (by simp [x_cr, x_c1, x_c2]) dX7_answers_43) ?_
          refine x_if_eq B (tgt := 54) dX7_answers_46 (by decide) ⟨by omega, by omega⟩ (fun h_46 => ?_) (fun h_46 => ?_)
          · refine x_iload B dX7_answers_54 rfl ?_
            refine x_istw_5 B dX7_answers_56 (by first | rfl | exact x_cr _ _) ?_
            refine x_iinc_6 B dX7_answers_58 (by first | rfl | exact x_cr _ _) ?_
            refine x_goto B (tgt := 15) dX7_answers_61 (by decide) ?_
            refine x_fg_7 ?_
            rw [if_pos (by omega)] at hq
            obtain ⟨q, rfl⟩ : ∃ g, q = g + 1 := ⟨q - 1, by omega⟩
            unfold d_as at he
            first
            | (refine ih q _ _ ⟨⟨by omega, by omega⟩, hlr, by rw [if_pos (by omega)]; omega, ?_⟩ (by omega); rw [he, if_neg (by omega)]; done)
            | (refine ih q _ _ ⟨⟨by omega, by omega⟩, hbr, by rw [if_pos (by omega)]; omega, ?_⟩ (by omega); rw [he, if_pos (by omega)])
          · refine x_iload B dX7_answers_49 rfl ?_
            refine x_goto B (tgt := 56) dX7_answers_51 (by decide) ?_
            refine x_istw_5 B dX7_answers_56 (by first | rfl | exact x_cr _ _) ?_
            refine x_iinc_6 B dX7_answers_58 (by first | rfl | exact x_cr _ _) ?_
            refine x_goto B (tgt := 15) dX7_answers_61 (by decide) ?_
            refine x_fg_7 ?_
            rw [if_pos (by omega)] at hq
            obtain ⟨q, rfl⟩ : ∃ g, q = g + 1 := ⟨q - 1, by omega⟩
            unfold d_as at he
            first
            | (refine ih q _ _ ⟨⟨by omega, by omega⟩, hlr, by rw [if_pos (by omega)]; omega, ?_⟩ (by omega); rw [he, if_neg (by omega)]; done)
            | (refine ih q _ _ ⟨⟨by omega, by omega⟩, hbr, by rw [if_pos (by omega)]; omega, ?_⟩ (by omega); rw [he, if_pos (by omega)])
  refine x_aload_n B dX7_answers_0 rfl ?_
  refine x_iload_n B dX7_answers_1 rfl ?_
  refine x_iload_n B dX7_answers_2 rfl ?_
  refine x_iload B dX7_answers_3 rfl ?_
  refine x_goP (x_rV B hk (show x_cl[6]? = some _ from rfl) (c_X7_last (sd := sd) h hl2 hx hy) (lw_V q1243 q1245 qs33 q119 q1246) hv_X7_last ⟨by decide, by decide⟩ ⟨by decide, by decide⟩ rfl rfl (by simp [x_cr, x_c1, x_c2]) dX7_answers_5) ?_
  refine x_istw_5 B dX7_answers_8 (by first | rfl | exact x_cr _ _) ?_
  refine x_iload_n B dX7_answers_10 rfl ?_
  refine x_iconst B dX7_answers_11 ?_
  refine x_iadd B dX7_answers_12 ?_
  refine x_istw_6 B dX7_answers_13 (by first | rfl | exact x_cr _ _) ?_
  refine lp_15 _ (if ch > 0 then (40 - load).toNat else 0) _ _ ⟨⟨by omega, by omega⟩, d_lst_r hR sd load has_, by (split <;> omega), rfl⟩ (Nat.lt_succ_self _)
theorem c_X7_begins {l : Launch} {E : x_E} {κ : x_Ka} {X : x_X} {i j : Int} (hT : x_T κ) (hk : κ 60 = some (.inl (6, 1))) (hi : xR i) (hj : xR j) : x_Met l yX7_begins cX7_begins 4 none 0 0 0 E κ X [x_rf E 60, vi i, vi j] κ (fun v_ Y => v_ = none ∧ (∀ a, a ≠ 60 → a ≠ 63 → Y a = X a) ∧ Y 60 3 = i ∧ Y 60 4 = j ∧ ∀ k, 0 ≤ k → k < 15129 → Y (60 + 3) k = 0) := by
  refine x_Met.of [(false, x_rf E 60), (false, vi i), (false, vi j)] [some (x_rf E 60), some (vi i), some (vi j), none] 1 (by decide) rfl rfl ⟨x_cr E (60), rfl, rfl, trivial⟩ rfl rfl ?_
  intro p e s m args below meth c hargs hin B
  have lp_12 : ∀ (n : Nat) (k : Int) (Y : x_X), ((0 ≤ k ∧ k ≤ 15129) ∧ ((∀ a, a ≠ 60 → a ≠ 63 → Y a = X a) ∧ Y 60 3 = i ∧ Y 60 4 = j) ∧ ∀ j, 0 ≤ j → j < k → Y (60 + 3) j = 0) → ((15130 - k).toNat < n) → x_G p l e (x_rm 0 0 0) s m args below meth c 4 E 0 0 (MQ below (x_Q E κ (fun v_ Y => v_ = none ∧ (∀ a, a ≠ 60 → a ≠ 63 → Y a = X a) ∧ Y 60 3 = i ∧ Y 60 4 = j ∧ ∀ k, 0 ≤ k → k < 15129 → Y (60 + 3) k = 0)) args s 0 0 (fun q => E.1 ≤ q)) κ 12 [some (x_rf E 60), some (vi i), some (vi j), some (vi k)] [] Y := by
    intro n
    induction n with
    | zero => intro k Y hinv hme; exfalso; omega
    | succ n ih =>
      intro k Y hinv hme
      obtain ⟨hkr, ⟨ha, h0, h1⟩, hz⟩ := hinv
      refine x_iload_n B dX7_begins_12 rfl ?_
      refine x_sipush B dX7_begins_13 (by decide) ?_
      refine x_icmp_ge B (tgt := 32) dX7_begins_16 (by decide) ⟨by omega, by omega⟩ ⟨by omega, by omega⟩ (fun h_16 => ?_) (fun h_16 => ?_)
      · refine x_vret B (fun _ _ h => h) ?_ dX7_begins_32
        exact ⟨rfl, ha, h0, h1, fun k k1 k2 => hz k k1 (by omega)⟩
      · refine x_aload_n B dX7_begins_19 rfl ?_
        refine x_getC1 B (k := 2) hT rfl rfl xc_6 (by decide) hk (Or.inl q338) (fun _ h => h) dX7_begins_20 (fun k_20 => ?_)
        refine x_iload_n B dX7_begins_23 rfl ?_
        refine x_iconst B dX7_begins_24 ?_
        refine x_zast B k_20 ⟨by omega, by omega⟩ ⟨by omega, by omega⟩ dX7_begins_25 ?_
        refine x_iinc_3 B dX7_begins_26 (by first | rfl | exact x_cr _ _) ?_
        refine x_goto B (tgt := 12) dX7_begins_29 (by decide) ?_
        refine ih _ _ ⟨⟨by omega, by omega⟩, ⟨fun a a1 a2 => by rw [x_up_o _ (by omega)]; exact ha a a1 a2, by rw [x_up_o _ (by omega)]; exact h0, by rw [x_up_o _ (by omega)]; exact h1⟩, fun j j1 j2 => ?_⟩ (by omega)
        by_cases e : j = k
        · subst e; exact x_up_s _ _ _ _
        · rw [x_up_n _ (Or.inr e)]; exact hz j j1 (by omega)
  refine x_aload_n B dX7_begins_0 rfl ?_
  refine x_iload_n B dX7_begins_1 rfl ?_
  refine x_putI B (k := 3) 3 rfl rfl rfl ⟨by omega, by omega⟩ xc_6 (by decide) rfl nn_6_3 (fun _ => rfl) hk (Or.inl q339) (fun _ h => h) dX7_begins_2 ?_
  refine x_aload_n B dX7_begins_5 rfl ?_
  refine x_iload_n B dX7_begins_6 rfl ?_
  refine x_putI B (k := 4) 4 rfl rfl rfl ⟨by omega, by omega⟩ xc_6 (by decide) rfl nn_6_4 (fun _ => rfl) hk (Or.inl q340) (fun _ h => h) dX7_begins_7 ?_
  refine x_iconst B dX7_begins_10 ?_
  refine x_ist_3 B dX7_begins_11 (by first | rfl | exact x_cr _ _) ?_
  refine lp_12 _ 0 _ ⟨⟨by omega, by omega⟩, ⟨fun a a1 a2 => x_up2_o a1, by rw [x_up_n _ (Or.inr (by omega)), x_up_s], x_up_s _ _ _ _⟩, fun j j1 j2 => by omega⟩ (Nat.lt_succ_self _)
