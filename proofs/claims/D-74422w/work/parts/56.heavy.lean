def f_B2 (X Y : x_X) : Prop := (X 38 8 ≤ Y 38 8 ∧ Y 38 8 ≤ X 38 8 + 1000) ∧ ∀ t, 0 ≤ t → t ≤ 2 → ∀ k, 0 ≤ k → k < 15498 → Y (38 + 11 + 1 + 1 * t) k ≤ Y 38 8 + 120
theorem f_B.b2 {X Y : x_X} (h : f_B X) (he : f_eq X Y) : f_B2 X Y := by
  have h2 := h.cg he
  exact ⟨by rw [he 38 (by omega) (by omega)]; omega, h2.2⟩
theorem c_X1_heavy {l : Launch} {E : x_E} {κ : x_Ka} {X : x_X} {i : Int} (hC : n_C κ X) (k87 : κ 87 = some (.inr (1, 1))) (hB : f_B X) (hx : xR i) : x_Met l yX1_heavy cX1_heavy 2 (some .int) 59 1 0 E κ X [x_rf E 0, vi i] κ (fun v_ Y_ => k_eq X Y_ ∧ f_B2 X Y_ ∧ (if x_in i 0 (X 1 2 - 1) = 1 then (v_ = some (vi (q_free X (fun v => 1000 * v) i)) ∧ Y_ 0 7 = 2 ∧ Y_ 32 0 = q_lf X (fun v => 1000 * v) i ∧ Y_ 32 1 = q_plan X (fun v => 1000 * v) i) else (v_ = some (vi (-1)) ∧ r_eq X Y_))) := by
  refine x_Met.of [(false, x_rf E 0), (false, vi i)] [some (x_rf E 0), some (vi i)] 0 (by decide) rfl rfl ⟨x_cr E (0), rfl, trivial⟩ rfl rfl ?_
  intro p e s m args below meth c hargs hin B
  obtain ⟨hI, hP, hO, hW, hJ⟩ := id hC
  obtain ⟨hT, h0, hn, hl, hla⟩ := id hI
  refine x_lows (fun hlow => ?_)
  have hlo := hI.lo k87 hlow
  have hlo0 := hlo.1
  have z1 := x_in_01 i 0 (X 1 2 - 1)
  refine x_aload_n B dX1_heavy_0 rfl ?_
  refine x_iload_n B dX1_heavy_1 rfl ?_
  refine x_goP (x_rV B h0 (show x_cl[0]? = some _ from rfl) (c_X1_isLifter hI ⟨by omega, by omega⟩) (lw_V q735 q737 qs13 q110 q738) hv_X1_isLifter ⟨by decide, by decide⟩ ⟨by decide, by decide⟩ rfl rfl (by simp [x_cr, x_c1, x_c2]) dX1_heavy_2) ?_
  refine x_if_eq B (tgt := 23) dX1_heavy_5 (by decide) ⟨by omega, by omega⟩ (fun h_5 => ?_) (fun h_5 => ?_)
  · refine x_iconst B dX1_heavy_23 ?_
    refine x_wide (cells' := 1) (slots' := 0) (by omega) (by omega) ?_
    refine x_iret B (by first | exact x_ku_le n_10 | exact (fun _ _ h => h)) ?_ dX1_heavy_24
    first
    | exact ⟨k_eq.rf X, hB.b2 (fun _ _ _ => rfl), by rw [if_neg (by omega)]; exact ⟨rfl, rfl, rfl⟩⟩
    | (rw [(hv1.fq hn.2 (fun v => 1000 * v) i).1]; refine ⟨hk1.trans hkt, ⟨⟨by rw [t4, hfe 38 (by omega) (by omega)]; omega, by rw [t4, hfe 38 (by omega) (by omega)]; omega⟩, t5⟩, ?_⟩; rw [if_pos (by omega)]; exact ⟨rfl, t1, by rw [t2, (hv1.fq hn.2 (fun v => 1000 * v) i).2], by rw [t3, hv1.q hn.2]⟩)
  · have hi : 0 ≤ i ∧ i < X 1 2 := by unfold x_in at h_5; split at h_5 <;> omega
    refine x_aload_n B dX1_heavy_8 rfl ?_
    refine x_iload_n B dX1_heavy_9 rfl ?_
    refine x_new B xc_12 q947 q948 q136 (xd_12 E) xe_12 (by decide) (by decide) dX1_heavy_10 (fun z_10 n_10 => ?_)
    have hr : x_raw (.inl (12, 0)) := Or.inl ⟨_, rfl⟩
    have hk1 := (k_eq.rf X).nw (x_df 12) hlo0
    have hv1 := hk1.v hI hlo
    have hC1 := (hv1.C hC).ku n_10 hr
    have e1 : x_nw X (x_df 12) 1 2 = X 1 2 := congrFun (hv1.1 1 (by omega) (by omega)) 2
    have hfe : f_eq X (x_nw X (x_df 12)) := f_eq.nw (fun _ _ _ => rfl) _ hlo0
    have h0 := x_ku_le (kd := .inl (12, 0)) n_10 _ _ h0
    have k87 := x_ku_le (kd := .inl (12, 0)) n_10 _ _ k87
    have hA : x_Aim (x_ku κ (X (-1) 0) (.inl (12, 0))) (x_nw X (x_df 12)) (X (-1) 0) (fun v => 1000 * v) := Or.inl ⟨x_ku_s _ _ _, fun _ _ _ => rfl⟩
    refine x_dup B dX1_heavy_13 (by first | rfl | exact x_cr _ _) ?_
    refine x_goV (x_rIN B (by omega) (c_X14_init (by omega)) q949 q950 q136 q951 rfl hd_X14_init ⟨by decide, by decide⟩ ⟨by decide, by decide⟩ rfl rfl (by simp [x_cr, x_c1, x_c2]) dX1_heavy_14) ?_
    refine x_go (x_rV B h0 (show x_cl[0]? = some _ from rfl) (c_X1_tellsFree hC1 k87 (by rw [e1]; exact hi) hA (hB.cg hfe)) (lw_V q1158 q1160 qs27 q110 q1161) hv_X1_tellsFree ⟨by decide, by decide⟩ ⟨by decide, by decide⟩ rfl rfl (by simp [x_cr, x_c1, x_c2]) dX1_heavy_17) (fun v_17 X_17 p_17 => ?_)
    obtain ⟨rfl, hkt, ⟨t1, t2, t3⟩, t4, t5⟩ := p_17
    refine x_goto B (tgt := 24) dX1_heavy_20 (by decide) ?_
    refine x_wide (cells' := 1) (slots' := 0) (by omega) (by omega) ?_
    refine x_iret B (by first | exact x_ku_le n_10 | exact (fun _ _ h => h)) ?_ dX1_heavy_24
    first
    | exact ⟨k_eq.rf X, hB.b2 (fun _ _ _ => rfl), by rw [if_neg (by omega)]; exact ⟨rfl, rfl, rfl⟩⟩
    | (rw [(hv1.fq hn.2 (fun v => 1000 * v) i).1]; refine ⟨hk1.trans hkt, ⟨⟨by rw [t4, hfe 38 (by omega) (by omega)]; omega, by rw [t4, hfe 38 (by omega) (by omega)]; omega⟩, t5⟩, ?_⟩; rw [if_pos (by omega)]; exact ⟨rfl, t1, by rw [t2, (hv1.fq hn.2 (fun v => 1000 * v) i).2], by rw [t3, hv1.q hn.2]⟩)
theorem c_X1_reach {l : Launch} {E : x_E} {κ : x_Ka} {X : x_X} {i w : Int} (hC : n_C κ X) (k87 : κ 87 = some (.inr (1, 1))) (hB : f_B X) (hx : xR i) (hy : xR w) : x_Met l yX1_reach cX1_reach 3 (some .int) 59 1 1 E κ X [x_rf E 0, vi i, vi w] κ (fun v_ Y_ => k_eq X Y_ ∧ f_B2 X Y_ ∧ (if x_in i 0 (X 1 2 - 1) = 1 ∧ x_in w 0 121 = 1 then (v_ = some (vi (q_free X (a_rc w) i)) ∧ Y_ 0 7 = 2 ∧ Y_ 32 0 = q_lf X (a_rc w) i ∧ Y_ 32 1 = q_plan X (a_rc w) i) else (v_ = some (vi (-1)) ∧ r_eq X Y_))) := by
  refine x_Met.of [(false, x_rf E 0), (false, vi i), (false, vi w)] [some (x_rf E 0), some (vi i), some (vi w)] 0 (by decide) rfl rfl ⟨x_cr E (0), rfl, rfl, trivial⟩ rfl rfl ?_
  intro p e s m args below meth c hargs hin B
  obtain ⟨hI, hP, hO, hW, hJ⟩ := id hC
  obtain ⟨hT, h0, hn, hl, hla⟩ := id hI
  refine x_lows (fun hlow => ?_)
  have hlo := hI.lo k87 hlow
  have hlo0 := hlo.1
  have z1 := x_in_01 i 0 (X 1 2 - 1)
  have z2 := x_in_01 w 0 121
  refine x_aload_n B dX1_reach_0 rfl ?_
  refine x_iload_n B dX1_reach_1 rfl ?_
  refine x_goP (x_rV B h0 (show x_cl[0]? = some _ from rfl) (c_X1_isLifter hI ⟨by omega, by omega⟩) (lw_V q735 q737 qs13 q110 q738) hv_X1_isLifter ⟨by decide, by decide⟩ ⟨by decide, by decide⟩ rfl rfl (by simp [x_cr, x_c1, x_c2]) dX1_reach_2) ?_
  refine x_if_eq B (tgt := 31) dX1_reach_5 (by decide) ⟨by omega, by omega⟩ (fun h_5 => ?_) (fun h_5 => ?_)
  · refine x_iconst B dX1_reach_31 ?_
    refine x_wide (cells' := 1) (slots' := 1) (by omega) (by omega) ?_
    refine x_iret B (by first | exact x_ku_le n_17 | exact (fun _ _ h => h)) ?_ dX1_reach_32
    first
    | exact ⟨k_eq.rf X, hB.b2 (fun _ _ _ => rfl), by rw [if_neg (by omega)]; exact ⟨rfl, rfl, rfl⟩⟩
    | (rw [(hve.fq hn.2 (a_rc w) i).1]; refine ⟨hk2.trans hkt, ⟨⟨by rw [t4, hfe 38 (by omega) (by omega)]; omega, by rw [t4, hfe 38 (by omega) (by omega)]; omega⟩, t5⟩, ?_⟩; rw [if_pos ⟨by omega, by omega⟩]; exact ⟨rfl, t1, by rw [t2, (hve.fq hn.2 (a_rc w) i).2], by rw [t3, hve.q hn.2]⟩)
  · refine x_iload_n B dX1_reach_8 rfl ?_
    refine x_goP (x_rS B (c_X1_isGoal ⟨by omega, by omega⟩) (lw_S q1071 q1072 q110 q1073) hd_X1_isGoal ⟨by decide, by decide⟩ ⟨by decide, by decide⟩ rfl rfl (by simp [x_cr, x_c1, x_c2]) dX1_reach_9) ?_
    refine x_if_eq B (tgt := 31) dX1_reach_12 (by decide) ⟨by omega, by omega⟩ (fun h_12 => ?_) (fun h_12 => ?_)
    · refine x_iconst B dX1_reach_31 ?_
      refine x_wide (cells' := 1) (slots' := 1) (by omega) (by omega) ?_
      refine x_iret B (by first | exact x_ku_le n_17 | exact (fun _ _ h => h)) ?_ dX1_reach_32
      first
      | exact ⟨k_eq.rf X, hB.b2 (fun _ _ _ => rfl), by rw [if_neg (by omega)]; exact ⟨rfl, rfl, rfl⟩⟩
      | (rw [(hve.fq hn.2 (a_rc w) i).1]; refine ⟨hk2.trans hkt, ⟨⟨by rw [t4, hfe 38 (by omega) (by omega)]; omega, by rw [t4, hfe 38 (by omega) (by omega)]; omega⟩, t5⟩, ?_⟩; rw [if_pos ⟨by omega, by omega⟩]; exact ⟨rfl, t1, by rw [t2, (hve.fq hn.2 (a_rc w) i).2], by rw [t3, hve.q hn.2]⟩)
    · have hi : 0 ≤ i ∧ i < X 1 2 := by unfold x_in at h_5; split at h_5 <;> omega
      refine x_aload_n B dX1_reach_15 rfl ?_
      refine x_iload_n B dX1_reach_16 rfl ?_
      refine x_new B xc_13 q1075 q1076 q137 (xd_13 E) xe_13 (by decide) (by decide) dX1_reach_17 (fun z_17 n_17 => ?_)
      have hr : x_raw (.inl (13, 0)) := Or.inl ⟨_, rfl⟩
      have h0 := x_ku_le (kd := .inl (13, 0)) n_17 _ _ h0
      have k87 := x_ku_le (kd := .inl (13, 0)) n_17 _ _ k87
      have hk1 := (k_eq.rf X).nw (x_df 13) hlo0
      refine x_dup B dX1_reach_20 (by first | rfl | exact x_cr _ _) ?_
      refine x_iload_n B dX1_reach_21 rfl ?_
      refine x_goV (x_rIN B (by omega) (c_X15_init (by omega) (x_ku_s _ _ _) ⟨by omega, by omega⟩) q1077 q1078 q137 q1079 rfl hd_X15_init ⟨by decide, by decide⟩ ⟨by decide, by decide⟩ rfl rfl (by simp [x_cr, x_c1, x_c2]) dX1_reach_22) ?_
      have hk2 := hk1.up (a := X (-1) 0) (i := 0) (z := w) (by omega) hlo0
      have hve := hk2.v hI hlo
      have hC1 := (hve.C hC).ku n_17 hr
      have e1 : (x_up (x_nw X (x_df 13)) (X (-1) 0) 0 w) 1 2 = X 1 2 := congrFun (hve.1 1 (by omega) (by omega)) 2
      have hA := x_mkR (κ := (x_ku κ (X (-1) 0) (.inl (13, 0)))) (Y := (x_up (x_nw X (x_df 13)) (X (-1) 0) 0 w)) (a := X (-1) 0) (w := w) (x_ku_s _ _ _) (x_up_s _ _ _ _)
      have hfe : f_eq X (x_up (x_nw X (x_df 13)) (X (-1) 0) 0 w) := (f_eq.nw (fun _ _ _ => rfl) _ hlo0).up (by omega)
      refine x_go (x_rV B h0 (show x_cl[0]? = some _ from rfl) (c_X1_tellsFree hC1 k87 (by rw [e1]; exact hi) hA (hB.cg hfe)) (lw_V q1158 q1160 qs27 q110 q1161) hv_X1_tellsFree ⟨by decide, by decide⟩ ⟨by decide, by decide⟩ rfl rfl (by simp [x_cr, x_c1, x_c2]) dX1_reach_25) (fun v_25 X_25 p_25 => ?_)
      obtain ⟨rfl, hkt, ⟨t1, t2, t3⟩, t4, t5⟩ := p_25
      refine x_goto B (tgt := 32) dX1_reach_28 (by decide) ?_
      refine x_wide (cells' := 1) (slots' := 1) (by omega) (by omega) ?_
      refine x_iret B (by first | exact x_ku_le n_17 | exact (fun _ _ h => h)) ?_ dX1_reach_32
      first
      | exact ⟨k_eq.rf X, hB.b2 (fun _ _ _ => rfl), by rw [if_neg (by omega)]; exact ⟨rfl, rfl, rfl⟩⟩
      | (rw [(hve.fq hn.2 (a_rc w) i).1]; refine ⟨hk2.trans hkt, ⟨⟨by rw [t4, hfe 38 (by omega) (by omega)]; omega, by rw [t4, hfe 38 (by omega) (by omega)]; omega⟩, t5⟩, ?_⟩; rw [if_pos ⟨by omega, by omega⟩]; exact ⟨rfl, t1, by rw [t2, (hve.fq hn.2 (a_rc w) i).2], by rw [t3, hve.q hn.2]⟩)
theorem c_X1_against {l : Launch} {E : x_E} {κ : x_Ka} {X : x_X} {i j : Int} (hC : n_C κ X) (k87 : κ 87 = some (.inr (1, 1))) (hB : f_B X) (hx : xR i) (hy : xR j) : x_Met l yX1_against cX1_against 3 (some .int) 61 123 124 E κ X [x_rf E 0, vi i, vi j] κ (fun v_ Y_ => k_eq X Y_ ∧ f_B2 X Y_ ∧ (if x_in i 0 (X 1 2 - 1) = 1 ∧ x_in j 0 (X 1 2 - 1) = 1 ∧ i ≠ j then (v_ = some (vi (q_free X (q_bt X i j) i)) ∧ Y_ 0 7 = 2 ∧ Y_ 32 0 = q_lf X (q_bt X i j) i ∧ Y_ 32 1 = q_plan X (q_bt X i j) i) else (v_ = some (vi (-1)) ∧ r_eq X Y_))) := by
  refine x_Met.of [(false, x_rf E 0), (false, vi i), (false, vi j)] [some (x_rf E 0), some (vi i), some (vi j)] 0 (by decide) rfl rfl ⟨x_cr E (0), rfl, rfl, trivial⟩ rfl rfl ?_
  intro p e s m args below meth c hargs hin B
  obtain ⟨hI, hP, hO, hW, hJ⟩ := id hC
  obtain ⟨hT, h0, hn, hl, hla⟩ := id hI
  refine x_lows (fun hlow => ?_)
  have hlo := hI.lo k87 hlow
  have hlo0 := hlo.1
  have z1 := x_in_01 i 0 (X 1 2 - 1)
  have z2 := x_in_01 j 0 (X 1 2 - 1)
  refine x_aload_n B dX1_against_0 rfl ?_
  refine x_iload_n B dX1_against_1 rfl ?_
  refine x_iload_n B dX1_against_2 rfl ?_
  refine x_goP (x_rV B h0 (show x_cl[0]? = some _ from rfl) (c_X1_areTwo hI ⟨by omega, by omega⟩ ⟨by omega, by omega⟩) (lw_V q1098 q1100 qs23 q110 q1101) hv_X1_areTwo ⟨by decide, by decide⟩ ⟨by decide, by decide⟩ rfl rfl (by simp [x_cr, x_c1, x_c2]) dX1_against_3) ?_
  refine x_if_eq B (tgt := 23) dX1_against_6 (by decide) ⟨by split <;> omega, by split <;> omega⟩ (fun h_6 => ?_) (fun h_6 => ?_)
  · refine x_iconst B dX1_against_23 ?_
    refine x_wide (cells' := 123) (slots' := 124) (by omega) (by omega) ?_
    refine x_iret B (by first | exact x_ku_le hnone | exact (fun _ _ h => h)) ?_ dX1_against_24
    first
    | exact ⟨k_eq.rf X, hB.b2 (fun _ _ _ => rfl), by rw [if_neg (fun q => by rw [if_pos q] at h_6; omega)]; exact ⟨rfl, rfl, rfl⟩⟩
    | (rw [(hve.fq hn.2 (q_bt X i j) i).1]; refine ⟨hke.trans hkt, ⟨⟨by rw [t4, hfe 38 (by omega) (by omega)]; omega, by rw [t4, hfe 38 (by omega) (by omega)]; omega⟩, t5⟩, ?_⟩; rw [if_pos hcd]; exact ⟨rfl, t1, by rw [t2, (hve.fq hn.2 (q_bt X i j) i).2], by rw [t3, hve.q hn.2]⟩)
  · have hcd : x_in i 0 (X 1 2 - 1) = 1 ∧ x_in j 0 (X 1 2 - 1) = 1 ∧ i ≠ j := by split at h_6; assumption; exact absurd rfl h_6
    have hi : 0 ≤ i ∧ i < X 1 2 := by have := hcd.1; unfold x_in at this; split at this <;> omega
    have hj : 0 ≤ j ∧ j < X 1 2 := by have := hcd.2.1; unfold x_in at this; split at this <;> omega
    refine x_aload_n B dX1_against_9 rfl ?_
    refine x_iload_n B dX1_against_10 rfl ?_
    refine x_aload_n B dX1_against_11 rfl ?_
    refine x_iload_n B dX1_against_12 rfl ?_
    refine x_iload_n B dX1_against_13 rfl ?_
    refine x_goK (x_rVK B h0 (show x_cl[0]? = some _ from rfl) (c_X1_beat hC k87 hi hj) (lw_V q1102 q1104 qs24 q110 q1105) hv_X1_beat ⟨by decide, by decide⟩ ⟨by decide, by decide⟩ rfl rfl (by simp [x_cr, x_c1, x_c2]) dX1_against_14) (fun v_14 κ_14 X_14 p_14 => ?_)
    obtain ⟨rfl, rfl, hnone, hke, hre, hfe, hoe, hsz, hbo⟩ := p_14
    have hve := hke.v hI hlo
    have hr : x_raw (.inl (14, 0)) := Or.inl ⟨_, rfl⟩
    have hC1 := (hve.C hC).ku hnone hr
    have h0 := x_ku_le (kd := .inl (14, 0)) hnone _ _ h0
    have k87 := x_ku_le (kd := .inl (14, 0)) hnone _ _ k87
    have e1 : X_14 1 2 = X 1 2 := congrFun (hve.1 1 (by omega) (by omega)) 2
    have hA : x_Aim (x_ku κ (X (-1) 0 + 122) (.inl (14, 0))) X_14 (X (-1) 0 + 122) (q_bt X i j) := Or.inr (Or.inr (Or.inl ⟨hbo.bok hC hj (x_ku_le hnone) (x_ku_s _ _ _), fun v v1 v2 => (hbo.beat ⟨v1, v2⟩).symm⟩))
    refine x_go (x_rV B h0 (show x_cl[0]? = some _ from rfl) (c_X1_tellsFree hC1 k87 (by rw [e1]; exact hi) hA (hB.cg hfe)) (lw_V q1158 q1160 qs27 q110 q1161) hv_X1_tellsFree ⟨by decide, by decide⟩ ⟨by decide, by decide⟩ rfl rfl (by simp [x_cr, x_c1, x_c2]) dX1_against_17) (fun v_17 X_17 p_17 => ?_)
    obtain ⟨rfl, hkt, ⟨t1, t2, t3⟩, t4, t5⟩ := p_17
    refine x_goto B (tgt := 24) dX1_against_20 (by decide) ?_
    refine x_wide (cells' := 123) (slots' := 124) (by omega) (by omega) ?_
    refine x_iret B (by first | exact x_ku_le hnone | exact (fun _ _ h => h)) ?_ dX1_against_24
    first
    | exact ⟨k_eq.rf X, hB.b2 (fun _ _ _ => rfl), by rw [if_neg (fun q => by rw [if_pos q] at h_6; omega)]; exact ⟨rfl, rfl, rfl⟩⟩
    | (rw [(hve.fq hn.2 (q_bt X i j) i).1]; refine ⟨hke.trans hkt, ⟨⟨by rw [t4, hfe 38 (by omega) (by omega)]; omega, by rw [t4, hfe 38 (by omega) (by omega)]; omega⟩, t5⟩, ?_⟩; rw [if_pos hcd]; exact ⟨rfl, t1, by rw [t2, (hve.fq hn.2 (q_bt X i j) i).2], by rw [t3, hve.q hn.2]⟩)
theorem c_X1_gold {l : Launch} {E : x_E} {κ : x_Ka} {X : x_X} {i : Int} (hC : n_C κ X) (k87 : κ 87 = some (.inr (1, 1))) (hB : f_B X) (hx : xR i) : x_Met l yX1_gold cX1_gold 2 (some .int) 61 617 628 E κ X [x_rf E 0, vi i] κ (fun v_ Y_ => k_eq X Y_ ∧ f_B2 X Y_ ∧ (if x_in i 0 (X 1 2 - 1) = 1 then (v_ = some (vi (q_free X (q_wn X i) i)) ∧ Y_ 0 7 = 2 ∧ Y_ 32 0 = q_lf X (q_wn X i) i ∧ Y_ 32 1 = q_plan X (q_wn X i) i) else (v_ = some (vi (-1)) ∧ r_eq X Y_))) := by
  refine x_Met.of [(false, x_rf E 0), (false, vi i)] [some (x_rf E 0), some (vi i)] 0 (by decide) rfl rfl ⟨x_cr E (0), rfl, trivial⟩ rfl rfl ?_
  intro p e s m args below meth c hargs hin B
  obtain ⟨hI, hP, hO, hW, hJ⟩ := id hC
  obtain ⟨hT, h0, hn, hl, hla⟩ := id hI
  refine x_lows (fun hlow => ?_)
  have hlo := hI.lo k87 hlow
  have hlo0 := hlo.1
  have z1 := x_in_01 i 0 (X 1 2 - 1)
  refine x_aload_n B dX1_gold_0 rfl ?_
  refine x_iload_n B dX1_gold_1 rfl ?_
  refine x_goP (x_rV B h0 (show x_cl[0]? = some _ from rfl) (c_X1_isLifter hI ⟨by omega, by omega⟩) (lw_V q735 q737 qs13 q110 q738) hv_X1_isLifter ⟨by decide, by decide⟩ ⟨by decide, by decide⟩ rfl rfl (by simp [x_cr, x_c1, x_c2]) dX1_gold_2) ?_
  refine x_if_eq B (tgt := 21) dX1_gold_5 (by decide) ⟨by omega, by omega⟩ (fun h_5 => ?_) (fun h_5 => ?_)
  · refine x_iconst B dX1_gold_21 ?_
    refine x_wide (cells' := 617) (slots' := 628) (by omega) (by omega) ?_
    refine x_iret B (by first | exact hup | exact (fun _ _ h => h)) ?_ dX1_gold_22
    first
    | exact ⟨k_eq.rf X, hB.b2 (fun _ _ _ => rfl), by rw [if_neg (by omega)]; exact ⟨rfl, rfl, rfl⟩⟩
    | (rw [(hve.fq hn.2 (q_wn X i) i).1]; refine ⟨hke.trans hkt, ⟨⟨by rw [t4, hfe 38 (by omega) (by omega)]; omega, by rw [t4, hfe 38 (by omega) (by omega)]; omega⟩, t5⟩, ?_⟩; rw [if_pos (by omega)]; exact ⟨rfl, t1, by rw [t2, (hve.fq hn.2 (q_wn X i) i).2], by rw [t3, hve.q hn.2]⟩)
  · have hi : 0 ≤ i ∧ i < X 1 2 := by unfold x_in at h_5; split at h_5 <;> omega
    refine x_aload_n B dX1_gold_8 rfl ?_
    refine x_iload_n B dX1_gold_9 rfl ?_
    refine x_aload_n B dX1_gold_10 rfl ?_
    refine x_iload_n B dX1_gold_11 rfl ?_
    refine x_goK (x_rVK B h0 (show x_cl[0]? = some _ from rfl) (c_X1_win hC k87 hi) (lw_V q1123 q1125 qs25 q110 q1126) hv_X1_win ⟨by decide, by decide⟩ ⟨by decide, by decide⟩ rfl rfl (by simp [x_cr, x_c1, x_c2]) dX1_gold_12) (fun v_12 κ_12 X_12 p_12 => ?_)
    obtain ⟨ma, rfl, hA3, hup, hT3, hke, hre, hfe⟩ := p_12
    have hve := hke.v hI hlo
    have hC1 := (hve.C hC).up hup hT3
    have h0 := hup _ _ h0
    have k87 := hup _ _ k87
    have e1 : X_12 1 2 = X 1 2 := congrFun (hve.1 1 (by omega) (by omega)) 2
    refine x_go (x_rV B h0 (show x_cl[0]? = some _ from rfl) (c_X1_tellsFree hC1 k87 (by rw [e1]; exact hi) hA3 (hB.cg hfe)) (lw_V q1158 q1160 qs27 q110 q1161) hv_X1_tellsFree ⟨by decide, by decide⟩ ⟨by decide, by decide⟩ rfl rfl (by simp [x_cr, x_c1, x_c2]) dX1_gold_15) (fun v_15 X_15 p_15 => ?_)
    obtain ⟨rfl, hkt, ⟨t1, t2, t3⟩, t4, t5⟩ := p_15
    refine x_goto B (tgt := 22) dX1_gold_18 (by decide) ?_
    refine x_wide (cells' := 617) (slots' := 628) (by omega) (by omega) ?_
    refine x_iret B (by first | exact hup | exact (fun _ _ h => h)) ?_ dX1_gold_22
    first
    | exact ⟨k_eq.rf X, hB.b2 (fun _ _ _ => rfl), by rw [if_neg (by omega)]; exact ⟨rfl, rfl, rfl⟩⟩
    | (rw [(hve.fq hn.2 (q_wn X i) i).1]; refine ⟨hke.trans hkt, ⟨⟨by rw [t4, hfe 38 (by omega) (by omega)]; omega, by rw [t4, hfe 38 (by omega) (by omega)]; omega⟩, t5⟩, ?_⟩; rw [if_pos (by omega)]; exact ⟨rfl, t1, by rw [t2, (hve.fq hn.2 (q_wn X i) i).2], by rw [t3, hve.q hn.2]⟩)
