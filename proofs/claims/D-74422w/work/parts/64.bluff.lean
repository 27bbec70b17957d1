theorem c_X1_bluff {l : Launch} {E : x_E} {κ : x_Ka} {X : x_X} {i j x y : Int} (hC : n_C κ X) (k87 : κ 87 = some (.inr (1, 1))) (hi0 : xR i) (hj0 : xR j) (hx0 : xR x) (hy0 : xR y) : x_Met l yX1_bluff cX1_bluff 6 (some .int) 14 0 0 E κ X [x_rf E 0, vi i, vi j, vi x, vi y] κ (fun v_ Y_ => k_eq X Y_ ∧ f_eq X Y_ ∧ (if (x_in i 0 (X 1 2 - 1) = 1 ∧ x_in j 0 (X 1 2 - 1) = 1 ∧ i ≠ j) ∧ x_in x 0 2 = 1 ∧ x_in y 0 2 = 1 then (if q_nd (c_M X 3) i j ≠ 0 then (v_ = some (vi (q_nd (c_M X 3) i j)) ∧ r_eq X Y_) else (v_ = some (vi (q_dv X i j (c_M X 3 i 3) (c_M X 3 j 3) x y).1) ∧ Y_ 0 7 = 2 ∧ Y_ 32 0 = (if (d_fs (c_lot X) i j (c_M X 3 i 3) (c_M X 3 j 3)) = 0 then j else i) ∧ Y_ 32 1 = (q_dv X i j (c_M X 3 i 3) (c_M X 3 j 3) x y).2)) else (v_ = some (vi (-1)) ∧ r_eq X Y_))) := by
  refine x_Met.of [(false, x_rf E 0), (false, vi i), (false, vi j), (false, vi x), (false, vi y)] [some (x_rf E 0), some (vi i), some (vi j), some (vi x), some (vi y), none] 1 (by decide) rfl rfl ⟨x_cr E (0), rfl, rfl, rfl, rfl, trivial⟩ rfl rfl ?_
  intro p e s m args below meth c hargs hin B
  obtain ⟨hI, hP, hO, hW, hJ⟩ := id hC
  obtain ⟨hT, h0, hn, hl, hla⟩ := id hI
  refine x_lows (fun hlow => ?_)
  have hlo := hI.lo k87 hlow
  have hlo0 := hlo.1
  have z1 := x_in_01 i 0 (X 1 2 - 1)
  have z2 := x_in_01 j 0 (X 1 2 - 1)
  have z3 := x_in_01 x 0 2
  have z4 := x_in_01 y 0 2
  refine x_aload_n B dX1_bluff_0 rfl ?_
  refine x_iload_n B dX1_bluff_1 rfl ?_
  refine x_iload_n B dX1_bluff_2 rfl ?_
  refine x_goP (x_rV B h0 (show x_cl[0]? = some _ from rfl) (c_X1_areTwo hI ⟨by omega, by omega⟩ ⟨by omega, by omega⟩) (lw_V q1098 q1100 qs23 q110 q1101) hv_X1_areTwo ⟨by decide, by decide⟩ ⟨by decide, by decide⟩ rfl rfl (by simp [x_cr, x_c1, x_c2]) dX1_bluff_3) ?_
  refine x_if_eq B (tgt := 34) dX1_bluff_6 (by decide) ⟨by split <;> omega, by split <;> omega⟩ (fun h_6 => ?_) (fun h_6 => ?_)
  · refine x_iconst B dX1_bluff_34 ?_
    refine x_iret B (fun _ _ h => h) ?_ dX1_bluff_35
    first
    | exact ⟨k_eq.rf X, fun _ _ _ => rfl, by rw [if_neg (fun q => by rw [if_pos q.1] at h_6; omega)]; exact ⟨rfl, rfl, rfl⟩⟩
    | exact ⟨k_eq.rf X, fun _ _ _ => rfl, by rw [if_neg (fun q => by have := q.2; omega)]; exact ⟨rfl, rfl, rfl⟩⟩
  · have hcd : x_in i 0 (X 1 2 - 1) = 1 ∧ x_in j 0 (X 1 2 - 1) = 1 ∧ i ≠ j := by split at h_6; assumption; exact absurd rfl h_6
    have hi : 0 ≤ i ∧ i < X 1 2 := by have := hcd.1; unfold x_in at this; split at this <;> omega
    have hj : 0 ≤ j ∧ j < X 1 2 := by have := hcd.2.1; unfold x_in at this; split at this <;> omega
    have hne := hcd.2.2
    have hnd : -3 ≤ q_nd (c_M X 3) i j ∧ q_nd (c_M X 3) i j ≤ 0 := by unfold q_nd; split; omega; split <;> omega
    refine x_iload_n B dX1_bluff_9 rfl ?_
    refine x_i2l B dX1_bluff_10 ⟨by omega, by omega⟩ ?_
    refine x_lconst B 0 dX1_bluff_11 (by decide) ?_
    refine x_ldc2 B (2) q742 (by decide) dX1_bluff_12 ?_
    refine x_goP (x_rS B (c_X1_in ⟨by omega, by omega⟩ ⟨by omega, by omega⟩ ⟨by omega, by omega⟩) (lw_S q464 q465 q110 q466) hd_X1_in ⟨by decide, by decide⟩ ⟨by decide, by decide⟩ rfl rfl (by simp [x_cr, x_c1, x_c2]) dX1_bluff_15) ?_
    refine x_if_eq B (tgt := 34) dX1_bluff_18 (by decide) ⟨by omega, by omega⟩ (fun h_18 => ?_) (fun h_18 => ?_)
    · refine x_iconst B dX1_bluff_34 ?_
      refine x_iret B (fun _ _ h => h) ?_ dX1_bluff_35
      first
      | exact ⟨k_eq.rf X, fun _ _ _ => rfl, by rw [if_neg (fun q => by rw [if_pos q.1] at h_6; omega)]; exact ⟨rfl, rfl, rfl⟩⟩
      | exact ⟨k_eq.rf X, fun _ _ _ => rfl, by rw [if_neg (fun q => by have := q.2; omega)]; exact ⟨rfl, rfl, rfl⟩⟩
    · refine x_iload B dX1_bluff_21 rfl ?_
      refine x_i2l B dX1_bluff_23 ⟨by omega, by omega⟩ ?_
      refine x_lconst B 0 dX1_bluff_24 (by decide) ?_
      refine x_ldc2 B (2) q742 (by decide) dX1_bluff_25 ?_
      refine x_goP (x_rS B (c_X1_in ⟨by omega, by omega⟩ ⟨by omega, by omega⟩ ⟨by omega, by omega⟩) (lw_S q464 q465 q110 q466) hd_X1_in ⟨by decide, by decide⟩ ⟨by decide, by decide⟩ rfl rfl (by simp [x_cr, x_c1, x_c2]) dX1_bluff_28) ?_
      refine x_if_ne B (tgt := 36) dX1_bluff_31 (by decide) ⟨by omega, by omega⟩ (fun h_31 => ?_) (fun h_31 => ?_)
      · have hx : 0 ≤ x ∧ x ≤ 2 := by unfold x_in at h_18; split at h_18 <;> omega
        have hy : 0 ≤ y ∧ y ≤ 2 := by unfold x_in at h_31; split at h_31 <;> omega
        refine x_aload_n B dX1_bluff_36 rfl ?_
        refine x_iload_n B dX1_bluff_37 rfl ?_
        refine x_iload_n B dX1_bluff_38 rfl ?_
        refine x_goP (x_rV B h0 (show x_cl[0]? = some _ from rfl) (c_X1_noDuel hC hi hj) (lw_V q1214 q1216 qs29 q110 q1217) hv_X1_noDuel ⟨by decide, by decide⟩ ⟨by decide, by decide⟩ rfl rfl (by simp [x_cr, x_c1, x_c2]) dX1_bluff_39) ?_
        refine x_istw_5 B dX1_bluff_42 (by first | rfl | exact x_cr _ _) ?_
        refine x_iload B dX1_bluff_44 rfl ?_
        refine x_if_eq B (tgt := 54) dX1_bluff_46 (by decide) ⟨by omega, by omega⟩ (fun h_46 => ?_) (fun h_46 => ?_)
        · refine x_aload_n B dX1_bluff_54 rfl ?_
          refine x_iload_n B dX1_bluff_55 rfl ?_
          refine x_iload_n B dX1_bluff_56 rfl ?_
          refine x_iload_n B dX1_bluff_57 rfl ?_
          refine x_iload B dX1_bluff_58 rfl ?_
          refine x_go (x_rV B h0 (show x_cl[0]? = some _ from rfl) (c_X1_tellsDuel hC k87 hi hj hne hx hy) (lw_V q1218 q1220 qs30 q110 q1221) hv_X1_tellsDuel ⟨by decide, by decide⟩ ⟨by decide, by decide⟩ rfl rfl (by simp [x_cr, x_c1, x_c2]) dX1_bluff_60) (fun v_60 X_60 p_60 => ?_)
          obtain ⟨rfl, t1, t2, t3, -⟩ := p_60
          refine x_iret B (fun _ _ h => h) ?_ dX1_bluff_63
          first
          | exact ⟨t1, t2, by rw [if_pos ⟨hcd, by omega, by omega⟩, if_neg (by omega)]; exact ⟨rfl, t3⟩⟩
          | exact ⟨k_eq.rf X, fun _ _ _ => rfl, by rw [if_pos ⟨hcd, by omega, by omega⟩, if_pos (by omega)]; exact ⟨rfl, rfl, rfl⟩⟩
        · refine x_iload B dX1_bluff_49 rfl ?_
          refine x_goto B (tgt := 63) dX1_bluff_51 (by decide) ?_
          refine x_iret B (fun _ _ h => h) ?_ dX1_bluff_63
          first
          | exact ⟨t1, t2, by rw [if_pos ⟨hcd, by omega, by omega⟩, if_neg (by omega)]; exact ⟨rfl, t3⟩⟩
          | exact ⟨k_eq.rf X, fun _ _ _ => rfl, by rw [if_pos ⟨hcd, by omega, by omega⟩, if_pos (by omega)]; exact ⟨rfl, rfl, rfl⟩⟩
      · refine x_iconst B dX1_bluff_34 ?_
        refine x_iret B (fun _ _ h => h) ?_ dX1_bluff_35
        first
        | exact ⟨k_eq.rf X, fun _ _ _ => rfl, by rw [if_neg (fun q => by rw [if_pos q.1] at h_6; omega)]; exact ⟨rfl, rfl, rfl⟩⟩
        | exact ⟨k_eq.rf X, fun _ _ _ => rfl, by rw [if_neg (fun q => by have := q.2; omega)]; exact ⟨rfl, rfl, rfl⟩⟩
theorem c_X1_duel {l : Launch} {E : x_E} {κ : x_Ka} {X : x_X} {i j : Int} (hC : n_C κ X) (k87 : κ 87 = some (.inr (1, 1))) (hi0 : xR i) (hj0 : xR j) : x_Met l yX1_duel cX1_duel 5 (some .int) 14 0 0 E κ X [x_rf E 0, vi i, vi j] κ (fun v_ Y_ => k_eq X Y_ ∧ f_eq X Y_ ∧ (if x_in i 0 (X 1 2 - 1) = 1 ∧ x_in j 0 (X 1 2 - 1) = 1 ∧ i ≠ j then (if q_nd (c_M X 3) i j ≠ 0 then (v_ = some (vi (q_nd (c_M X 3) i j)) ∧ r_eq X Y_) else (v_ = some (vi (q_dv X i j (c_M X 3 i 3) (c_M X 3 j 3) (c_M X 3 i 5) (c_M X 3 j 5)).1) ∧ Y_ 0 7 = 3 ∧ Y_ 32 0 = (if (d_fs (c_lot X) i j (c_M X 3 i 3) (c_M X 3 j 3)) = 0 then j else i) ∧ Y_ 32 1 = (q_dv X i j (c_M X 3 i 3) (c_M X 3 j 3) (c_M X 3 i 5) (c_M X 3 j 5)).2 ∧ Y_ 32 2 = (q_dv X i j (c_M X 3 i 3) (c_M X 3 j 3) 0 0).1)) else (v_ = some (vi (-1)) ∧ r_eq X Y_))) := by
  refine x_Met.of [(false, x_rf E 0), (false, vi i), (false, vi j)] [some (x_rf E 0), some (vi i), some (vi j), none, none] 2 (by decide) rfl rfl ⟨x_cr E (0), rfl, rfl, trivial⟩ rfl rfl ?_
  intro p e s m args below meth c hargs hin B
  obtain ⟨hI, hP, hO, hW, hJ⟩ := id hC
  obtain ⟨hT, h0, hn, hl, hla⟩ := id hI
  refine x_lows (fun hlow => ?_)
  have hlo := hI.lo k87 hlow
  have hlo0 := hlo.1
  have z1 := x_in_01 i 0 (X 1 2 - 1)
  have z2 := x_in_01 j 0 (X 1 2 - 1)
  refine x_aload_n B dX1_duel_0 rfl ?_
  refine x_iload_n B dX1_duel_1 rfl ?_
  refine x_iload_n B dX1_duel_2 rfl ?_
  refine x_goP (x_rV B h0 (show x_cl[0]? = some _ from rfl) (c_X1_areTwo hI ⟨by omega, by omega⟩ ⟨by omega, by omega⟩) (lw_V q1098 q1100 qs23 q110 q1101) hv_X1_areTwo ⟨by decide, by decide⟩ ⟨by decide, by decide⟩ rfl rfl (by simp [x_cr, x_c1, x_c2]) dX1_duel_3) ?_
  refine x_if_ne B (tgt := 11) dX1_duel_6 (by decide) ⟨by split <;> omega, by split <;> omega⟩ (fun h_6 => ?_) (fun h_6 => ?_)
  · have hcd : x_in i 0 (X 1 2 - 1) = 1 ∧ x_in j 0 (X 1 2 - 1) = 1 ∧ i ≠ j := by split at h_6; assumption; exact absurd rfl h_6
    have hi : 0 ≤ i ∧ i < X 1 2 := by have := hcd.1; unfold x_in at this; split at this <;> omega
    have hj : 0 ≤ j ∧ j < X 1 2 := by have := hcd.2.1; unfold x_in at this; split at this <;> omega
    have hne := hcd.2.2
    have hnd : -3 ≤ q_nd (c_M X 3) i j ∧ q_nd (c_M X 3) i j ≤ 0 := by unfold q_nd; split; omega; split <;> omega
    refine x_aload_n B dX1_duel_11 rfl ?_
    refine x_iload_n B dX1_duel_12 rfl ?_
    refine x_iload_n B dX1_duel_13 rfl ?_
    refine x_goP (x_rV B h0 (show x_cl[0]? = some _ from rfl) (c_X1_noDuel hC hi hj) (lw_V q1214 q1216 qs29 q110 q1217) hv_X1_noDuel ⟨by decide, by decide⟩ ⟨by decide, by decide⟩ rfl rfl (by simp [x_cr, x_c1, x_c2]) dX1_duel_14) ?_
    refine x_ist_3 B dX1_duel_17 (by first | rfl | exact x_cr _ _) ?_
    refine x_iload_n B dX1_duel_18 rfl ?_
    refine x_if_eq B (tgt := 24) dX1_duel_19 (by decide) ⟨by omega, by omega⟩ (fun h_19 => ?_) (fun h_19 => ?_)
    · have i3 : c_M X 3 i 3 = X (3 + 1 + 1 + 2 * i) 3 := c_M_s hi (by omega)
      have i5 : c_M X 3 i 5 = X (3 + 1 + 1 + 2 * i) 5 := c_M_s hi (by omega)
      have j3 : c_M X 3 j 3 = X (3 + 1 + 1 + 2 * j) 3 := c_M_s hj (by omega)
      have j5 : c_M X 3 j 5 = X (3 + 1 + 1 + 2 * j) 5 := c_M_s hj (by omega)
      have wi := hW.2.1 i hi.1 hi.2
      have wj := hW.2.1 j hj.1 hj.2
      refine x_aload_n B dX1_duel_24 rfl ?_
      refine x_iload_n B dX1_duel_25 rfl ?_
      refine x_iload_n B dX1_duel_26 rfl ?_
      refine x_aload_n B dX1_duel_27 rfl ?_
      refine x_getC0 B (k := 2) hT rfl rfl xc_0 (by decide) h0 (Or.inl q400) (fun _ h => h) dX1_duel_28 (fun k_28 => ?_)
      refine x_getC1 B (k := 0) hT rfl rfl xc_2 (by decide) k_28 (Or.inr q244) (fun _ h => h) dX1_duel_31 (fun k_31 => ?_)
      refine x_iload_n B dX1_duel_34 rfl ?_
      refine x_aaldC B (t := 10) hT k_31 rfl rfl rfl rfl ⟨by omega, by omega⟩ dX1_duel_35 (fun k_35 => ?_)
      refine x_getI B (k := 5) 5 rfl rfl xc_3 (by decide) k_35 (Or.inr q215) (fun _ h => h) dX1_duel_36 (fun r_36 => ?_)
      rw [← i5]
      refine x_aload_n B dX1_duel_39 rfl ?_
      refine x_getC0 B (k := 2) hT rfl rfl xc_0 (by decide) h0 (Or.inl q400) (fun _ h => h) dX1_duel_40 (fun k_40 => ?_)
      refine x_getC1 B (k := 0) hT rfl rfl xc_2 (by decide) k_40 (Or.inr q244) (fun _ h => h) dX1_duel_43 (fun k_43 => ?_)
      refine x_iload_n B dX1_duel_46 rfl ?_
      refine x_aaldC B (t := 10) hT k_43 rfl rfl rfl rfl ⟨by omega, by omega⟩ dX1_duel_47 (fun k_47 => ?_)
      refine x_getI B (k := 5) 5 rfl rfl xc_3 (by decide) k_47 (Or.inr q215) (fun _ h => h) dX1_duel_48 (fun r_48 => ?_)
      rw [← j5]
      refine x_go (x_rV B h0 (show x_cl[0]? = some _ from rfl) (c_X1_tellsDuel hC k87 hi hj hne ⟨by omega, by omega⟩ ⟨by omega, by omega⟩) (lw_V q1218 q1220 qs30 q110 q1221) hv_X1_tellsDuel ⟨by decide, by decide⟩ ⟨by decide, by decide⟩ rfl rfl (by simp [x_cr, x_c1, x_c2]) dX1_duel_51) (fun v_51 X_51 p_51 => ?_)
      obtain ⟨rfl, t1, t2, t3, tI, t6, t7⟩ := p_51
      have hv := t1.v hI hlo
      have hH := d_H.mk hC hv hi hj hne t6 t7
      have hVe := (hv.dV hn.2 t6 t7).1.symm
      have ei : X_51 (3 + 1 + 1 + 2 * i) 3 = c_M X 3 i 3 := by rw [hv.1 _ (by omega) (by omega), i3]
      have ej : X_51 (3 + 1 + 1 + 2 * j) 3 = c_M X 3 j 3 := by rw [hv.1 _ (by omega) (by omega), j3]
      have hqr := q_dv_r hC hi hj (c_M X 3 i 3) (c_M X 3 j 3) 0 0
      refine x_istw_4 B dX1_duel_54 (by first | rfl | exact x_cr _ _) ?_
      refine x_aload_n B dX1_duel_56 rfl ?_
      refine x_aload_n B dX1_duel_57 rfl ?_
      refine x_getC0 B (k := 16) hT rfl rfl xc_0 (by decide) h0 (Or.inl q417) (fun _ h => h) dX1_duel_58 (fun k_58 => ?_)
      refine x_aload_n B dX1_duel_61 rfl ?_
      refine x_getC0 B (k := 2) hT rfl rfl xc_0 (by decide) h0 (Or.inl q400) (fun _ h => h) dX1_duel_62 (fun k_62 => ?_)
      refine x_getC1 B (k := 0) hT rfl rfl xc_2 (by decide) k_62 (Or.inr q244) (fun _ h => h) dX1_duel_65 (fun k_65 => ?_)
      refine x_iload_n B dX1_duel_68 rfl ?_
      refine x_aaldC B (t := 10) hT k_65 rfl rfl rfl rfl ⟨by omega, by omega⟩ dX1_duel_69 (fun k_69 => ?_)
      refine x_getI B (k := 3) 3 rfl rfl xc_3 (by decide) k_69 (Or.inr q211) (fun _ h => h) dX1_duel_70 (fun r_70 => ?_)
      rw [ei]
      refine x_aload_n B dX1_duel_73 rfl ?_
      refine x_getC0 B (k := 2) hT rfl rfl xc_0 (by decide) h0 (Or.inl q400) (fun _ h => h) dX1_duel_74 (fun k_74 => ?_)
      refine x_getC1 B (k := 0) hT rfl rfl xc_2 (by decide) k_74 (Or.inr q244) (fun _ h => h) dX1_duel_77 (fun k_77 => ?_)
      refine x_iload_n B dX1_duel_80 rfl ?_
      refine x_aaldC B (t := 10) hT k_77 rfl rfl rfl rfl ⟨by omega, by omega⟩ dX1_duel_81 (fun k_81 => ?_)
      refine x_getI B (k := 3) 3 rfl rfl xc_3 (by decide) k_81 (Or.inr q211) (fun _ h => h) dX1_duel_82 (fun r_82 => ?_)
      rw [ej]
      refine x_iconst B dX1_duel_85 ?_
      refine x_iconst B dX1_duel_86 ?_
      refine x_go (x_rV B k_58 (show x_cl[6]? = some _ from rfl) ((d_all 5 X_51 (c_M X 3 i 3) (c_M X 3 j 3) 0 0 hH hVe tI ⟨by omega, by omega⟩ ⟨by omega, by omega⟩ (by omega) (by omega) (by omega)) ) (lw_V q1226 q1227 q1228 q119 q1229) hv_X7_of ⟨by decide, by decide⟩ ⟨by decide, by decide⟩ rfl rfl (by simp [x_cr, x_c1, x_c2]) dX1_duel_87) (fun v_87 X_87 p_87 => ?_)
      obtain ⟨rfl, hg, hJd, -⟩ := p_87
      have e7 : X_87 0 7 = 2 := by rw [hg 0 (by omega)]; exact t3.1
      have e32 : X_87 32 = X_51 32 := hg 32 (by omega)
      refine x_i2l B dX1_duel_90 ⟨by omega, by omega⟩ ?_
      refine x_goV (x_rV B h0 (show x_cl[0]? = some _ from rfl) (c_X1_tell hT h0 ⟨by omega, by omega⟩ ⟨by omega, by omega⟩) (lw_V q806 q808 qs16 q110 q809) hv_X1_tell ⟨by decide, by decide⟩ ⟨by decide, by decide⟩ rfl rfl (by simp [x_cr, x_c1, x_c2]) dX1_duel_91) ?_
      refine x_iload B dX1_duel_94 rfl ?_
      refine x_iret B (fun _ _ h => h) ?_ dX1_duel_96
      have q2 := x_tl1 X_87 (q_dv X i j (c_M X 3 i 3) (c_M X 3 j 3) 0 0).1 e7
      refine ⟨(((t1.trans hg.k).up (Or.inr (Or.inl rfl)) hlo0).up7 (Or.inl rfl)), (((t2.trans (fun a a1 a2 => hg a (by omega))).up (by omega)).up (by omega)), ?_⟩
      rw [if_pos hcd, if_neg (by omega)]
      exact ⟨rfl, q2.1, (q2.2.2 0 (by omega)).trans (by rw [e32]; exact t3.2.1), (q2.2.2 1 (by omega)).trans (by rw [e32]; exact t3.2.2), q2.2.1⟩
    · refine x_iload_n B dX1_duel_22 rfl ?_
      refine x_iret B (fun _ _ h => h) ?_ dX1_duel_23
      exact ⟨k_eq.rf X, fun _ _ _ => rfl, by rw [if_pos hcd, if_pos (by omega)]; exact ⟨rfl, rfl, rfl⟩⟩
  · refine x_iconst B dX1_duel_9 ?_
    refine x_iret B (fun _ _ h => h) ?_ dX1_duel_10
    exact ⟨k_eq.rf X, fun _ _ _ => rfl, by rw [if_neg (fun q => by rw [if_pos q] at h_6; omega)]; exact ⟨rfl, rfl, rfl⟩⟩
