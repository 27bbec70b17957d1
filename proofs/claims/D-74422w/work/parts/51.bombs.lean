theorem c_X1_bombs {l : Launch} {E : x_E} {κ : x_Ka} {X : x_X} {i : Int} (hC : n_C κ X) (k87 : κ 87 = some (.inr (1, 1))) (hx : xR i) : x_Met l yX1_bombs cX1_bombs 4 (some .int) 58 1 1 E κ X [x_rf E 0, vi i] κ (fun v_ Y_ => k_eq X Y_ ∧ f_eq X Y_ ∧ (if x_in i 0 (X 1 2 - 1) = 1 then (v_ = some (vi (1000000 - q_ch X i 1)) ∧ Y_ 0 7 = 3 ∧ ∀ t, 0 ≤ t → t < 3 → Y_ 32 t = q_ms X i t (c_pl X i t 0) (c_pl X i t 2)) else (v_ = some (vi (-1)) ∧ r_eq X Y_))) := by
  refine x_Met.of [(false, x_rf E 0), (false, vi i)] [some (x_rf E 0), some (vi i), none, none] 2 (by decide) rfl rfl ⟨x_cr E (0), rfl, trivial⟩ rfl rfl ?_
  intro p e s m args below meth c hargs hin B
  obtain ⟨hI, hP, hO, hW, hJ⟩ := id hC
  obtain ⟨hT, h0, hn, hl, hla⟩ := id hI
  refine x_lows (fun hlow => ?_)
  have hlo := hI.lo k87 hlow
  have hlo0 := hlo.1
  have z1 := x_in_01 i 0 (X 1 2 - 1)
  have lp_29 : ∀ (n : Nat) (k : Int) (Y : x_X), ((0 ≤ k ∧ k ≤ 3) ∧ (0 ≤ i ∧ i < X 1 2) ∧ k_eq X Y ∧ f_eq X Y ∧ Y 0 7 = k ∧ ∀ t, 0 ≤ t → t < k → Y 32 t = q_ms X i t (c_pl X i t 0) (c_pl X i t 2)) → ((4 - k).toNat < n) → x_G p l e (x_rm 58 1 1) s m args below meth c 4 E 0 0 (MQ below (x_Q E κ (fun v_ Y_ => k_eq X Y_ ∧ f_eq X Y_ ∧ (if x_in i 0 (X 1 2 - 1) = 1 then (v_ = some (vi (1000000 - q_ch X i 1)) ∧ Y_ 0 7 = 3 ∧ ∀ t, 0 ≤ t → t < 3 → Y_ 32 t = q_ms X i t (c_pl X i t 0) (c_pl X i t 2)) else (v_ = some (vi (-1)) ∧ r_eq X Y_)))) args s 1 1 (fun q => E.1 ≤ q)) κ 29 [some (x_rf E 0), some (vi i), some (x_rf E (X 2 i)), some (vi k)] [] Y := by
    intro n
    induction n with
    | zero => intro k Y hinv hme; exfalso; omega
    | succ n ih =>
      intro k Y hinv hme
      obtain ⟨hk, hi, hke, hfe, h7, hrw⟩ := hinv
      have hvY := hke.v hI hlo
      have hCY := hvY.C hC
      have hloY := hke.low hlo
      have eY : Y 1 2 = X 1 2 := congrFun (hvY.1 1 (by omega) (by omega)) 2
      have e2 : Y 2 = X 2 := hvY.1 2 (by omega) (by omega)
      have hsz := hke.2.2.2
      have hly := hloY.1
      refine x_iload_n B dX1_bombs_29 rfl ?_
      refine x_iconst B dX1_bombs_30 ?_
      refine x_icmp_ge B (tgt := 62) dX1_bombs_31 (by decide) ⟨by omega, by omega⟩ ⟨by omega, by omega⟩ (fun h_31 => ?_) (fun h_31 => ?_)
      · refine x_ldc2 B (1000000) q1149 (by decide) dX1_bombs_62 ?_
        refine x_aload_n B dX1_bombs_65 rfl ?_
        refine x_iload_n B dX1_bombs_66 rfl ?_
        refine x_new B xc_13 q1075 q1076 q137 (xd_13 E) xe_13 (by decide) (by decide) dX1_bombs_67 (fun z_67 n_67 => ?_)
        have hr : x_raw (.inl (13, 0)) := Or.inl ⟨_, rfl⟩
        have h0 := x_ku_le (kd := .inl (13, 0)) n_67 _ _ h0
        have hk1 := hke.nw (x_df 13) hlo0
        refine x_dup B dX1_bombs_70 (by first | rfl | exact x_cr _ _) ?_
        refine x_iconst B dX1_bombs_71 ?_
        refine x_goV (x_rIN B (by omega) (c_X15_init (by omega) (x_ku_s _ _ _) ⟨by omega, by omega⟩) q1077 q1078 q137 q1079 rfl hd_X15_init ⟨by decide, by decide⟩ ⟨by decide, by decide⟩ rfl rfl (by simp [x_cr, x_c1, x_c2]) dX1_bombs_72) ?_
        have hve := (hk1.up (a := Y (-1) 0) (i := 0) (z := 1) (by omega) hlo0).v hI hlo
        have hC1 := (hve.C hC).ku n_67 hr
        have e1 : (x_up (x_nw Y (x_df 13)) (Y (-1) 0) 0 1) 1 2 = X 1 2 := congrFun (hve.1 1 (by omega) (by omega)) 2
        have hA := x_mkR (κ := (x_ku κ (Y (-1) 0) (.inl (13, 0)))) (Y := (x_up (x_nw Y (x_df 13)) (Y (-1) 0) 0 1)) (a := Y (-1) 0) (w := 1) (x_ku_s _ _ _) (x_up_s _ _ _ _)
        have hqe : q_plan (x_up (x_nw Y (x_df 13)) (Y (-1) 0) 0 1) (a_rc 1) i = q_ch X i 1 := hve.q hn.2 _ _
        refine x_goP (x_rV B h0 (show x_cl[0]? = some _ from rfl) (c_X1_byPlan hC1 (by rw [e1]; exact hi) hA) (lw_V q957 q959 qs20 q110 q960) hv_X1_byPlan ⟨by decide, by decide⟩ ⟨by decide, by decide⟩ rfl rfl (by simp [x_cr, x_c1, x_c2]) dX1_bombs_75) ?_
        refine x_lsub B dX1_bombs_78 ?_
        refine x_l2i B dX1_bombs_79 ?_
        refine x_wide (cells' := 1) (slots' := 1) (by omega) (by omega) ?_
        refine x_iret B (fun a k h => x_ku_le n_67 a k h) ?_ dX1_bombs_80
        rw [hqe]
        obtain rfl : k = 3 := by omega
        refine ⟨((hk1.up (by omega) hlo0).up (by omega) hlo0).up (by omega) hlo0, (((hfe.nw _ hloY.1).up (by omega)).up (by omega)).up (by omega), ?_⟩
        rw [if_pos (by unfold x_in; rw [if_pos (by omega)])]
        refine ⟨rfl, by rw [x_up2_o (by omega), x_up_o _ (by omega), x_nw_o (by omega)]; exact h7, fun t t1 t2 => by rw [x_up2_o (by omega), x_up_o _ (by omega), x_nw_o (by omega)]; exact hrw t t1 t2⟩
      · refine x_aload_n B dX1_bombs_34 rfl ?_
        refine x_aload_n B dX1_bombs_35 rfl ?_
        have hp := hP i hi.1 hi.2 k hk.1 (by omega)
        refine x_aload_n B dX1_bombs_36 rfl ?_
        refine x_iload_n B dX1_bombs_37 rfl ?_
        refine x_aload_n B dX1_bombs_38 rfl ?_
        refine x_getC1 B (k := 3) hT rfl rfl xc_8 (by decide) (hl i hi.1 hi.2) (Or.inr q529) (fun _ h => h) dX1_bombs_39 (fun k_39 => ?_)
        refine x_iload_n B dX1_bombs_42 rfl ?_
        refine x_iald B k_39 ⟨by omega, by omega⟩ dX1_bombs_43 (fun r_43 => ?_)
        refine x_aload_n B dX1_bombs_44 rfl ?_
        refine x_getC1 B (k := 5) hT rfl rfl xc_8 (by decide) (hl i hi.1 hi.2) (Or.inr q536) (fun _ h => h) dX1_bombs_45 (fun k_45 => ?_)
        refine x_iload_n B dX1_bombs_48 rfl ?_
        refine x_iald B k_45 ⟨by omega, by omega⟩ dX1_bombs_49 (fun r_49 => ?_)
        have e11 : Y (X 2 i + 11) = X (X 2 i + 11) := hvY.2.1 i hi.1 hi.2 11 (by omega) (by omega)
        have e13 : Y (X 2 i + 13) = X (X 2 i + 13) := hvY.2.1 i hi.1 hi.2 13 (by omega) (by omega)
        refine x_goP (x_rV B h0 (show x_cl[0]? = some _ from rfl) (c_X1_missed hT h0 (hl i hi.1 hi.2) (by have := hCY.2.2.1.1 i hi.1 (by omega); rwa [e2] at this) hCY.2.2.1.2 ⟨by omega, by omega⟩ (by rw [e11]; omega) (by rw [e13]; omega)) (lw_V q1145 q1147 qs26 q110 q1148) hv_X1_missed ⟨by decide, by decide⟩ ⟨by decide, by decide⟩ rfl rfl (by simp [x_cr, x_c1, x_c2]) dX1_bombs_50) ?_
        have eO : b_m (l_odds Y (X 2 i) k) (Y (X 2 i + 13) k) 3 0 (Y (X 2 i + 11) k) 1000000 = q_ms X i k (c_pl X i k 0) (c_pl X i k 2) := by
          have h1 := q_ms_e (X := Y) (i := i) (t := k) (o := Y (X 2 i + 11) k) (ag := Y (X 2 i + 13) k) (by omega) (by omega)
          rw [e2, e11, e13, hvY.ms] at h1
          rw [e11, e13, h1]; unfold c_pl; rw [if_pos hi, if_pos hi, Int.add_zero, show X 2 i + 11 + 2 = X 2 i + 13 by omega]
        rw [eO]
        have hmr := q_ms_r (o := c_pl X i k 0) (ag := c_pl X i k 2) hC hi ⟨hk.1, by omega⟩
        refine x_goV (x_rV B h0 (show x_cl[0]? = some _ from rfl) (c_X1_tell hT h0 ⟨by omega, by omega⟩ ⟨by omega, by omega⟩) (lw_V q806 q808 qs16 q110 q809) hv_X1_tell ⟨by decide, by decide⟩ ⟨by decide, by decide⟩ rfl rfl (by simp [x_cr, x_c1, x_c2]) dX1_bombs_53) ?_
        refine x_iinc_3 B dX1_bombs_56 (by first | rfl | exact x_cr _ _) ?_
        refine x_goto B (tgt := 29) dX1_bombs_59 (by decide) ?_
        rw [h7]
        refine ih _ _ ⟨⟨by omega, by omega⟩, hi, (hke.up (by omega) hlo0).up7 (Or.inl rfl), (hfe.up (by omega)).up (by omega), x_up_s _ _ _ _, fun t t1 t2 => ?_⟩ (by omega)
        rw [x_up_o _ (by omega)]
        by_cases e : t = k
        · subst e; rw [x_up_s]
        · rw [x_up_n _ (Or.inr e)]; exact hrw t t1 (by omega)
  refine x_aload_n B dX1_bombs_0 rfl ?_
  refine x_iload_n B dX1_bombs_1 rfl ?_
  refine x_goP (x_rV B h0 (show x_cl[0]? = some _ from rfl) (c_X1_isLifter hI ⟨by omega, by omega⟩) (lw_V q735 q737 qs13 q110 q738) hv_X1_isLifter ⟨by decide, by decide⟩ ⟨by decide, by decide⟩ rfl rfl (by simp [x_cr, x_c1, x_c2]) dX1_bombs_2) ?_
  refine x_if_ne B (tgt := 10) dX1_bombs_5 (by decide) ⟨by omega, by omega⟩ (fun h_5 => ?_) (fun h_5 => ?_)
  · have hi : 0 ≤ i ∧ i < X 1 2 := by unfold x_in at h_5; split at h_5 <;> omega
    refine x_aload_n B dX1_bombs_10 rfl ?_
    refine x_getC0 B (k := 0) hT rfl rfl xc_0 (by decide) h0 (Or.inl q394) (fun _ h => h) dX1_bombs_11 (fun k_11 => ?_)
    refine x_iload_n B dX1_bombs_14 rfl ?_
    refine x_goP (x_rV B k_11 (show x_cl[1]? = some _ from rfl) (c_J2_get hT (by assumption) (by omega) ⟨by omega, by omega⟩) (lw_V q745 q372 q373 q113 q374) hv_J2_get ⟨by decide, by decide⟩ ⟨by decide, by decide⟩ rfl rfl (by simp [x_cr, x_c1, x_c2]) dX1_bombs_15) ?_
    refine x_cast B (hl _ (by omega) (by omega)) (show x_cl[8]? = some _ from rfl) q746 dX1_bombs_18 ?_
    refine x_ast_2 B dX1_bombs_21 (by first | rfl | exact x_cr _ _) ?_
    refine x_aload_n B dX1_bombs_22 rfl ?_
    refine x_iconst B dX1_bombs_23 ?_
    refine x_putI B (k := 7) 7 rfl rfl rfl ⟨by omega, by omega⟩ xc_0 (by decide) rfl nn_0_7 (fun _ => rfl) h0 (Or.inl q408) (fun _ h => h) dX1_bombs_24 ?_
    refine x_iconst B dX1_bombs_27 ?_
    refine x_ist_3 B dX1_bombs_28 (by first | rfl | exact x_cr _ _) ?_
    refine lp_29 _ 0 _ ⟨⟨by omega, by omega⟩, hi, (k_eq.rf X).up7 (Or.inl rfl), f_eq.up (fun _ _ _ => rfl) (by omega), x_up_s _ _ _ _, fun l l1 l2 => by omega⟩ (Nat.lt_succ_self _)
  · refine x_iconst B dX1_bombs_8 ?_
    refine x_wide (cells' := 1) (slots' := 1) (by omega) (by omega) ?_
    refine x_iret B (by first | exact (fun _ _ h => h) | exact (fun a k h => by simp only [x_ku]; grind) ) ?_ dX1_bombs_9
    exact ⟨k_eq.rf X, fun _ _ _ => rfl, by rw [if_neg (by omega)]; exact ⟨rfl, rfl, rfl⟩⟩
