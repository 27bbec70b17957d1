theorem c_X9_passes {l : Launch} {E : x_E} {κ : x_Ka} {X : x_X} {r z0 w0 c_ : Int} (h : rd κ X r z0 w0) (hc : 0 ≤ c_ ∧ c_ ≤ 127) : x_MetX l yX9_passes cX9_passes 2 none 4 1 7 E κ X [x_rf E r, vi c_] "NextLoad$Fault" (fun v_ κ_ Y_ => v_ = none ∧ κ = κ_ ∧ (w0 < z0 ∧ c_T X w0 = c_) ∧ Y_ = x_up X r 1 (w0 + 1)) (fun z_ κ_ Y_ => ¬ (w0 < z0 ∧ c_T X w0 = c_) ∧ f_thr κ X (fun b => b = r) w0 z_ κ_ Y_) := by
  refine x_MetX.of [(false, x_rf E r), (false, vi c_)] [some (x_rf E r), some (vi c_)] 0 (by decide) rfl rfl ⟨x_cr E (r), rfl, trivial⟩ rfl rfl ?_
  intro p e s m args below meth c hargs hin B hxt
  obtain ⟨⟨hT, h0, hk⟩, en, ea, hq, hn⟩ := id h
  have k31 : κ 31 = some (.inr (3, 240)) := hT.1 0 0 h0 4 (0, 31, .inr (3, 240)) rfl
  have hr31 : r ≠ 31 := by intro e; rw [e, k31] at hk; cases hk
  refine x_lows (fun hlow => ?_)
  have hr0 := hlow r _ hk
  refine x_aload_n B dX9_passes_0 rfl ?_
  refine x_iload_n B dX9_passes_1 rfl ?_
  refine x_goP (x_rV B hk (show x_cl[10]? = some _ from rfl) (c_X9_sees h hc) (lw_V q629 q631 qs6 q123 q632) hv_X9_sees ⟨by decide, by decide⟩ ⟨by decide, by decide⟩ rfl rfl (by simp [x_cr, x_c1, x_c2]) dX9_passes_2) ?_
  refine x_if_ne B (tgt := 20) dX9_passes_5 (by decide) ⟨by split <;> omega, by split <;> omega⟩ (fun h_5 => ?_) (fun h_5 => ?_)
  · have hyes : (w0 < z0 ∧ c_T X w0 = c_) := by by_cases q : (w0 < z0 ∧ c_T X w0 = c_); exact q; rw [if_neg q] at h_5; omega
    refine x_aload_n B dX9_passes_20 rfl ?_
    refine x_dup B dX9_passes_21 (by first | rfl | exact x_cr _ _) ?_
    refine x_getI B (k := 1) 1 rfl rfl xc_10 (by decide) hk (Or.inl q479) (fun _ h => h) dX9_passes_22 (fun r_22 => ?_)
    rw [ea] at r_22 ⊢
    refine x_iconst B dX9_passes_25 ?_
    refine x_iadd B dX9_passes_26 ?_
    refine x_putI B (k := 1) 1 rfl rfl rfl ⟨by omega, by omega⟩ xc_10 (by decide) rfl nn_10_1 (fun _ => rfl) hk (Or.inl q479) (fun _ h => h) dX9_passes_27 ?_
    refine x_wide (cells' := 1) (slots' := 7) (by omega) (by omega) ?_
    refine x_vretX B ?_ dX9_passes_30
    exact ⟨rfl, rfl, hyes, rfl⟩
  · have hno : ¬ (w0 < z0 ∧ c_T X w0 = c_) := fun q => by rw [if_pos q] at h_5; omega
    refine x_new B xc_11 q561 q562 q128 (xd_11 E) xe_11 (by decide) (by decide) dX9_passes_8 (fun z_8 n_8 => ?_)
    have hk := x_ku_le (kd := .inl (11, 0)) n_8 _ _ hk
    refine x_dup B dX9_passes_11 (by first | rfl | exact x_cr _ _) ?_
    refine x_aload_n B dX9_passes_12 rfl ?_
    refine x_getI B (k := 1) 1 rfl rfl xc_10 (by decide) hk (Or.inl q479) (fun _ h => h) dX9_passes_13 (fun r_13 => ?_)
    rw [x_nw_oth _ _ (by omega) (by omega), ea] at r_13 ⊢
    refine x_go (x_rI B (by omega) (c_X12_init (by omega) (x_ku_s _ _ _) ⟨by omega, by omega⟩) q599 q600 q128 q601 rfl hd_X12_init ⟨by decide, by decide⟩ ⟨by decide, by decide⟩ rfl rfl (by simp [x_cr, x_c1, x_c2]) dX9_passes_16) (fun v_16 X_16 p_16 => ?_)
    obtain ⟨rfl, hp16⟩ := p_16
    refine x_wide (cells' := 1) (slots' := 7) (by omega) (by omega) ?_
    refine x_throwX B (x_ku_s _ _ _) (show x_cl[11]? = some _ from rfl) rfl hxt ?_ dX9_passes_19
    exact ⟨hno, f_thr_new n_8 z_8 (fun _ _ _ _ => rfl) (Int.le_refl _) hp16⟩
theorem c_X9_number {l : Launch} {E : x_E} {κ : x_Ka} {X : x_X} {r z0 w0 lo hi_ : Int} (h : rd κ X r z0 w0) (hl : xR lo) (hh : xR hi_) : x_MetX l yX9_number cX9_number 5 (some .int) 4 1 7 E κ X [x_rf E r, vi lo, vi hi_] "NextLoad$Fault" (fun v_ κ_ Y_ => (r_num (c_T X) z0 lo hi_ w0).1 = 1 ∧ v_ = some (vi (r_num (c_T X) z0 lo hi_ w0).2.2) ∧ κ = κ_ ∧ Y_ = x_up X r 1 (r_num (c_T X) z0 lo hi_ w0).2.1) (fun z_ κ_ Y_ => (r_num (c_T X) z0 lo hi_ w0).1 = 0 ∧ f_thr κ X (fun b => b = r) (r_num (c_T X) z0 lo hi_ w0).2.1 z_ κ_ Y_) := by
  refine x_MetX.of [(false, x_rf E r), (false, vi lo), (false, vi hi_)] [some (x_rf E r), some (vi lo), some (vi hi_), none, none] 2 (by decide) rfl rfl ⟨x_cr E (r), rfl, rfl, trivial⟩ rfl rfl ?_
  intro p e s m args below meth c hargs hin B hxt
  obtain ⟨⟨hT, h0, hk⟩, en, ea, hq, hn⟩ := id h
  have k31 : κ 31 = some (.inr (3, 240)) := hT.1 0 0 h0 4 (0, 31, .inr (3, 240)) rfl
  have hr31 : r ≠ 31 := by intro e; rw [e, k31] at hk; cases hk
  refine x_lows (fun hlow => ?_)
  have hr0 := hlow r _ hk
  have lp_75 : ∀ (n : Nat) (p2 v d : Int), (r_dg (c_T X) z0 w0 ∧ r_run (c_T X) z0 4 w0 0 = (p2, v) ∧ (w0 < p2 ∧ p2 ≤ z0) ∧ (0 ≤ v ∧ v ≤ 9999)) → (0 < n) → x_G p l e (x_rm 4 1 7) s m args below meth c 5 E 0 0 (vq_MQ below (x_QK E (fun v_ κ_ Y_ => (r_num (c_T X) z0 lo hi_ w0).1 = 1 ∧ v_ = some (vi (r_num (c_T X) z0 lo hi_ w0).2.2) ∧ κ = κ_ ∧ Y_ = x_up X r 1 (r_num (c_T X) z0 lo hi_ w0).2.1)) (q_XC E "NextLoad$Fault" (fun z_ κ_ Y_ => (r_num (c_T X) z0 lo hi_ w0).1 = 0 ∧ f_thr κ X (fun b => b = r) (r_num (c_T X) z0 lo hi_ w0).2.1 z_ κ_ Y_)) args s 1 7 (fun q => E.1 ≤ q)) κ 75 [some (x_rf E r), some (vi lo), some (vi hi_), some (vi v), some (vi d)] [] (x_up X r 1 p2) := by
    intro n
    induction n with
    | zero => intro p2 v d hinv hme; exfalso; omega
    | succ n ih =>
      intro p2 v d hinv hme
      obtain ⟨hg0, hrr4, hp2, hv⟩ := hinv
      have z1 := x_in_01 v lo hi_
      have esz : x_up X r 1 p2 (-1) 0 = X (-1) 0 := congrFun (x_up_o _ (by omega)) 0
      refine x_iload_n B dX9_number_75 rfl ?_
      refine x_i2l B dX9_number_76 ⟨by omega, by omega⟩ ?_
      refine x_iload_n B dX9_number_77 rfl ?_
      refine x_i2l B dX9_number_78 hl ?_
      refine x_iload_n B dX9_number_79 rfl ?_
      refine x_i2l B dX9_number_80 hh ?_
      refine x_goP (x_rSN B (c_X1_in ⟨by omega, by omega⟩ hl hh) q560 q465 q110 q466 hd_X1_in ⟨by decide, by decide⟩ ⟨by decide, by decide⟩ rfl rfl (by simp [x_cr, x_c1, x_c2]) dX9_number_81) ?_
      refine x_if_ne B (tgt := 101) dX9_number_84 (by decide) ⟨by omega, by omega⟩ (fun h_84 => ?_) (fun h_84 => ?_)
      · refine x_iload_n B dX9_number_101 rfl ?_
        refine x_wide (cells' := 1) (slots' := 7) (by omega) (by omega) ?_
        refine x_iretX B ?_ dX9_number_102
        have er : (r_num (c_T X) z0 lo hi_ w0) = (1, p2, v) := by
          unfold r_num; rw [if_pos hg0, hrr4]; exact if_pos (by unfold x_in at h_84; split at h_84; assumption; omega)
        rw [er]
        exact ⟨rfl, rfl, rfl, rfl⟩
      · refine x_new B xc_11 q561 q562 q128 (xd_11 E) xe_11 (by decide) (by decide) dX9_number_87 (fun z_87 n_87 => ?_)
        have hk := x_ku_le (kd := .inl (11, 0)) n_87 _ _ hk
        refine x_dup B dX9_number_90 (by first | rfl | exact x_cr _ _) ?_
        refine x_aload_n B dX9_number_91 rfl ?_
        refine x_getI B (k := 1) 1 rfl rfl xc_10 (by decide) hk (Or.inl q479) (fun _ h => h) dX9_number_92 (fun r_92 => ?_)
        rw [x_nw_oth _ _ (by omega) (by omega), x_up_s] at r_92 ⊢
        refine x_iconst B dX9_number_95 ?_
        refine x_isub B dX9_number_96 ?_
        refine x_go (x_rI B (by omega) (c_X12_init (by omega) (x_ku_s _ _ _) ⟨by omega, by omega⟩) q599 q600 q128 q601 rfl hd_X12_init ⟨by decide, by decide⟩ ⟨by decide, by decide⟩ rfl rfl (by simp [x_cr, x_c1, x_c2]) dX9_number_97) (fun v_97 X_97 p_97 => ?_)
        obtain ⟨rfl, hp97⟩ := p_97
        refine x_wide (cells' := 1) (slots' := 7) (by omega) (by omega) ?_
        refine x_throwX B (x_ku_s _ _ _) (show x_cl[11]? = some _ from rfl) rfl hxt ?_ dX9_number_100
        have er : (r_num (c_T X) z0 lo hi_ w0) = (0, p2 - 1, 0) := by
          unfold r_num; rw [if_pos hg0, hrr4]; exact if_neg (fun q => by unfold x_in at h_84; rw [if_pos q] at h_84; omega)
        rw [er]
        exact ⟨rfl, f_thr_new n_87 (by omega) (fun b b1 b2 b3 => x_up_o _ b3) (by omega) hp97⟩
  have lp_24 : ∀ (n : Nat) (p2 v d : Int), (r_dg (c_T X) z0 w0 ∧ r_dg (c_T X) z0 p2 ∧ (0 ≤ d ∧ d ≤ 3) ∧ (d = 0 ∨ v > 0) ∧ w0 ≤ p2 ∧ (0 ≤ v ∧ (d = 0 → v ≤ 0) ∧ (d = 1 → v ≤ 9) ∧ (d = 2 → v ≤ 99) ∧ (d = 3 → v ≤ 999)) ∧ r_run (c_T X) z0 4 w0 0 = r_run (c_T X) z0 (4 - d).toNat p2 v) → ((4 - d).toNat < n) → x_G p l e (x_rm 4 1 7) s m args below meth c 5 E 0 0 (vq_MQ below (x_QK E (fun v_ κ_ Y_ => (r_num (c_T X) z0 lo hi_ w0).1 = 1 ∧ v_ = some (vi (r_num (c_T X) z0 lo hi_ w0).2.2) ∧ κ = κ_ ∧ Y_ = x_up X r 1 (r_num (c_T X) z0 lo hi_ w0).2.1)) (q_XC E "NextLoad$Fault" (fun z_ κ_ Y_ => (r_num (c_T X) z0 lo hi_ w0).1 = 0 ∧ f_thr κ X (fun b => b = r) (r_num (c_T X) z0 lo hi_ w0).2.1 z_ κ_ Y_)) args s 1 7 (fun q => E.1 ≤ q)) κ 24 [some (x_rf E r), some (vi lo), some (vi hi_), some (vi v), some (vi d)] [] (x_up X r 1 p2) := by
    intro n
    induction n with
    | zero => intro p2 v d hinv hme; exfalso; omega
    | succ n ih =>
      intro p2 v d hinv hme
      obtain ⟨hg0, hdg, hd, hdv, hpw, hv, he⟩ := hinv
      have hg2 := hdg
      unfold r_dg at hg2
      have eb : x_up X r 1 p2 31 = X 31 := x_up_o _ (Ne.symm hr31)
      refine x_bipush B dX9_number_24 (by decide) ?_
      refine x_iload_n B dX9_number_26 rfl ?_
      refine x_imul B dX9_number_27 ?_
      refine x_aload_n B dX9_number_28 rfl ?_
      refine x_getC0 B (k := 2) hT rfl rfl xc_10 (by decide) hk (Or.inl q480) (fun _ h => h) dX9_number_29 (fun k_29 => ?_)
      refine x_getC0 B (k := 4) hT rfl rfl xc_0 (by decide) k_29 (Or.inr q404) (fun _ h => h) dX9_number_32 (fun k_32 => ?_)
      refine x_aload_n B dX9_number_35 rfl ?_
      refine x_getI B (k := 1) 1 rfl rfl xc_10 (by decide) hk (Or.inl q479) (fun _ h => h) dX9_number_36 (fun r_36 => ?_)
      rw [x_up_s] at r_36 ⊢
      refine x_bald B k_32 ⟨by omega, by omega⟩ dX9_number_39 (fun r_39 => ?_)
      rw [eb] at r_39 ⊢
      have hcT : X 31 p2 = c_T X p2 := by unfold c_T at hg2 ⊢; omega
      rw [hcT] at r_39 ⊢
      refine x_iadd B dX9_number_40 ?_
      refine x_bipush B dX9_number_41 (by decide) ?_
      refine x_isub B dX9_number_43 ?_
      refine x_ist_3 B dX9_number_44 (by first | rfl | exact x_cr _ _) ?_
      refine x_aload_n B dX9_number_45 rfl ?_
      refine x_dup B dX9_number_46 (by first | rfl | exact x_cr _ _) ?_
      refine x_getI B (k := 1) 1 rfl rfl xc_10 (by decide) hk (Or.inl q479) (fun _ h => h) dX9_number_47 (fun r_47 => ?_)
      rw [x_up_s] at r_47 ⊢
      refine x_iconst B dX9_number_50 ?_
      refine x_iadd B dX9_number_51 ?_
      refine x_putI B (k := 1) 1 rfl rfl rfl ⟨by omega, by omega⟩ xc_10 (by decide) rfl nn_10_1 (fun _ => rfl) hk (Or.inl q479) (fun _ h => h) dX9_number_52 ?_
      rw [x_up_t]
      rw [r_run_s ⟨hd.1, by omega⟩ hdv hdg] at he
      refine x_iinc_4 B dX9_number_55 (by first | rfl | exact x_cr _ _) ?_
      refine x_iload_n B dX9_number_58 rfl ?_
      refine x_if_le B (tgt := 75) dX9_number_59 (by decide) ⟨by omega, by omega⟩ (fun h_59 => ?_) (fun h_59 => ?_)
      · refine lp_75 _ (p2 + 1) (10 * v + c_T X p2 - 48) (d + 1) ⟨hg0, ?_, ⟨by omega, by omega⟩, ⟨by omega, by omega⟩⟩ (Nat.lt_succ_self _)
        rw [he]
        refine r_run_e ⟨by omega, by omega⟩ ?_
        first
        | (refine Or.inl ?_; omega)
        | (refine Or.inr (fun q => ?_); have q1 := q.1; omega)
        | (refine Or.inr (fun q => ?_); rw [if_pos q.2] at h_72; omega)
      · refine x_iload B dX9_number_62 rfl ?_
        refine x_iconst B dX9_number_64 ?_
        refine x_icmp_ge B (tgt := 75) dX9_number_65 (by decide) ⟨by omega, by omega⟩ ⟨by decide, by decide⟩ (fun h_65 => ?_) (fun h_65 => ?_)
        · refine lp_75 _ (p2 + 1) (10 * v + c_T X p2 - 48) (d + 1) ⟨hg0, ?_, ⟨by omega, by omega⟩, ⟨by omega, by omega⟩⟩ (Nat.lt_succ_self _)
          rw [he]
          refine r_run_e ⟨by omega, by omega⟩ ?_
          first
          | (refine Or.inl ?_; omega)
          | (refine Or.inr (fun q => ?_); have q1 := q.1; omega)
          | (refine Or.inr (fun q => ?_); rw [if_pos q.2] at h_72; omega)
        · refine x_aload_n B dX9_number_68 rfl ?_
          refine x_goP (x_rV B hk (show x_cl[10]? = some _ from rfl) (c_X9_isDigit (h.up (p := p2 + 1) ⟨by omega, by omega⟩)) (lw_V q554 q556 qs3 q123 q557) hv_X9_isDigit ⟨by decide, by decide⟩ ⟨by decide, by decide⟩ rfl rfl (by simp [x_cr, x_c1, x_c2]) dX9_number_69) ?_
          rw [c_T_up hr31]
          refine x_if_ne B (tgt := 24) dX9_number_72 (by decide) ⟨by split <;> omega, by split <;> omega⟩ (fun h_72 => ?_) (fun h_72 => ?_)
          · have hdg2 : r_dg (c_T X) z0 (p2 + 1) := by by_cases q : r_dg (c_T X) z0 (p2 + 1); exact q; rw [if_neg q] at h_72; omega
            refine ih (p2 + 1) (10 * v + c_T X p2 - 48) (d + 1) ⟨hg0, hdg2, ⟨by omega, by omega⟩, Or.inr (by omega), by omega, ⟨by omega, by omega, by omega, by omega, by omega⟩, he⟩ (by omega)
          · refine lp_75 _ (p2 + 1) (10 * v + c_T X p2 - 48) (d + 1) ⟨hg0, ?_, ⟨by omega, by omega⟩, ⟨by omega, by omega⟩⟩ (Nat.lt_succ_self _)
            rw [he]
            refine r_run_e ⟨by omega, by omega⟩ ?_
            first
            | (refine Or.inl ?_; omega)
            | (refine Or.inr (fun q => ?_); have q1 := q.1; omega)
            | (refine Or.inr (fun q => ?_); rw [if_pos q.2] at h_72; omega)
  refine x_aload_n B dX9_number_0 rfl ?_
  refine x_goP (x_rV B hk (show x_cl[10]? = some _ from rfl) (c_X9_isDigit h) (lw_V q554 q556 qs3 q123 q557) hv_X9_isDigit ⟨by decide, by decide⟩ ⟨by decide, by decide⟩ rfl rfl (by simp [x_cr, x_c1, x_c2]) dX9_number_1) ?_
  refine x_if_ne B (tgt := 19) dX9_number_4 (by decide) ⟨by split <;> omega, by split <;> omega⟩ (fun h_4 => ?_) (fun h_4 => ?_)
  · refine x_iconst B dX9_number_19 ?_
    refine x_ist_3 B dX9_number_20 (by first | rfl | exact x_cr _ _) ?_
    refine x_iconst B dX9_number_21 ?_
    refine x_istw_4 B dX9_number_22 (by first | rfl | exact x_cr _ _) ?_
    have hgd : r_dg (c_T X) z0 w0 := by by_cases q : r_dg (c_T X) z0 w0; exact q; rw [if_neg q] at h_4; omega
    refine x_eqX (x_up_id ea).symm ?_
    exact lp_24 _ w0 0 0 ⟨hgd, hgd, ⟨by omega, by omega⟩, Or.inl rfl, by omega, ⟨by omega, by omega, by omega, by omega, by omega⟩, rfl⟩ (Nat.lt_succ_self _)
  · refine x_new B xc_11 q561 q562 q128 (xd_11 E) xe_11 (by decide) (by decide) dX9_number_7 (fun z_7 n_7 => ?_)
    have hk := x_ku_le (kd := .inl (11, 0)) n_7 _ _ hk
    refine x_dup B dX9_number_10 (by first | rfl | exact x_cr _ _) ?_
    refine x_aload_n B dX9_number_11 rfl ?_
    refine x_getI B (k := 1) 1 rfl rfl xc_10 (by decide) hk (Or.inl q479) (fun _ h => h) dX9_number_12 (fun r_12 => ?_)
    rw [x_nw_oth _ _ (by omega) (by omega), ea] at r_12 ⊢
    refine x_go (x_rI B (by omega) (c_X12_init (by omega) (x_ku_s _ _ _) ⟨by omega, by omega⟩) q599 q600 q128 q601 rfl hd_X12_init ⟨by decide, by decide⟩ ⟨by decide, by decide⟩ rfl rfl (by simp [x_cr, x_c1, x_c2]) dX9_number_15) (fun v_15 X_15 p_15 => ?_)
    obtain ⟨rfl, hp15⟩ := p_15
    refine x_wide (cells' := 1) (slots' := 7) (by omega) (by omega) ?_
    refine x_throwX B (x_ku_s _ _ _) (show x_cl[11]? = some _ from rfl) rfl hxt ?_ dX9_number_18
    have er : (r_num (c_T X) z0 lo hi_ w0) = (0, w0, 0) := by unfold r_num; rw [if_neg (fun q => by rw [if_pos q] at h_4; omega)]
    rw [er]
    exact ⟨rfl, f_thr_new n_7 z_7 (fun _ _ _ _ => rfl) (Int.le_refl _) hp15⟩
