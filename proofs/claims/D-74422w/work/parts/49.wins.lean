theorem q_wf_r {κ : x_Ka} {X : x_X} {i v : Int} (hC : n_C κ X) (hv : 0 ≤ v ∧ v ≤ 120) : ∀ n : Nat, (n : Int) ≤ X 1 2 → 0 ≤ q_wf X i v n ∧ q_wf X i v n ≤ 1000000 := by
  intro n
  induction n with
  | zero => intro _; unfold q_wf; omega
  | succ n ih =>
    intro hn
    have h1 := ih (by omega)
    unfold q_wf
    split
    · exact h1
    · have h2 : 0 ≤ q_bt X i n v ∧ q_bt X i n v ≤ 1000000 := by
        unfold q_bt
        split
        · omega
        · have := q_ch_r (w := v + c_li X i n) hC (show 0 ≤ (n : Int) ∧ (n : Int) < X 1 2 by omega)
          omega
      exact (a_dv h1 h2).2
theorem q_wn_r {κ : x_Ka} {X : x_X} {i : Int} (hC : n_C κ X) : ∀ v, 0 ≤ v → v ≤ 120 → 0 ≤ q_wn X i v ∧ q_wn X i v ≤ 1000000 := fun v v1 v2 => by
  have hn := hC.1.2.2.1
  unfold q_wn
  split
  · omega
  · exact q_wf_r hC ⟨v1, v2⟩ _ (by omega)
theorem v_eq.bt {X Y : x_X} (h : v_eq X Y) (hn : X 1 2 ≤ 6) : q_bt Y = q_bt X := by funext i j v; unfold q_bt; rw [h.ch hn, h.li]
theorem v_eq.wn {X Y : x_X} (h : v_eq X Y) (hn : X 1 2 ≤ 6) : q_wn Y = q_wn X := by
  have key : ∀ (i v : Int) (n : Nat), q_wf Y i v n = q_wf X i v n := by
    intro i v n
    induction n with
    | zero => rfl
    | succ n ih => unfold q_wf; rw [ih, h.bt hn]
  funext i v
  unfold q_wn
  rw [key, h.1 1 (by omega) (by omega)]
theorem c_X1_wins {l : Launch} {E : x_E} {κ : x_Ka} {X : x_X} {i : Int} (hC : n_C κ X) (k87 : κ 87 = some (.inr (1, 1))) (hx : xR i) : x_Met l yX1_wins cX1_wins 3 (some .int) 61 3702 3768 E κ X [x_rf E 0, vi i] κ (fun v_ Y_ => k_eq X Y_ ∧ f_eq X Y_ ∧ (if x_in i 0 (X 1 2 - 1) = 1 then (v_ = some (vi (q_plan X (q_wn X i) i)) ∧ Y_ 0 7 = X 1 2 ∧ ∀ l, 0 ≤ l → l < X 1 2 → Y_ 32 l = q_plan X (q_wn X l) l) else (v_ = some (vi (-1)) ∧ r_eq X Y_))) := by
  refine x_Met.of [(false, x_rf E 0), (false, vi i)] [some (x_rf E 0), some (vi i), none] 1 (by decide) rfl rfl ⟨x_cr E (0), rfl, trivial⟩ rfl rfl ?_
  intro p e s m args below meth c hargs hin B
  obtain ⟨hI, hP, hO, hW, hJ⟩ := id hC
  obtain ⟨hT, h0, hn, hl, hla⟩ := id hI
  refine x_lows (fun hlow => ?_)
  have hlo := hI.lo k87 hlow
  have hlo0 := hlo.1
  have z1 := x_in_01 i 0 (X 1 2 - 1)
  have lp_17 : ∀ (n : Nat) (k : Int) (Y : x_X), ((0 ≤ k ∧ k ≤ X 1 2) ∧ (0 ≤ i ∧ i < X 1 2) ∧ k_eq X Y ∧ f_eq X Y ∧ Y 0 7 = k ∧ ∀ l, 0 ≤ l → l < k → Y 32 l = q_plan X (q_wn X l) l) → ((7 - k).toNat < n) → x_G p l e (x_rm 61 3702 3768) s m args below meth c 3 E (617 * k.toNat) (628 * k.toNat) (MQ below (x_Q E κ (fun v_ Y_ => k_eq X Y_ ∧ f_eq X Y_ ∧ (if x_in i 0 (X 1 2 - 1) = 1 then (v_ = some (vi (q_plan X (q_wn X i) i)) ∧ Y_ 0 7 = X 1 2 ∧ ∀ l, 0 ≤ l → l < X 1 2 → Y_ 32 l = q_plan X (q_wn X l) l) else (v_ = some (vi (-1)) ∧ r_eq X Y_)))) args s 3702 3768 (fun q => E.1 ≤ q)) κ 17 [some (x_rf E 0), some (vi i), some (vi k)] [] Y := by
    intro n
    induction n with
    | zero => intro k Y hinv hme; exfalso; omega
    | succ n ih =>
      intro k Y hinv hme
      obtain ⟨hk, hi, hke, hfe, h7, hrw⟩ := hinv
      have hvY := hke.v hI hlo
      have hCY := hvY.C hC
      have hloY := hke.low hlo
      have eY : Y 1 2 = X 1 2 := congrFun (hvY.1 1 (by omega) (by omega)) 2
      refine x_iload_n B dX1_wins_17 rfl ?_
      refine x_aload_n B dX1_wins_18 rfl ?_
      refine x_getC0 B (k := 0) hT rfl rfl xc_0 (by decide) h0 (Or.inl q394) (fun _ h => h) dX1_wins_19 (fun k_19 => ?_)
      refine x_goP (x_rV B k_19 (show x_cl[1]? = some _ from rfl) (c_J2_size hT (by assumption)) (lw_V q643 q364 q365 q113 q366) hv_J2_size ⟨by decide, by decide⟩ ⟨by show _ ≤ 3702; omega, by show _ ≤ 3768; omega⟩ rfl rfl (by simp [x_cr, x_c1, x_c2]) dX1_wins_22) ?_
      refine x_icmp_ge B (tgt := 48) dX1_wins_25 (by decide) ⟨by omega, by omega⟩ ⟨by omega, by omega⟩ (fun h_25 => ?_) (fun h_25 => ?_)
      · obtain rfl : k = X 1 2 := by omega
        refine x_aload_n B dX1_wins_48 rfl ?_
        refine x_getC0 B (k := 6) hT rfl rfl xc_0 (by decide) h0 (Or.inl q407) (fun _ h => h) dX1_wins_49 (fun k_49 => ?_)
        refine x_iload_n B dX1_wins_52 rfl ?_
        refine x_lald B k_49 ⟨by omega, by omega⟩ dX1_wins_53 (fun r_53 => ?_)
        refine x_l2i B dX1_wins_54 ?_
        refine x_wide (cells' := 3702) (slots' := 3768) (by omega) (by omega) ?_
        refine x_iret B (by first | exact (fun _ _ h => h) | exact (fun a k h => by simp only [x_ku]; grind) ) ?_ dX1_wins_55
        refine ⟨hke, hfe, ?_⟩
        rw [if_pos (by unfold x_in; rw [if_pos (by omega)])]
        exact ⟨by rw [hrw i hi.1 hi.2], h7, hrw⟩
      · refine x_aload_n B dX1_wins_28 rfl ?_
        refine x_aload_n B dX1_wins_29 rfl ?_
        refine x_iload_n B dX1_wins_30 rfl ?_
        refine x_aload_n B dX1_wins_31 rfl ?_
        refine x_iload_n B dX1_wins_32 rfl ?_
        refine x_goK (x_rVK B h0 (show x_cl[0]? = some _ from rfl) (c_X1_win hCY k87 ⟨by omega, by omega⟩) (lw_V q1123 q1125 qs25 q110 q1126) hv_X1_win ⟨by decide, by decide⟩ ⟨by show _ ≤ 3702; omega, by show _ ≤ 3768; omega⟩ rfl rfl (by simp [x_cr, x_c1, x_c2]) dX1_wins_33) (fun v_33 κ_33 X_33 p_33 => ?_)
        obtain ⟨ma, rfl, hA3, hup, hT3, k3, hre, f3⟩ := p_33
        have hke2 := hke.trans k3
        have hfe2 := hfe.trans f3
        have hv3 := hke2.v hI hlo
        have hC3 := (hv3.C hC).up hup hT3
        have h0 := hup _ _ h0
        have e3 : X_33 1 2 = X 1 2 := congrFun (hv3.1 1 (by omega) (by omega)) 2
        have hqr := q_plan_r (A := q_wn Y k) hC3 (i := k) (by rw [e3]; omega) (fun v v1 v2 => hA3.rng v1 v2)
        have hqe : q_plan X_33 (q_wn Y k) k = q_plan X (q_wn X k) k := by rw [hvY.wn hn.2]; exact hv3.q hn.2 _ _
        have e7 : x_up (x_up X_33 37 0 (X_33 2 k)) 37 1 ma 0 7 = k := by rw [x_up2_o (by omega), hre.2]; exact h7
        refine x_goP (x_rV B h0 (show x_cl[0]? = some _ from rfl) (c_X1_byPlan hC3 (by rw [e3]; omega) hA3) (lw_V q957 q959 qs20 q110 q960) hv_X1_byPlan ⟨by decide, by decide⟩ ⟨by show _ ≤ 3702; omega, by show _ ≤ 3768; omega⟩ rfl rfl (by simp [x_cr, x_c1, x_c2]) dX1_wins_36) ?_
        refine x_goV (x_rV B h0 (show x_cl[0]? = some _ from rfl) (c_X1_tell hC3.1.1 hC3.1.2.1 ⟨by rw [e7]; omega, by rw [e7]; omega⟩ ⟨by omega, by omega⟩) (lw_V q806 q808 qs16 q110 q809) hv_X1_tell ⟨by decide, by decide⟩ ⟨by show _ ≤ 3702; omega, by show _ ≤ 3768; omega⟩ rfl rfl (by simp [x_cr, x_c1, x_c2]) dX1_wins_39) ?_
        refine x_iinc_2 B dX1_wins_42 (by first | rfl | exact x_cr _ _) ?_
        refine x_goto B (tgt := 17) dX1_wins_45 (by decide) ?_
        refine x_sub hup ?_
        refine x_cs (cells' := 617 * (k + 1).toNat) (slots' := 628 * (k + 1).toNat) (by omega) (by omega) ?_
        rw [e7]
        refine ih _ _ ⟨⟨by omega, by omega⟩, hi, (((hke2.up (by omega) hlo0).up (by omega) hlo0).up (by omega) hlo0).up7 (Or.inl rfl), (((hfe2.up (by omega)).up (by omega)).up (by omega)).up (by omega), x_up_s _ _ _ _, fun l l1 l2 => ?_⟩ (by omega)
        rw [x_up_o _ (by omega)]
        by_cases e : l = k
        · subst e; rw [x_up_s]; exact hqe
        · rw [x_up_n _ (Or.inr e), x_up2_o (by omega), hre.1]; exact hrw l l1 (by omega)
  refine x_aload_n B dX1_wins_0 rfl ?_
  refine x_iload_n B dX1_wins_1 rfl ?_
  refine x_goP (x_rV B h0 (show x_cl[0]? = some _ from rfl) (c_X1_isLifter hI ⟨by omega, by omega⟩) (lw_V q735 q737 qs13 q110 q738) hv_X1_isLifter ⟨by decide, by decide⟩ ⟨by decide, by decide⟩ rfl rfl (by simp [x_cr, x_c1, x_c2]) dX1_wins_2) ?_
  refine x_if_ne B (tgt := 10) dX1_wins_5 (by decide) ⟨by omega, by omega⟩ (fun h_5 => ?_) (fun h_5 => ?_)
  · have hi : 0 ≤ i ∧ i < X 1 2 := by unfold x_in at h_5; split at h_5 <;> omega
    refine x_aload_n B dX1_wins_10 rfl ?_
    refine x_iconst B dX1_wins_11 ?_
    refine x_putI B (k := 7) 7 rfl rfl rfl ⟨by omega, by omega⟩ xc_0 (by decide) rfl nn_0_7 (fun _ => rfl) h0 (Or.inl q408) (fun _ h => h) dX1_wins_12 ?_
    refine x_iconst B dX1_wins_15 ?_
    refine x_ist_2 B dX1_wins_16 (by first | rfl | exact x_cr _ _) ?_
    refine lp_17 _ 0 _ ⟨⟨by omega, by omega⟩, hi, (k_eq.rf X).up7 (Or.inl rfl), f_eq.up (fun _ _ _ => rfl) (by omega), x_up_s _ _ _ _, fun l l1 l2 => by omega⟩ (Nat.lt_succ_self _)
  · refine x_iconst B dX1_wins_8 ?_
    refine x_wide (cells' := 3702) (slots' := 3768) (by omega) (by omega) ?_
    refine x_iret B (by first | exact (fun _ _ h => h) | exact (fun a k h => by simp only [x_ku]; grind) ) ?_ dX1_wins_9
    exact ⟨k_eq.rf X, fun _ _ _ => rfl, by rw [if_neg (by omega)]; exact ⟨rfl, rfl, rfl⟩⟩
