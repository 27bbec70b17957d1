def s_aim (F : Int → Int) (z : Int) : Nat → Int → Int → Int
  | 0, lo, _ => lo
  | k + 1, lo, hi => if lo < hi then (if z ≤ F ((lo + hi + 1).tdiv 2) then s_aim F z k ((lo + hi + 1).tdiv 2) hi else s_aim F z k lo ((lo + hi + 1).tdiv 2 - 1)) else lo
def q_aim (X : x_X) (i z : Int) : Int := s_aim (fun w => q_free X (a_rc w) i) z 7 0 120
theorem s_aim_stop {F : Int → Int} {z lo hi : Int} (k : Nat) (h : ¬ lo < hi) : s_aim F z k lo hi = lo := by
  cases k with
  | zero => rfl
  | succ k => unfold s_aim; rw [if_neg h]
theorem q_free_r {κ : x_Ka} {X : x_X} {A : Int → Int} {i : Int} (hC : n_C κ X) (hi : 0 ≤ i ∧ i < X 1 2) (hA : ∀ v, 0 ≤ v → v ≤ 120 → 0 ≤ A v ∧ A v ≤ 1000000) : 0 ≤ q_free X A i ∧ q_free X A i ≤ 1000000 := by
  have hO : ∀ t x f, 0 ≤ t → t ≤ 2 → 0 ≤ f → 0 ≤ c_O X i t x f ∧ c_O X i t x f ≤ 1000 := fun t x f t1 t2 f0 => by unfold c_O; rw [if_pos ⟨hi.1, hi.2, t1, by omega⟩]; exact l_odds_r (hC.2.2.1.1 i hi.1 hi.2) ⟨t1, by omega⟩ f0 hC.2.2.1.2.1
  have hr := f_w_r hO hA
  have hW := hC.2.2.2.1
  have w1 := hW.1
  have w2 := hW.2.1 i hi.1 hi.2
  have hl := m_least_r hW hi.1 hi.2
  have hs := m_sum_r hW hi.1 hi.2
  unfold q_free f_now
  by_cases q : c_M X 3 i 7 ≠ 0
  · rw [if_pos q]; exact hA 0 (by omega) (by omega)
  · rw [if_neg q]
    by_cases q2 : c_M X 3 (-1) 1 = 3
    · rw [if_pos q2]; exact hA _ hs.1 hs.2
    · rw [if_neg q2]
      have hre := m_rest hW hi.1 hi.2 (by omega) q2
      split
      · unfold f_e
        split
        · exact hA _ (by omega) (by omega)
        · split
          · exact hA _ (by omega) (by omega)
          · exact hr 12 _ _ _ _ _ _ (by omega) (by omega) (by omega) (by omega) (by omega)
      · exact hr 12 _ _ _ _ _ _ (by omega) hre.1 hre.2 (by omega) (by omega)
theorem x_half {lo hi : Int} (h : 0 ≤ lo ∧ lo < hi ∧ hi ≤ 120) : (lo < (lo + hi + 1).tdiv 2 ∧ (lo + hi + 1).tdiv 2 ≤ hi) ∧ 2 * (lo + hi + 1).tdiv 2 ≤ lo + hi + 1 ∧ lo + hi ≤ 2 * (lo + hi + 1).tdiv 2 := by
  rw [Int.tdiv_eq_ediv_of_nonneg (by omega)]
  omega
theorem c_X1_aim {l : Launch} {E : x_E} {κ : x_Ka} {X : x_X} {i z : Int} (hC : n_C κ X) (k87 : κ 87 = some (.inr (1, 1))) (hB : f_B X) (h9 : X 38 8 ≤ 800000) (hx : xR i) (hy : xR z) : x_Met l yX1_aim cX1_aim 6 (some .int) 59 8 8 E κ X [x_rf E 0, vi i, vi z] κ (fun v_ Y_ => k_eq X Y_ ∧ f_B2 X Y_ ∧ (if x_in i 0 (X 1 2 - 1) = 1 ∧ x_in z 1 1000000 = 1 then (v_ = some (vi (q_aim X i z)) ∧ Y_ 0 7 = 1 ∧ Y_ 32 0 = q_free X (a_rc (q_aim X i z)) i) else (v_ = some (vi (-1)) ∧ r_eq X Y_))) := by
  refine x_Met.of [(false, x_rf E 0), (false, vi i), (false, vi z)] [some (x_rf E 0), some (vi i), some (vi z), none, none, none] 3 (by decide) rfl rfl ⟨x_cr E (0), rfl, rfl, trivial⟩ rfl rfl ?_
  intro p e s m args below meth c hargs hin B
  obtain ⟨hI, hP, hO, hW, hJ⟩ := id hC
  obtain ⟨hT, h0, hn, hl, hla⟩ := id hI
  refine x_lows (fun hlow => ?_)
  have hlo := hI.lo k87 hlow
  have hlo0 := hlo.1
  have z1 := x_in_01 i 0 (X 1 2 - 1)
  have z2 := x_in_01 z 1 1000000
  have lp_28 : ∀ (n : Nat) (q : Nat) (lo hi_ : Int) (Y : x_X), ((0 ≤ lo ∧ lo ≤ hi_ ∧ hi_ ≤ 120) ∧ (q ≤ 7 ∧ hi_ - lo + 1 ≤ 2 ^ q) ∧ (0 ≤ i ∧ i < X 1 2) ∧ (1 ≤ z ∧ z ≤ 1000000) ∧ k_eq X Y ∧ r_eq X Y ∧ f_B Y ∧ Y 38 8 = X 38 8 + 121 * (7 - (q : Int)) ∧ q_aim X i z = s_aim (fun w => q_free X (a_rc w) i) z q lo hi_) → (q + (hi_ - lo).toNat < n) → x_G p l e (x_rm 59 8 8) s m args below meth c 6 E (7 - q) (7 - q) (MQ below (x_Q E κ (fun v_ Y_ => k_eq X Y_ ∧ f_B2 X Y_ ∧ (if x_in i 0 (X 1 2 - 1) = 1 ∧ x_in z 1 1000000 = 1 then (v_ = some (vi (q_aim X i z)) ∧ Y_ 0 7 = 1 ∧ Y_ 32 0 = q_free X (a_rc (q_aim X i z)) i) else (v_ = some (vi (-1)) ∧ r_eq X Y_)))) args s 8 8 (fun q => E.1 ≤ q)) κ 28 [some (x_rf E 0), some (vi i), some (vi z), some (vi lo), some (vi hi_), none] [] Y := by
    intro n
    induction n with
    | zero => intro q lo hi_ Y hinv hme; exfalso; omega
    | succ n ih =>
      intro q lo hi_ Y hinv hme
      obtain ⟨hlh, ⟨hq7, hqp⟩, hi, hz, hkY, hre, hBY, h8, he⟩ := hinv
      have hvY := hkY.v hI hlo
      have hloY := hkY.low hlo
      have hsz := hkY.2.2.2
      have hly := hloY.1
      have hBr := hBY.1
      refine x_iload_n B dX1_aim_28 rfl ?_
      refine x_iload B dX1_aim_29 rfl ?_
      refine x_icmp_ge B (tgt := 79) dX1_aim_31 (by decide) ⟨by omega, by omega⟩ ⟨by omega, by omega⟩ (fun h_31 => ?_) (fun h_31 => ?_)
      · obtain rfl : lo = hi_ := by omega
        rw [s_aim_stop q (by omega)] at he
        refine x_aload_n B dX1_aim_79 rfl ?_
        refine x_iconst B dX1_aim_80 ?_
        refine x_putI B (k := 7) 7 rfl rfl rfl ⟨by omega, by omega⟩ xc_0 (by decide) rfl nn_0_7 (fun _ => rfl) h0 (Or.inl q408) (fun _ h => h) dX1_aim_81 ?_
        refine x_aload_n B dX1_aim_84 rfl ?_
        refine x_aload_n B dX1_aim_85 rfl ?_
        refine x_iload_n B dX1_aim_86 rfl ?_
        refine x_new B xc_13 q1075 q1076 q137 (xd_13 E) xe_13 (by show _ ≤ 8; omega) (by show _ ≤ 8; omega) dX1_aim_87 (fun z_87 n_87 => ?_)
        have hr : x_raw (.inl (13, 0)) := Or.inl ⟨_, rfl⟩
        have h0 := x_ku_le (kd := .inl (13, 0)) n_87 _ _ h0
        have hT := hT.ku n_87 hr
        have hsY : (x_up Y 0 7 0) (-1) 0 = Y (-1) 0 := by rw [x_up_o _ (by omega)]
        have hk1 := (hkY.up7 (i := 7) (z := 0) (Or.inl rfl)).nw (x_df 13) hlo0
        refine x_dup B dX1_aim_90 (by first | rfl | exact x_cr _ _) ?_
        refine x_iload_n B dX1_aim_91 rfl ?_
        refine x_goV (x_rIN B (by omega) (c_X15_init (by omega) (x_ku_s _ _ _) ⟨by omega, by omega⟩) q1077 q1078 q137 q1079 rfl hd_X15_init ⟨by decide, by decide⟩ ⟨by show _ ≤ 8; omega, by show _ ≤ 8; omega⟩ rfl rfl (by simp [x_cr, x_c1, x_c2]) dX1_aim_92) ?_
        have hk2 := hk1.up (a := (x_up Y 0 7 0) (-1) 0) (i := 0) (z := lo) (by omega) hlo0
        have hve := hk2.v hI hlo
        have hC1 := (hve.C hC).ku n_87 hr
        have e1 : (x_up (x_nw (x_up Y 0 7 0) (x_df 13)) ((x_up Y 0 7 0) (-1) 0) 0 lo) 1 2 = X 1 2 := congrFun (hve.1 1 (by omega) (by omega)) 2
        have hA := x_mkR (κ := (x_ku κ ((x_up Y 0 7 0) (-1) 0) (.inl (13, 0)))) (Y := (x_up (x_nw (x_up Y 0 7 0) (x_df 13)) ((x_up Y 0 7 0) (-1) 0) 0 lo)) (a := (x_up Y 0 7 0) (-1) 0) (w := lo) (x_ku_s _ _ _) (x_up_s _ _ _ _)
        have hfe : f_eq Y (x_up (x_nw (x_up Y 0 7 0) (x_df 13)) ((x_up Y 0 7 0) (-1) 0) 0 lo) := ((f_eq.up (fun _ _ _ => rfl) (by omega)).nw _ (by omega)).up (by omega)
        have hqe : q_free (x_up (x_nw (x_up Y 0 7 0) (x_df 13)) ((x_up Y 0 7 0) (-1) 0) 0 lo) (a_rc lo) i = q_free X (a_rc lo) i := (hve.fq hn.2 _ i).1
        have hqr := q_free_r (A := a_rc lo) hC hi (fun v _ _ => a_rc_r _ v)
        refine x_go (x_rV B h0 (show x_cl[0]? = some _ from rfl) (c_X1_freely hC1 (by rw [e1]; exact hi) hA (hBY.cg hfe)) (lw_V q1162 q1164 qs28 q110 q1165) hv_X1_freely ⟨by decide, by decide⟩ ⟨by show _ ≤ 8; omega, by show _ ≤ 8; omega⟩ rfl rfl (by simp [x_cr, x_c1, x_c2]) dX1_aim_95) (fun v_95 X_95 p_95 => ?_)
        obtain ⟨rfl, hg, hH, hIf, h8z, -⟩ := p_95
        rw [hqe]
        have e70 : X_95 0 7 = 0 := by rw [hg 0 (by omega), x_up_o _ (by omega), x_nw_o (by omega), x_up_s]
        refine x_goV (x_rV B h0 (show x_cl[0]? = some _ from rfl) (c_X1_tell hT h0 ⟨by omega, by omega⟩ ⟨by omega, by omega⟩) (lw_V q806 q808 qs16 q110 q809) hv_X1_tell ⟨by decide, by decide⟩ ⟨by show _ ≤ 8; omega, by show _ ≤ 8; omega⟩ rfl rfl (by simp [x_cr, x_c1, x_c2]) dX1_aim_98) ?_
        refine x_iload_n B dX1_aim_101 rfl ?_
        refine x_wide (cells' := 8) (slots' := 8) (by omega) (by omega) ?_
        refine x_iret B (x_ku_le n_87) ?_ dX1_aim_102
        refine ⟨((hk2.trans hg.k).up (Or.inr (Or.inl rfl)) hlo0).up7 (Or.inl rfl), ⟨?_, ?_⟩, ?_⟩
        · rw [x_up_o _ (by omega), x_up_o _ (by omega), h8z, hfe 38 (by omega) (by omega), h8]; omega
        · intro t t1 t2 k k1 k2; rw [x_up_o _ (by omega), x_up_o _ (by omega), x_up_o _ (by omega), x_up_o _ (by omega)]; exact hIf.1 t t1 t2 k k1 k2
        · rw [if_pos ⟨by unfold x_in; rw [if_pos (by omega)], by unfold x_in; rw [if_pos (by omega)]⟩, he]
          exact ⟨rfl, by rw [x_up_s, e70]; rfl, by rw [x_up_o _ (by omega), e70, x_up_s]⟩
      · have hmd := x_half (lo := lo) (hi := hi_) ⟨hlh.1, h_31, hlh.2.2⟩
        refine x_iload_n B dX1_aim_34 rfl ?_
        refine x_iload B dX1_aim_35 rfl ?_
        refine x_iadd B dX1_aim_37 ?_
        refine x_iconst B dX1_aim_38 ?_
        refine x_iadd B dX1_aim_39 ?_
        refine x_iconst B dX1_aim_40 ?_
        refine x_idiv B dX1_aim_41 ⟨by omega, by omega⟩ ⟨by omega, by omega⟩ ?_
        refine x_istw_5 B dX1_aim_42 (by first | rfl | exact x_cr _ _) ?_
        refine x_aload_n B dX1_aim_44 rfl ?_
        refine x_iload_n B dX1_aim_45 rfl ?_
        refine x_new B xc_13 q1075 q1076 q137 (xd_13 E) xe_13 (by show _ ≤ 8; omega) (by show _ ≤ 8; omega) dX1_aim_46 (fun z_46 n_46 => ?_)
        have hr : x_raw (.inl (13, 0)) := Or.inl ⟨_, rfl⟩
        have h0 := x_ku_le (kd := .inl (13, 0)) n_46 _ _ h0
        have hk1 := hkY.nw (x_df 13) hlo0
        refine x_dup B dX1_aim_49 (by first | rfl | exact x_cr _ _) ?_
        refine x_iload B dX1_aim_50 rfl ?_
        refine x_goV (x_rIN B (by omega) (c_X15_init (by omega) (x_ku_s _ _ _) ⟨by omega, by omega⟩) q1077 q1078 q137 q1079 rfl hd_X15_init ⟨by decide, by decide⟩ ⟨by show _ ≤ 8; omega, by show _ ≤ 8; omega⟩ rfl rfl (by simp [x_cr, x_c1, x_c2]) dX1_aim_52) ?_
        have hk2 := hk1.up (a := Y (-1) 0) (i := 0) (z := ((lo + hi_ + 1).tdiv 2)) (by omega) hlo0
        have hve := hk2.v hI hlo
        have hC1 := (hve.C hC).ku n_46 hr
        have e1 : (x_up (x_nw Y (x_df 13)) (Y (-1) 0) 0 ((lo + hi_ + 1).tdiv 2)) 1 2 = X 1 2 := congrFun (hve.1 1 (by omega) (by omega)) 2
        have hA := x_mkR (κ := (x_ku κ (Y (-1) 0) (.inl (13, 0)))) (Y := (x_up (x_nw Y (x_df 13)) (Y (-1) 0) 0 ((lo + hi_ + 1).tdiv 2))) (a := Y (-1) 0) (w := ((lo + hi_ + 1).tdiv 2)) (x_ku_s _ _ _) (x_up_s _ _ _ _)
        have hfe : f_eq Y (x_up (x_nw Y (x_df 13)) (Y (-1) 0) 0 ((lo + hi_ + 1).tdiv 2)) := (f_eq.nw (fun _ _ _ => rfl) _ hly).up (by omega)
        have hqe : q_free (x_up (x_nw Y (x_df 13)) (Y (-1) 0) 0 ((lo + hi_ + 1).tdiv 2)) (a_rc ((lo + hi_ + 1).tdiv 2)) i = q_free X (a_rc ((lo + hi_ + 1).tdiv 2)) i := (hve.fq hn.2 _ i).1
        refine x_go (x_rV B h0 (show x_cl[0]? = some _ from rfl) (c_X1_freely hC1 (by rw [e1]; exact hi) hA (hBY.cg hfe)) (lw_V q1162 q1164 qs28 q110 q1165) hv_X1_freely ⟨by decide, by decide⟩ ⟨by show _ ≤ 8; omega, by show _ ≤ 8; omega⟩ rfl rfl (by simp [x_cr, x_c1, x_c2]) dX1_aim_55) (fun v_55 X_55 p_55 => ?_)
        obtain ⟨rfl, hg, hH, hIf, h8z, -⟩ := p_55
        refine x_iload_n B dX1_aim_58 rfl ?_
        refine x_i2l B dX1_aim_59 ⟨by omega, by omega⟩ ?_
        refine x_lcmp B dX1_aim_60 ⟨by rw [hqe]; have := q_free_r (A := a_rc ((lo + hi_ + 1).tdiv 2)) hC hi (fun v _ _ => a_rc_r _ v); omega, by rw [hqe]; have := q_free_r (A := a_rc ((lo + hi_ + 1).tdiv 2)) hC hi (fun v _ _ => a_rc_r _ v); omega⟩ ⟨by omega, by omega⟩ ?_
        have hqr := q_free_r (A := a_rc ((lo + hi_ + 1).tdiv 2)) hC hi (fun v _ _ => a_rc_r _ v)
        have hcp := x_cmp_r (q_free (x_up (x_nw Y (x_df 13)) (Y (-1) 0) 0 ((lo + hi_ + 1).tdiv 2)) (a_rc ((lo + hi_ + 1).tdiv 2)) i) z
        refine x_if_lt B (tgt := 70) dX1_aim_61 (by decide) ⟨by omega, by omega⟩ (fun h_61 => ?_) (fun h_61 => ?_)
        · refine x_iload B dX1_aim_70 rfl ?_
          refine x_iconst B dX1_aim_72 ?_
          refine x_isub B dX1_aim_73 ?_
          refine x_istw_4 B dX1_aim_74 (by first | rfl | exact x_cr _ _) ?_
          refine x_goto B (tgt := 28) dX1_aim_76 (by decide) ?_
          refine x_fg_5 ?_
          refine x_sub (x_ku_le n_46) ?_
          obtain ⟨q, rfl⟩ : ∃ g, q = g + 1 := ⟨q - 1, by (cases q with | zero => simp at hqp; omega | succ g => rfl)⟩
          have hp2 : (2 : Int) ^ (q + 1) = 2 * 2 ^ q := by rw [Int.pow_succ, Int.mul_comm]
          rw [hp2] at hqp
          refine x_cs (cells' := 7 - q) (slots' := 7 - q) (by omega) (by omega) ?_
          unfold s_aim at he
          rw [if_pos h_31] at he
          have hkZ : k_eq X X_55 := hk2.trans hg.k
          have hreZ : r_eq X X_55 := ((hre.nw _ hly).up (by omega)).trans hg.r
          have h8Z : X_55 38 8 = X 38 8 + 121 * (7 - (q : Int)) := by rw [h8z, x_up_o _ (by omega), x_nw_o (by omega)]; omega
          have hB1 := hB.1
          have hBZ : f_B X_55 := ⟨by omega, hIf.1⟩
          first
          | (refine ih q _ _ _ ⟨⟨by omega, by omega, by omega⟩, ⟨by omega, by omega⟩, hi, hz, hkZ, hreZ, hBZ, h8Z, ?_⟩ (by omega); rw [he, if_pos (by have := x_cmp_ge h_61; rw [← hqe]; exact this)])
          | (refine ih q _ _ _ ⟨⟨by omega, by omega, by omega⟩, ⟨by omega, by omega⟩, hi, hz, hkZ, hreZ, hBZ, h8Z, ?_⟩ (by omega); rw [he, if_neg (by have := x_cmp_lt h_61; rw [← hqe]; omega)])
        · refine x_iload B dX1_aim_64 rfl ?_
          refine x_ist_3 B dX1_aim_66 (by first | rfl | exact x_cr _ _) ?_
          refine x_goto B (tgt := 76) dX1_aim_67 (by decide) ?_
          refine x_goto B (tgt := 28) dX1_aim_76 (by decide) ?_
          refine x_fg_5 ?_
          refine x_sub (x_ku_le n_46) ?_
          obtain ⟨q, rfl⟩ : ∃ g, q = g + 1 := ⟨q - 1, by (cases q with | zero => simp at hqp; omega | succ g => rfl)⟩
          have hp2 : (2 : Int) ^ (q + 1) = 2 * 2 ^ q := by rw [Int.pow_succ, Int.mul_comm]
          rw [hp2] at hqp
          refine x_cs (cells' := 7 - q) (slots' := 7 - q) (by omega) (by omega) ?_
          unfold s_aim at he
          rw [if_pos h_31] at he
          have hkZ : k_eq X X_55 := hk2.trans hg.k
          have hreZ : r_eq X X_55 := ((hre.nw _ hly).up (by omega)).trans hg.r
          have h8Z : X_55 38 8 = X 38 8 + 121 * (7 - (q : Int)) := by rw [h8z, x_up_o _ (by omega), x_nw_o (by omega)]; omega
          have hB1 := hB.1
          have hBZ : f_B X_55 := ⟨by omega, hIf.1⟩
          first
          | (refine ih q _ _ _ ⟨⟨by omega, by omega, by omega⟩, ⟨by omega, by omega⟩, hi, hz, hkZ, hreZ, hBZ, h8Z, ?_⟩ (by omega); rw [he, if_pos (by have := x_cmp_ge h_61; rw [← hqe]; exact this)])
          | (refine ih q _ _ _ ⟨⟨by omega, by omega, by omega⟩, ⟨by omega, by omega⟩, hi, hz, hkZ, hreZ, hBZ, h8Z, ?_⟩ (by omega); rw [he, if_neg (by have := x_cmp_lt h_61; rw [← hqe]; omega)])
  refine x_aload_n B dX1_aim_0 rfl ?_
  refine x_iload_n B dX1_aim_1 rfl ?_
  refine x_goP (x_rV B h0 (show x_cl[0]? = some _ from rfl) (c_X1_isLifter hI ⟨by omega, by omega⟩) (lw_V q735 q737 qs13 q110 q738) hv_X1_isLifter ⟨by decide, by decide⟩ ⟨by decide, by decide⟩ rfl rfl (by simp [x_cr, x_c1, x_c2]) dX1_aim_2) ?_
  refine x_if_eq B (tgt := 20) dX1_aim_5 (by decide) ⟨by omega, by omega⟩ (fun h_5 => ?_) (fun h_5 => ?_)
  · refine x_iconst B dX1_aim_20 ?_
    refine x_wide (cells' := 8) (slots' := 8) (by omega) (by omega) ?_
    refine x_iret B (by first | exact (fun _ _ h => h) | exact (fun a k h => by simp only [x_ku]; grind) ) ?_ dX1_aim_21
    exact ⟨k_eq.rf X, hB.b2 (fun _ _ _ => rfl), by rw [if_neg (by omega)]; exact ⟨rfl, rfl, rfl⟩⟩
  · refine x_iload_n B dX1_aim_8 rfl ?_
    refine x_i2l B dX1_aim_9 ⟨by omega, by omega⟩ ?_
    refine x_lconst B 1 dX1_aim_10 (by decide) ?_
    refine x_ldc2 B (1000000) q1149 (by decide) dX1_aim_11 ?_
    refine x_goP (x_rS B (c_X1_in ⟨by omega, by omega⟩ ⟨by omega, by omega⟩ ⟨by omega, by omega⟩) (lw_S q464 q465 q110 q466) hd_X1_in ⟨by decide, by decide⟩ ⟨by decide, by decide⟩ rfl rfl (by simp [x_cr, x_c1, x_c2]) dX1_aim_14) ?_
    refine x_if_ne B (tgt := 22) dX1_aim_17 (by decide) ⟨by omega, by omega⟩ (fun h_17 => ?_) (fun h_17 => ?_)
    · have hi : 0 ≤ i ∧ i < X 1 2 := by unfold x_in at h_5; split at h_5 <;> omega
      have hz : 1 ≤ z ∧ z ≤ 1000000 := by unfold x_in at h_17; split at h_17 <;> omega
      refine x_iconst B dX1_aim_22 ?_
      refine x_ist_3 B dX1_aim_23 (by first | rfl | exact x_cr _ _) ?_
      refine x_bipush B dX1_aim_24 (by decide) ?_
      refine x_istw_4 B dX1_aim_26 (by first | rfl | exact x_cr _ _) ?_
      refine lp_28 _ 7 0 120 _ ⟨⟨by omega, by omega, by omega⟩, ⟨by omega, by decide⟩, hi, hz, k_eq.rf X, ⟨rfl, rfl⟩, hB, by omega, rfl⟩ (Nat.lt_succ_self _)
    · refine x_iconst B dX1_aim_20 ?_
      refine x_wide (cells' := 8) (slots' := 8) (by omega) (by omega) ?_
      refine x_iret B (by first | exact (fun _ _ h => h) | exact (fun a k h => by simp only [x_ku]; grind) ) ?_ dX1_aim_21
      exact ⟨k_eq.rf X, hB.b2 (fun _ _ _ => rfl), by rw [if_neg (by omega)]; exact ⟨rfl, rfl, rfl⟩⟩
