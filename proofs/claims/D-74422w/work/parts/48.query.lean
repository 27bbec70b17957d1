theorem c_X1_chance {l : Launch} {E : x_E} {κ : x_Ka} {X : x_X} {i w : Int} (hC : n_C κ X) (k87 : κ 87 = some (.inr (1, 1))) (hx : xR i) (hy : xR w) : x_Met l yX1_chance cX1_chance 3 (some .int) 58 1 1 E κ X [x_rf E 0, vi i, vi w] κ (fun v_ Y_ => v_ = some (vi (if x_in i 0 (X 1 2 - 1) = 1 ∧ x_in w 0 121 = 1 then q_ch X i w else -1)) ∧ k_eq X Y_ ∧ r_eq X Y_ ∧ f_eq X Y_) := by
  refine x_Met.of [(false, x_rf E 0), (false, vi i), (false, vi w)] [some (x_rf E 0), some (vi i), some (vi w)] 0 (by decide) rfl rfl ⟨x_cr E (0), rfl, rfl, trivial⟩ rfl rfl ?_
  intro p e s m args below meth c hargs hin B
  obtain ⟨hI, hP, hO, hW, hJ⟩ := id hC
  obtain ⟨hT, h0, hn, hl, hla⟩ := id hI
  refine x_lows (fun hlow => ?_)
  have hlo := hI.lo k87 hlow
  have hlo0 := hlo.1
  have z1 := x_in_01 i 0 (X 1 2 - 1)
  have z2 := x_in_01 w 0 121
  refine x_aload_n B dX1_chance_0 rfl ?_
  refine x_iload_n B dX1_chance_1 rfl ?_
  refine x_goP (x_rV B h0 (show x_cl[0]? = some _ from rfl) (c_X1_isLifter hI ⟨by omega, by omega⟩) (lw_V q735 q737 qs13 q110 q738) hv_X1_isLifter ⟨by decide, by decide⟩ ⟨by decide, by decide⟩ rfl rfl (by simp [x_cr, x_c1, x_c2]) dX1_chance_2) ?_
  refine x_if_eq B (tgt := 32) dX1_chance_5 (by decide) ⟨by omega, by omega⟩ (fun h_5 => ?_) (fun h_5 => ?_)
  · refine x_iconst B dX1_chance_32 ?_
    refine x_wide (cells' := 1) (slots' := 1) (by omega) (by omega) ?_
    refine x_iret B (by first | exact (fun _ _ h => h) | exact (fun a k h => by simp only [x_ku]; grind) ) ?_ dX1_chance_33
    first
    | exact ⟨by rw [if_neg (by omega)], k_eq.rf X, ⟨rfl, rfl⟩, fun _ _ _ => rfl⟩
    | exact ⟨by rw [if_pos ⟨by omega, by omega⟩, hqe], (((hk1.up (by omega) hlo0).up (by omega) hlo0).up (by omega) hlo0), (((r_eq.nw ⟨rfl, rfl⟩ _ hlo0).up (by omega)).up (by omega)).up (by omega), (((f_eq.nw (fun _ _ _ => rfl) _ hlo0).up (by omega)).up (by omega)).up (by omega)⟩
  · refine x_iload_n B dX1_chance_8 rfl ?_
    refine x_goP (x_rS B (c_X1_isGoal ⟨by omega, by omega⟩) (lw_S q1071 q1072 q110 q1073) hd_X1_isGoal ⟨by decide, by decide⟩ ⟨by decide, by decide⟩ rfl rfl (by simp [x_cr, x_c1, x_c2]) dX1_chance_9) ?_
    refine x_if_eq B (tgt := 32) dX1_chance_12 (by decide) ⟨by omega, by omega⟩ (fun h_12 => ?_) (fun h_12 => ?_)
    · refine x_iconst B dX1_chance_32 ?_
      refine x_wide (cells' := 1) (slots' := 1) (by omega) (by omega) ?_
      refine x_iret B (by first | exact (fun _ _ h => h) | exact (fun a k h => by simp only [x_ku]; grind) ) ?_ dX1_chance_33
      first
      | exact ⟨by rw [if_neg (by omega)], k_eq.rf X, ⟨rfl, rfl⟩, fun _ _ _ => rfl⟩
      | exact ⟨by rw [if_pos ⟨by omega, by omega⟩, hqe], (((hk1.up (by omega) hlo0).up (by omega) hlo0).up (by omega) hlo0), (((r_eq.nw ⟨rfl, rfl⟩ _ hlo0).up (by omega)).up (by omega)).up (by omega), (((f_eq.nw (fun _ _ _ => rfl) _ hlo0).up (by omega)).up (by omega)).up (by omega)⟩
    · have hi : 0 ≤ i ∧ i < X 1 2 := by unfold x_in at h_5; split at h_5 <;> omega
      refine x_aload_n B dX1_chance_15 rfl ?_
      refine x_iload_n B dX1_chance_16 rfl ?_
      refine x_new B xc_13 q1075 q1076 q137 (xd_13 E) xe_13 (by decide) (by decide) dX1_chance_17 (fun z_17 n_17 => ?_)
      have hr : x_raw (.inl (13, 0)) := Or.inl ⟨_, rfl⟩
      have h0 := x_ku_le (kd := .inl (13, 0)) n_17 _ _ h0
      have hk1 := (k_eq.rf X).nw (x_df 13) hlo0
      refine x_dup B dX1_chance_20 (by first | rfl | exact x_cr _ _) ?_
      refine x_iload_n B dX1_chance_21 rfl ?_
      refine x_goV (x_rIN B (by omega) (c_X15_init (by omega) (x_ku_s _ _ _) ⟨by omega, by omega⟩) q1077 q1078 q137 q1079 rfl hd_X15_init ⟨by decide, by decide⟩ ⟨by decide, by decide⟩ rfl rfl (by simp [x_cr, x_c1, x_c2]) dX1_chance_22) ?_
      have hve := (hk1.up (a := X (-1) 0) (i := 0) (z := w) (by omega) hlo0).v hI hlo
      have hC1 := (hve.C hC).ku n_17 hr
      have e1 : (x_up (x_nw X (x_df 13)) (X (-1) 0) 0 w) 1 2 = X 1 2 := congrFun (hve.1 1 (by omega) (by omega)) 2
      have hA := x_mkR (κ := (x_ku κ (X (-1) 0) (.inl (13, 0)))) (Y := (x_up (x_nw X (x_df 13)) (X (-1) 0) 0 w)) (a := X (-1) 0) (w := w) (x_ku_s _ _ _) (x_up_s _ _ _ _)
      have hqe : q_plan (x_up (x_nw X (x_df 13)) (X (-1) 0) 0 w) (a_rc w) i = q_ch X i w := hve.q hn.2 _ _
      refine x_goP (x_rV B h0 (show x_cl[0]? = some _ from rfl) (c_X1_byPlan hC1 (by rw [e1]; exact hi) hA) (lw_V q957 q959 qs20 q110 q960) hv_X1_byPlan ⟨by decide, by decide⟩ ⟨by decide, by decide⟩ rfl rfl (by simp [x_cr, x_c1, x_c2]) dX1_chance_25) ?_
      refine x_l2i B dX1_chance_28 ?_
      refine x_goto B (tgt := 33) dX1_chance_29 (by decide) ?_
      refine x_wide (cells' := 1) (slots' := 1) (by omega) (by omega) ?_
      refine x_iret B (by first | exact (fun _ _ h => h) | exact (fun a k h => by simp only [x_ku]; grind) ) ?_ dX1_chance_33
      first
      | exact ⟨by rw [if_neg (by omega)], k_eq.rf X, ⟨rfl, rfl⟩, fun _ _ _ => rfl⟩
      | exact ⟨by rw [if_pos ⟨by omega, by omega⟩, hqe], (((hk1.up (by omega) hlo0).up (by omega) hlo0).up (by omega) hlo0), (((r_eq.nw ⟨rfl, rfl⟩ _ hlo0).up (by omega)).up (by omega)).up (by omega), (((f_eq.nw (fun _ _ _ => rfl) _ hlo0).up (by omega)).up (by omega)).up (by omega)⟩
theorem c_X1_beats {l : Launch} {E : x_E} {κ : x_Ka} {X : x_X} {i j : Int} (hC : n_C κ X) (k87 : κ 87 = some (.inr (1, 1))) (hx : xR i) (hy : xR j) : x_Met l yX1_beats cX1_beats 3 (some .int) 60 123 124 E κ X [x_rf E 0, vi i, vi j] κ (fun v_ Y_ => v_ = some (vi (if x_in i 0 (X 1 2 - 1) = 1 ∧ x_in j 0 (X 1 2 - 1) = 1 ∧ i ≠ j then q_plan X (q_bt X i j) i else -1)) ∧ k_eq X Y_ ∧ r_eq X Y_ ∧ f_eq X Y_) := by
  refine x_Met.of [(false, x_rf E 0), (false, vi i), (false, vi j)] [some (x_rf E 0), some (vi i), some (vi j)] 0 (by decide) rfl rfl ⟨x_cr E (0), rfl, rfl, trivial⟩ rfl rfl ?_
  intro p e s m args below meth c hargs hin B
  obtain ⟨hI, hP, hO, hW, hJ⟩ := id hC
  obtain ⟨hT, h0, hn, hl, hla⟩ := id hI
  refine x_lows (fun hlow => ?_)
  have hlo := hI.lo k87 hlow
  have hlo0 := hlo.1
  have z1 := x_in_01 i 0 (X 1 2 - 1)
  have z2 := x_in_01 j 0 (X 1 2 - 1)
  refine x_aload_n B dX1_beats_0 rfl ?_
  refine x_iload_n B dX1_beats_1 rfl ?_
  refine x_iload_n B dX1_beats_2 rfl ?_
  refine x_goP (x_rV B h0 (show x_cl[0]? = some _ from rfl) (c_X1_areTwo hI ⟨by omega, by omega⟩ ⟨by omega, by omega⟩) (lw_V q1098 q1100 qs23 q110 q1101) hv_X1_areTwo ⟨by decide, by decide⟩ ⟨by decide, by decide⟩ rfl rfl (by simp [x_cr, x_c1, x_c2]) dX1_beats_3) ?_
  refine x_if_eq B (tgt := 24) dX1_beats_6 (by decide) ⟨by split <;> omega, by split <;> omega⟩ (fun h_6 => ?_) (fun h_6 => ?_)
  · refine x_iconst B dX1_beats_24 ?_
    refine x_wide (cells' := 123) (slots' := 124) (by omega) (by omega) ?_
    refine x_iret B (by first | exact (fun _ _ h => h) | exact (fun a k h => by simp only [x_ku]; grind) ) ?_ dX1_beats_25
    first
    | exact ⟨by rw [if_neg (fun q => by rw [if_pos q] at h_6; omega)], k_eq.rf X, ⟨rfl, rfl⟩, fun _ _ _ => rfl⟩
    | exact ⟨by rw [if_pos hcd, hve.q hn.2], (hke.up (by omega) hlo0).up (by omega) hlo0, (hre.up (by omega)).up (by omega), (hfe.up (by omega)).up (by omega)⟩
  · have hcd : x_in i 0 (X 1 2 - 1) = 1 ∧ x_in j 0 (X 1 2 - 1) = 1 ∧ i ≠ j := by split at h_6; assumption; exact absurd rfl h_6
    have hi : 0 ≤ i ∧ i < X 1 2 := by have := hcd.1; unfold x_in at this; split at this <;> omega
    have hj : 0 ≤ j ∧ j < X 1 2 := by have := hcd.2.1; unfold x_in at this; split at this <;> omega
    refine x_aload_n B dX1_beats_9 rfl ?_
    refine x_iload_n B dX1_beats_10 rfl ?_
    refine x_aload_n B dX1_beats_11 rfl ?_
    refine x_iload_n B dX1_beats_12 rfl ?_
    refine x_iload_n B dX1_beats_13 rfl ?_
    refine x_goK (x_rVK B h0 (show x_cl[0]? = some _ from rfl) (c_X1_beat hC k87 hi hj) (lw_V q1102 q1104 qs24 q110 q1105) hv_X1_beat ⟨by decide, by decide⟩ ⟨by decide, by decide⟩ rfl rfl (by simp [x_cr, x_c1, x_c2]) dX1_beats_14) (fun v_14 κ_14 X_14 p_14 => ?_)
    obtain ⟨rfl, rfl, hnone, hke, hre, hfe, hoe, hsz, hbo⟩ := p_14
    have hve := hke.v hI hlo
    have hr : x_raw (.inl (14, 0)) := Or.inl ⟨_, rfl⟩
    have hC1 := (hve.C hC).ku hnone hr
    have h0 := x_ku_le (kd := .inl (14, 0)) hnone _ _ h0
    have e1 : X_14 1 2 = X 1 2 := congrFun (hve.1 1 (by omega) (by omega)) 2
    have hA : x_Aim (x_ku κ (X (-1) 0 + 122) (.inl (14, 0))) X_14 (X (-1) 0 + 122) (q_bt X i j) := Or.inr (Or.inr (Or.inl ⟨hbo.bok hC hj (x_ku_le hnone) (x_ku_s _ _ _), fun v v1 v2 => (hbo.beat ⟨v1, v2⟩).symm⟩))
    refine x_goP (x_rV B h0 (show x_cl[0]? = some _ from rfl) (c_X1_byPlan hC1 (by rw [e1]; exact hi) hA) (lw_V q957 q959 qs20 q110 q960) hv_X1_byPlan ⟨by decide, by decide⟩ ⟨by decide, by decide⟩ rfl rfl (by simp [x_cr, x_c1, x_c2]) dX1_beats_17) ?_
    refine x_l2i B dX1_beats_20 ?_
    refine x_goto B (tgt := 25) dX1_beats_21 (by decide) ?_
    refine x_wide (cells' := 123) (slots' := 124) (by omega) (by omega) ?_
    refine x_iret B (by first | exact (fun _ _ h => h) | exact (fun a k h => by simp only [x_ku]; grind) ) ?_ dX1_beats_25
    first
    | exact ⟨by rw [if_neg (fun q => by rw [if_pos q] at h_6; omega)], k_eq.rf X, ⟨rfl, rfl⟩, fun _ _ _ => rfl⟩
    | exact ⟨by rw [if_pos hcd, hve.q hn.2], (hke.up (by omega) hlo0).up (by omega) hlo0, (hre.up (by omega)).up (by omega), (hfe.up (by omega)).up (by omega)⟩
theorem x_cmp_gt {a b : Int} (h : 0 < x_cmp a b) : b < a := by unfold x_cmp at h; split at h; assumption; split at h <;> omega
theorem x_cmp_le {a b : Int} (h : x_cmp a b ≤ 0) : a ≤ b := by unfold x_cmp at h; split at h; omega; split at h <;> omega
theorem x_cmp_lt {a b : Int} (h : x_cmp a b < 0) : a < b := by unfold x_cmp at h; split at h; omega; split at h <;> omega
theorem x_cmp_ge {a b : Int} (h : 0 ≤ x_cmp a b) : b ≤ a := by unfold x_cmp at h; split at h; omega; split at h <;> omega
/-! the likeliest total -/
def l_m (d : Int → Int) : Nat → Int
  | 0 => -1
  | k + 1 => if d k ≤ l_m d k then l_m d k else d k
def l_b (d : Int → Int) : Nat → Int
  | 0 => 0
  | k + 1 => if d k ≤ l_m d k then l_b d k else k
theorem l_ms (d : Int → Int) {k : Int} (hk : 0 ≤ k) : l_m d (k + 1).toNat = (if d k ≤ l_m d k.toNat then l_m d k.toNat else d k) ∧ l_b d (k + 1).toNat = (if d k ≤ l_m d k.toNat then l_b d k.toNat else k) := by
  rw [show (k + 1).toNat = k.toNat + 1 by omega]
  constructor
  · conv => lhs; unfold l_m
    rw [show ((k.toNat : Nat) : Int) = k by omega]
  · conv => lhs; unfold l_b
    rw [show ((k.toNat : Nat) : Int) = k by omega]
theorem l_m_r {d : Int → Int} (h : ∀ k, 0 ≤ k → k ≤ 120 → -1000000 ≤ d k ∧ d k ≤ 1000000) (n : Nat) (hn : (n : Int) ≤ 121) : -1 ≤ l_m d n ∧ l_m d n ≤ 1000000 := by
  induction n with
  | zero => unfold l_m; omega
  | succ n ih =>
    have h1 := ih (by omega)
    have h2 := h n (by omega) (by omega)
    unfold l_m
    split <;> omega
theorem l_b_r (d : Int → Int) : ∀ n : Nat, 0 ≤ l_b d n ∧ l_b d n ≤ n
  | 0 => by simp [l_b]
  | n + 1 => by have := l_b_r d n; unfold l_b; split <;> omega
def q_d (X : x_X) (i w : Int) : Int := q_ch X i w - q_ch X i (w + 1)
theorem c_X1_likeliest {l : Launch} {E : x_E} {κ : x_Ka} {X : x_X} {i : Int} (hC : n_C κ X) (k87 : κ 87 = some (.inr (1, 1))) (hx : xR i) : x_Met l yX1_likeliest cX1_likeliest 8 (some .int) 59 122 122 E κ X [x_rf E 0, vi i] κ (fun v_ Y_ => k_eq X Y_ ∧ f_eq X Y_ ∧ (if x_in i 0 (X 1 2 - 1) = 1 then (v_ = some (vi (l_b (q_d X i) 121)) ∧ Y_ 0 7 = 2 ∧ Y_ 32 0 = l_m (q_d X i) 121 ∧ Y_ 32 1 = q_ch X i 1) else (v_ = some (vi (-1)) ∧ r_eq X Y_))) := by
  refine x_Met.of [(false, x_rf E 0), (false, vi i)] [some (x_rf E 0), some (vi i), none, none, none, none, none, none] 6 (by decide) rfl rfl ⟨x_cr E (0), rfl, trivial⟩ rfl rfl ?_
  intro p e s m args below meth c hargs hin B
  obtain ⟨hI, hP, hO, hW, hJ⟩ := id hC
  obtain ⟨hT, h0, hn, hl, hla⟩ := id hI
  refine x_lows (fun hlow => ?_)
  have hlo := hI.lo k87 hlow
  have hlo0 := hlo.1
  have z1 := x_in_01 i 0 (X 1 2 - 1)
  have h53 : κ 53 = some (.inr (14, 6)) := hT.1 0 0 h0 15 (0, 53, .inr (14, 6)) rfl
  have lp_24 : ∀ (n : Nat) (k : Int) (Y : x_X) (b mm : Int), ((0 ≤ k ∧ k ≤ 121) ∧ (0 ≤ i ∧ i < X 1 2) ∧ k_eq X Y ∧ f_eq X Y ∧ (∀ w, 0 ≤ w → w ≤ 121 → Y (53 + 1 + 1 * i) w = q_ch X i w) ∧ b = l_b (q_d X i) k.toNat ∧ mm = l_m (q_d X i) k.toNat) → ((122 - k).toNat < n) → x_G p l e (x_rm 59 122 122) s m args below meth c 8 E 122 122 (MQ below (x_Q E κ (fun v_ Y_ => k_eq X Y_ ∧ f_eq X Y_ ∧ (if x_in i 0 (X 1 2 - 1) = 1 then (v_ = some (vi (l_b (q_d X i) 121)) ∧ Y_ 0 7 = 2 ∧ Y_ 32 0 = l_m (q_d X i) 121 ∧ Y_ 32 1 = q_ch X i 1) else (v_ = some (vi (-1)) ∧ r_eq X Y_)))) args s 122 122 (fun q => E.1 ≤ q)) κ 24 [some (x_rf E 0), some (vi i), some (vi b), some (vl mm), none, some (vi k), none, none] [] Y := by
    intro n
    induction n with
    | zero => intro k Y b mm hinv hme; exfalso; omega
    | succ n ih =>
      intro k Y b mm hinv hme
      obtain ⟨hk, hi, hke, hfe, hch, rfl, rfl⟩ := hinv
      have hls := l_ms (q_d X i) hk.1
      have hqr : ∀ w, 0 ≤ q_ch X i w ∧ q_ch X i w ≤ 1000000 := fun w => q_ch_r hC hi
      have hmr := l_m_r (d := q_d X i) (fun w _ _ => by have h1 := hqr w; have h2 := hqr (w + 1); unfold q_d; omega) k.toNat (by omega)
      have hbr := l_b_r (q_d X i) k.toNat
      have q1 := hqr k
      have ed : q_d X i k = q_ch X i k - q_ch X i (k + 1) := rfl
      have q2 := hqr (k + 1)
      refine x_iload B dX1_likeliest_24 rfl ?_
      refine x_bipush B dX1_likeliest_26 (by decide) ?_
      refine x_icmp_gt B (tgt := 76) dX1_likeliest_28 (by decide) ⟨by omega, by omega⟩ ⟨by omega, by omega⟩ (fun h_28 => ?_) (fun h_28 => ?_)
      · obtain rfl : k = 121 := by omega
        have h2r := hqr 1
        rw [show (121 : Int).toNat = 121 from rfl] at *
        refine x_aload_n B dX1_likeliest_76 rfl ?_
        refine x_iconst B dX1_likeliest_77 ?_
        refine x_putI B (k := 7) 7 rfl rfl rfl ⟨by omega, by omega⟩ xc_0 (by decide) rfl nn_0_7 (fun _ => rfl) h0 (Or.inl q408) (fun _ h => h) dX1_likeliest_78 ?_
        refine x_aload_n B dX1_likeliest_81 rfl ?_
        refine x_lload_n B dX1_likeliest_82 rfl ?_
        refine x_goV (x_rV B h0 (show x_cl[0]? = some _ from rfl) (c_X1_tell hT h0 ⟨by rw [x_up_s]; omega, by rw [x_up_s]; omega⟩ ⟨by omega, by omega⟩) (lw_V q806 q808 qs16 q110 q809) hv_X1_tell ⟨by decide, by decide⟩ ⟨by decide, by decide⟩ rfl rfl (by simp [x_cr, x_c1, x_c2]) dX1_likeliest_83) ?_
        refine x_aload_n B dX1_likeliest_86 rfl ?_
        refine x_aload_n B dX1_likeliest_87 rfl ?_
        refine x_getC0 B (k := 15) hT rfl rfl xc_0 (by decide) h0 (Or.inl q416) (fun _ h => h) dX1_likeliest_88 (fun k_88 => ?_)
        refine x_iload_n B dX1_likeliest_91 rfl ?_
        refine x_aaldC B (t := 14) hT k_88 rfl rfl rfl rfl ⟨by omega, by omega⟩ dX1_likeliest_92 (fun k_92 => ?_)
        refine x_iconst B dX1_likeliest_93 ?_
        refine x_lald B k_92 ⟨by omega, by omega⟩ dX1_likeliest_94 (fun r_94 => ?_)
        have e94 : (x_up (x_up (x_up Y 0 7 0) 32 (x_up Y 0 7 0 0 7) (l_m (q_d X i) 121)) 0 7 (x_up Y 0 7 0 0 7 + 1)) (53 + 1 + 1 * i) 1 = q_ch X i 1 := by rw [x_up_o _ (by omega), x_up_o _ (by omega), x_up_o _ (by omega)]; exact hch 1 (by omega) (by omega)
        rw [e94]
        refine x_goV (x_rV B h0 (show x_cl[0]? = some _ from rfl) (c_X1_tell hT h0 ⟨by rw [x_up_s, x_up_s]; omega, by rw [x_up_s, x_up_s]; omega⟩ ⟨by omega, by omega⟩) (lw_V q806 q808 qs16 q110 q809) hv_X1_tell ⟨by decide, by decide⟩ ⟨by decide, by decide⟩ rfl rfl (by simp [x_cr, x_c1, x_c2]) dX1_likeliest_95) ?_
        refine x_iload_n B dX1_likeliest_98 rfl ?_
        refine x_wide (cells' := 122) (slots' := 122) (by omega) (by omega) ?_
        refine x_iret B (by first | exact (fun _ _ h => h) | exact (fun a k h => by simp only [x_ku]; grind) ) ?_ dX1_likeliest_99
        rw [x_up_s, x_up_s]
        refine ⟨((((hke.up7 (Or.inl rfl)).up (by omega) hlo0).up7 (Or.inl rfl)).up (by omega) hlo0).up7 (Or.inl rfl), ((((hfe.up (by omega)).up (by omega)).up (by omega)).up (by omega)).up (by omega), ?_⟩
        rw [if_pos (by unfold x_in; rw [if_pos (by omega)])]
        refine ⟨rfl, by rw [x_up_s]; rfl, ?_, ?_⟩
        · rw [x_up_o _ (by omega), x_up_n _ (Or.inr (by omega)), x_up_o _ (by omega), x_up_s]
        · rw [x_up_o _ (by omega), show (0 : Int) + 1 = 1 by rfl, x_up_s]
      · refine x_aload_n B dX1_likeliest_31 rfl ?_
        refine x_getC0 B (k := 15) hT rfl rfl xc_0 (by decide) h0 (Or.inl q416) (fun _ h => h) dX1_likeliest_32 (fun k_32 => ?_)
        refine x_iload_n B dX1_likeliest_35 rfl ?_
        refine x_aaldC B (t := 14) hT k_32 rfl rfl rfl rfl ⟨by omega, by omega⟩ dX1_likeliest_36 (fun k_36 => ?_)
        refine x_iload B dX1_likeliest_37 rfl ?_
        refine x_lald B k_36 ⟨by omega, by omega⟩ dX1_likeliest_39 (fun r_39 => ?_)
        rw [hch k (by omega) (by omega)] at r_39 ⊢
        refine x_aload_n B dX1_likeliest_40 rfl ?_
        refine x_getC0 B (k := 15) hT rfl rfl xc_0 (by decide) h0 (Or.inl q416) (fun _ h => h) dX1_likeliest_41 (fun k_41 => ?_)
        refine x_iload_n B dX1_likeliest_44 rfl ?_
        refine x_aaldC B (t := 14) hT k_41 rfl rfl rfl rfl ⟨by omega, by omega⟩ dX1_likeliest_45 (fun k_45 => ?_)
        refine x_iload B dX1_likeliest_46 rfl ?_
        refine x_iconst B dX1_likeliest_48 ?_
        refine x_iadd B dX1_likeliest_49 ?_
        refine x_lald B k_45 ⟨by omega, by omega⟩ dX1_likeliest_50 (fun r_50 => ?_)
        rw [hch (k + 1) (by omega) (by omega)] at r_50 ⊢
        refine x_lsub B dX1_likeliest_51 ?_
        refine x_lstw_6 B dX1_likeliest_52 (by first | rfl | exact x_cr _ _) ?_
        refine x_lload B dX1_likeliest_54 rfl ?_
        refine x_lload_n B dX1_likeliest_56 rfl ?_
        refine x_lcmp B dX1_likeliest_57 ⟨by omega, by omega⟩ ⟨by omega, by omega⟩ ?_
        have hcp := x_cmp_r (q_ch X i k - q_ch X i (k + 1)) (l_m (q_d X i) k.toNat)
        refine x_if_gt B (tgt := 64) dX1_likeliest_58 (by decide) ⟨by omega, by omega⟩ (fun h_58 => ?_) (fun h_58 => ?_)
        · refine x_iload B dX1_likeliest_64 rfl ?_
          refine x_ist_2 B dX1_likeliest_66 (by first | rfl | exact x_cr _ _) ?_
          refine x_lload B dX1_likeliest_67 rfl ?_
          refine x_lst_3 B dX1_likeliest_69 (by first | rfl | exact x_cr _ _) ?_
          refine x_iinc_5 B dX1_likeliest_70 (by first | rfl | exact x_cr _ _) ?_
          refine x_goto B (tgt := 24) dX1_likeliest_73 (by decide) ?_
          refine x_fg_6 ?_
          refine ih _ _ _ _ ⟨⟨by omega, by omega⟩, hi, hke, hfe, hch, ?_, ?_⟩ (by omega)
          · rw [hls.2]; first | rw [if_neg (by have := x_cmp_gt h_58; rw [ed]; omega)] | rw [if_pos (by have := x_cmp_le h_58; rw [ed]; omega)]
          · rw [hls.1]; first | rw [if_neg (by have := x_cmp_gt h_58; rw [ed]; omega), ed] | rw [if_pos (by have := x_cmp_le h_58; rw [ed]; omega)]
        · refine x_goto B (tgt := 70) dX1_likeliest_61 (by decide) ?_
          refine x_iinc_5 B dX1_likeliest_70 (by first | rfl | exact x_cr _ _) ?_
          refine x_goto B (tgt := 24) dX1_likeliest_73 (by decide) ?_
          refine x_fg_6 ?_
          refine ih _ _ _ _ ⟨⟨by omega, by omega⟩, hi, hke, hfe, hch, ?_, ?_⟩ (by omega)
          · rw [hls.2]; first | rw [if_neg (by have := x_cmp_gt h_58; rw [ed]; omega)] | rw [if_pos (by have := x_cmp_le h_58; rw [ed]; omega)]
          · rw [hls.1]; first | rw [if_neg (by have := x_cmp_gt h_58; rw [ed]; omega), ed] | rw [if_pos (by have := x_cmp_le h_58; rw [ed]; omega)]
  refine x_aload_n B dX1_likeliest_0 rfl ?_
  refine x_iload_n B dX1_likeliest_1 rfl ?_
  refine x_goP (x_rV B h0 (show x_cl[0]? = some _ from rfl) (c_X1_isLifter hI ⟨by omega, by omega⟩) (lw_V q735 q737 qs13 q110 q738) hv_X1_isLifter ⟨by decide, by decide⟩ ⟨by decide, by decide⟩ rfl rfl (by simp [x_cr, x_c1, x_c2]) dX1_likeliest_2) ?_
  refine x_if_ne B (tgt := 10) dX1_likeliest_5 (by decide) ⟨by omega, by omega⟩ (fun h_5 => ?_) (fun h_5 => ?_)
  · have hi : 0 ≤ i ∧ i < X 1 2 := by unfold x_in at h_5; split at h_5 <;> omega
    refine x_aload_n B dX1_likeliest_10 rfl ?_
    refine x_iload_n B dX1_likeliest_11 rfl ?_
    refine x_go (x_rV B h0 (show x_cl[0]? = some _ from rfl) (c_X1_laysChance hC k87 hi) (lw_V q1089 q1091 qs22 q110 q1092) hv_X1_laysChance ⟨by decide, by decide⟩ ⟨by decide, by decide⟩ rfl rfl (by simp [x_cr, x_c1, x_c2]) dX1_likeliest_12) (fun v_12 X_12 p_12 => ?_)
    obtain ⟨rfl, ⟨hke, hre, hfe, hoe⟩, hsz, hch⟩ := p_12
    refine x_iconst B dX1_likeliest_15 ?_
    refine x_ist_2 B dX1_likeliest_16 (by first | rfl | exact x_cr _ _) ?_
    refine x_ldc2 B (-1) q1093 (by decide) dX1_likeliest_17 ?_
    refine x_lst_3 B dX1_likeliest_20 (by first | rfl | exact x_cr _ _) ?_
    refine x_iconst B dX1_likeliest_21 ?_
    refine x_istw_5 B dX1_likeliest_22 (by first | rfl | exact x_cr _ _) ?_
    refine lp_24 _ 0 _ _ _ ⟨⟨by omega, by omega⟩, hi, hke, hfe, hch, rfl, rfl⟩ (Nat.lt_succ_self _)
  · refine x_iconst B dX1_likeliest_8 ?_
    refine x_wide (cells' := 122) (slots' := 122) (by omega) (by omega) ?_
    refine x_iret B (by first | exact (fun _ _ h => h) | exact (fun a k h => by simp only [x_ku]; grind) ) ?_ dX1_likeliest_9
    exact ⟨k_eq.rf X, fun _ _ _ => rfl, by rw [if_neg (by omega)]; exact ⟨rfl, rfl, rfl⟩⟩
