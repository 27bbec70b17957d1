def a_rc (w : Int) : Int → Int := fun v => if w ≤ v then 1000000 else 0
def q_ch (X : x_X) (i w : Int) : Int := q_plan X (a_rc w) i
theorem x_mkR {κ : x_Ka} {Y : x_X} {a w : Int} (h1 : κ a = some (.inl (13, 0))) (h2 : Y a 0 = w) : x_Aim κ Y a (a_rc w) := Or.inr (Or.inl ⟨h1, fun v _ _ => by rw [h2]; rfl⟩)
theorem c_X1_laysChance {l : Launch} {E : x_E} {κ : x_Ka} {X : x_X} {i : Int} (hC : n_C κ X) (k87 : κ 87 = some (.inr (1, 1))) (hi : 0 ≤ i ∧ i < X 1 2) : x_Met l yX1_laysChance cX1_laysChance 3 none 58 122 122 E κ X [x_rf E 0, vi i] κ (fun v_ Y => v_ = none ∧ (k_eq X Y ∧ r_eq X Y ∧ f_eq X Y ∧ (∀ a, 53 ≤ a → a ≤ 59 → a ≠ (53 + 1 + 1 * i) → Y a = X a)) ∧ Y (-1) 0 = X (-1) 0 + 122 ∧ ∀ w, 0 ≤ w → w ≤ 121 → Y (53 + 1 + 1 * i) w = q_ch X i w) := by
  refine x_Met.of [(false, x_rf E 0), (false, vi i)] [some (x_rf E 0), some (vi i), none] 1 (by decide) rfl rfl ⟨x_cr E (0), rfl, trivial⟩ rfl rfl ?_
  intro p e s m args below meth c hargs hin B
  obtain ⟨hI, hP, hO, hW, hJ⟩ := id hC
  obtain ⟨hT, h0, hn, hl, hla⟩ := id hI
  refine x_lows (fun hlow => ?_)
  have hlo := hI.lo k87 hlow
  have hlo0 := hlo.1
  have lp_2 : ∀ (n : Nat) (k : Int) (Y : x_X), ((0 ≤ k ∧ k ≤ 122) ∧ (k_eq X Y ∧ r_eq X Y ∧ f_eq X Y ∧ (∀ a, 53 ≤ a → a ≤ 59 → a ≠ (53 + 1 + 1 * i) → Y a = X a)) ∧ Y (-1) 0 = X (-1) 0 + k ∧ ∀ w, 0 ≤ w → w < k → Y (53 + 1 + 1 * i) w = q_ch X i w) → ((123 - k).toNat < n) → x_G p l e (x_rm 58 122 122) s m args below meth c 3 E k.toNat k.toNat (MQ below (x_Q E κ (fun v_ Y => v_ = none ∧ (k_eq X Y ∧ r_eq X Y ∧ f_eq X Y ∧ (∀ a, 53 ≤ a → a ≤ 59 → a ≠ (53 + 1 + 1 * i) → Y a = X a)) ∧ Y (-1) 0 = X (-1) 0 + 122 ∧ ∀ w, 0 ≤ w → w ≤ 121 → Y (53 + 1 + 1 * i) w = q_ch X i w)) args s 122 122 (fun q => E.1 ≤ q)) κ 2 [some (x_rf E 0), some (vi i), some (vi k)] [] Y := by
    intro n
    induction n with
    | zero => intro k Y hinv hme; exfalso; omega
    | succ n ih =>
      intro k Y hinv hme
      obtain ⟨hk, ⟨hke, hre, hfe, hoe⟩, hsz, hch⟩ := hinv
      have hvY := hke.v hI hlo
      have hCY := hvY.C hC
      have hloY := hke.low hlo
      have hk1 := hke.nw (x_df 13) hlo0
      refine x_iload_n B dX1_laysChance_2 rfl ?_
      refine x_bipush B dX1_laysChance_3 (by decide) ?_
      refine x_icmp_gt B (tgt := 35) dX1_laysChance_5 (by decide) ⟨by omega, by omega⟩ ⟨by omega, by omega⟩ (fun h_5 => ?_) (fun h_5 => ?_)
      · obtain rfl : k = 122 := by omega
        refine x_vret B (fun _ _ h => h) ?_ dX1_laysChance_35
        exact ⟨rfl, ⟨hke, hre, hfe, hoe⟩, hsz, fun w w1 w2 => hch w w1 (by omega)⟩
      · refine x_aload_n B dX1_laysChance_8 rfl ?_
        refine x_getC0 B (k := 15) hT rfl rfl xc_0 (by decide) h0 (Or.inl q416) (fun _ h => h) dX1_laysChance_9 (fun k_9 => ?_)
        refine x_iload_n B dX1_laysChance_12 rfl ?_
        refine x_aaldC B (t := 14) hT k_9 rfl rfl rfl rfl ⟨by omega, by omega⟩ dX1_laysChance_13 (fun k_13 => ?_)
        refine x_iload_n B dX1_laysChance_14 rfl ?_
        refine x_aload_n B dX1_laysChance_15 rfl ?_
        refine x_iload_n B dX1_laysChance_16 rfl ?_
        refine x_new B xc_13 q1075 q1076 q137 (xd_13 E) xe_13 (by show _ ≤ 122; omega) (by show _ ≤ 122; omega) dX1_laysChance_17 (fun z_17 n_17 => ?_)
        have hr : x_raw (.inl (13, 0)) := Or.inl ⟨_, rfl⟩
        have h0 := x_ku_le (kd := .inl (13, 0)) n_17 _ _ h0
        refine x_dup B dX1_laysChance_20 (by first | rfl | exact x_cr _ _) ?_
        refine x_iload_n B dX1_laysChance_21 rfl ?_
        refine x_goV (x_rIN B (by omega) (c_X15_init (by omega) (x_ku_s _ _ _) ⟨by omega, by omega⟩) q1077 q1078 q137 q1079 rfl hd_X15_init ⟨by decide, by decide⟩ ⟨by show _ ≤ 122; omega, by show _ ≤ 122; omega⟩ rfl rfl (by simp [x_cr, x_c1, x_c2]) dX1_laysChance_22) ?_
        have hve := (hk1.up (a := Y (-1) 0) (i := 0) (z := k) (by omega) hlo0).v hI hlo
        have hC1 := (hve.C hC).ku n_17 hr
        have e1 : (x_up (x_nw Y (x_df 13)) (Y (-1) 0) 0 k) 1 2 = X 1 2 := congrFun (hve.1 1 (by omega) (by omega)) 2
        have hA := x_mkR (κ := (x_ku κ (Y (-1) 0) (.inl (13, 0)))) (Y := (x_up (x_nw Y (x_df 13)) (Y (-1) 0) 0 k)) (a := Y (-1) 0) (w := k) (x_ku_s _ _ _) (x_up_s _ _ _ _)
        have hqr := q_plan_r (A := a_rc k) hC1 (by rw [e1]; exact hi) (fun v v1 v2 => hA.rng v1 v2)
        have hqe : q_plan (x_up (x_nw Y (x_df 13)) (Y (-1) 0) 0 k) (a_rc k) i = q_ch X i k := hve.q hn.2 _ _
        refine x_goP (x_rV B h0 (show x_cl[0]? = some _ from rfl) (c_X1_byPlan hC1 (by rw [e1]; exact hi) hA) (lw_V q957 q959 qs20 q110 q960) hv_X1_byPlan ⟨by decide, by decide⟩ ⟨by show _ ≤ 122; omega, by show _ ≤ 122; omega⟩ rfl rfl (by simp [x_cr, x_c1, x_c2]) dX1_laysChance_25) ?_
        have k_13 := x_ku_le (kd := .inl (13, 0)) n_17 _ _ k_13
        refine x_last B k_13 ⟨by omega, by omega⟩ ⟨by omega, by omega⟩ dX1_laysChance_28 ?_
        refine x_iinc_2 B dX1_laysChance_29 (by first | rfl | exact x_cr _ _) ?_
        refine x_goto B (tgt := 2) dX1_laysChance_32 (by decide) ?_
        refine x_sub (x_ku_le n_17) ?_
        refine x_cs (cells' := (k + 1).toNat) (slots' := (k + 1).toNat) (by omega) (by omega) ?_
        refine ih _ _ ⟨⟨by omega, by omega⟩, ⟨(((hk1.up (by omega) hlo0).up (by omega) hlo0).up (by omega) hlo0).up (by omega) hlo0, ((((hre.nw _ hloY.1).up (by omega)).up (by omega)).up (by omega)).up (by omega), ((((hfe.nw _ hloY.1).up (by omega)).up (by omega)).up (by omega)).up (by omega), fun a a1 a2 a3 => ?_⟩, ?_, fun w w1 w2 => ?_⟩ (by omega)
        · rw [x_up_o _ a3, x_up2_o (by omega), x_up_o _ (by omega), x_nw_o (by omega)]; exact hoe a a1 a2 a3
        · rw [x_up_o _ (by omega), x_up2_o (by omega), x_up_o _ (by omega), x_nw_z]; omega
        · by_cases e : w = k
          · subst e; rw [x_up_s]; exact hqe
          · rw [x_up_n _ (Or.inr e), x_up2_o (by omega), x_up_o _ (by omega), x_nw_o (by omega)]; exact hch w w1 (by omega)
  refine x_iconst B dX1_laysChance_0 ?_
  refine x_ist_2 B dX1_laysChance_1 (by first | rfl | exact x_cr _ _) ?_
  refine lp_2 _ 0 X ⟨⟨by omega, by omega⟩, ⟨k_eq.rf X, ⟨rfl, rfl⟩, fun _ _ _ => rfl, fun _ _ _ _ => rfl⟩, by omega, fun w w1 w2 => by omega⟩ (Nat.lt_succ_self _)
