theorem a_rc_r (w v : Int) : 0 ≤ a_rc w v ∧ a_rc w v ≤ 1000000 := by unfold a_rc; split <;> omega
theorem q_ch_r {κ : x_Ka} {X : x_X} {i w : Int} (hC : n_C κ X) (hi : 0 ≤ i ∧ i < X 1 2) : 0 ≤ q_ch X i w ∧ q_ch X i w ≤ 1000000 := q_plan_r hC hi (fun v _ _ => a_rc_r w v)
/-- ahead of j -/
def q_bt (X : x_X) (i j v : Int) : Int := if v = 0 then 0 else 1000000 - q_ch X j (v + c_li X i j)
def b_ok (X Y : x_X) (i j a : Int) : Prop := Y a 0 = 53 + 1 + 1 * j ∧ Y a 1 = c_li X i j ∧ ∀ w, 0 ≤ w → w ≤ 121 → Y (53 + 1 + 1 * j) w = q_ch X j w
theorem b_ok.bok {κ κ2 : x_Ka} {X Y : x_X} {i j a : Int} (h : b_ok X Y i j a) (hC : n_C κ X) (hj : 0 ≤ j ∧ j < X 1 2) (hup : ∀ b k, κ b = some k → κ2 b = some k) (ha : κ2 a = some (.inl (14, 0))) : a_bok κ2 Y a := by
  have hn := hC.1.2.2.1
  have h53 : κ 53 = some (.inr (14, 6)) := hC.1.1.1 0 0 hC.1.2.1 15 (0, 53, .inr (14, 6)) rfl
  refine ⟨ha, by rw [h.1]; exact hup _ _ (hC.1.1.2 53 14 6 h53 (1, 1, .inr (1, 122)) rfl j hj.1 (by omega)), by rw [h.2.1]; exact m_li_r _ _ _ _, fun w w1 w2 => ?_⟩
  rw [h.1, h.2.2 w w1 w2]
  exact q_ch_r hC hj
theorem b_ok.beat {X Y : x_X} {i j a v : Int} (h : b_ok X Y i j a) (hv : 0 ≤ v ∧ v ≤ 120) : a_beat Y a v = q_bt X i j v := by
  have := m_li_r (c_body X) (c_lot X) i j
  unfold a_beat q_bt
  by_cases q : v = 0
  · rw [if_pos q, if_pos q]
  · rw [if_neg q, if_neg q, h.1, h.2.1, h.2.2 _ (by unfold c_li; omega) (by unfold c_li; omega)]
theorem c_X1_beat {l : Launch} {E : x_E} {κ : x_Ka} {X : x_X} {i j : Int} (hC : n_C κ X) (k87 : κ 87 = some (.inr (1, 1))) (hi : 0 ≤ i ∧ i < X 1 2) (hj : 0 ≤ j ∧ j < X 1 2) : x_MetK l yX1_beat cX1_beat 3 (some (.object "NextLoad$Beat")) 59 123 124 E κ X [x_rf E 0, vi i, vi j] (fun v_ κ2 Y => v_ = some (x_rf E (X (-1) 0 + 122)) ∧ κ2 = x_ku κ (X (-1) 0 + 122) (.inl (14, 0)) ∧ κ (X (-1) 0 + 122) = none ∧ k_eq X Y ∧ r_eq X Y ∧ f_eq X Y ∧ (∀ a, 53 ≤ a → a ≤ 59 → a ≠ 53 + 1 + 1 * j → Y a = X a) ∧ Y (-1) 0 = X (-1) 0 + 123 ∧ b_ok X Y i j (X (-1) 0 + 122)) := by
  refine x_MetK.of [(false, x_rf E 0), (false, vi i), (false, vi j)] [some (x_rf E 0), some (vi i), some (vi j)] 0 (by decide) rfl rfl ⟨x_cr E (0), rfl, rfl, trivial⟩ rfl rfl ?_
  intro p e s m args below meth c hargs hin B
  obtain ⟨hI, hP, hO, hW, hJ⟩ := id hC
  obtain ⟨hT, h0, hn, hl, hla⟩ := id hI
  refine x_lows (fun hlow => ?_)
  have hlo := hI.lo k87 hlow
  have hlo0 := hlo.1
  refine x_aload_n B dX1_beat_0 rfl ?_
  refine x_iload_n B dX1_beat_1 rfl ?_
  refine x_go (x_rV B h0 (show x_cl[0]? = some _ from rfl) (c_X1_laysChance hC k87 hj) (lw_V q1089 q1091 qs22 q110 q1092) hv_X1_laysChance ⟨by decide, by decide⟩ ⟨by decide, by decide⟩ rfl rfl (by simp [x_cr, x_c1, x_c2]) dX1_beat_2) (fun v_2 X_2 p_2 => ?_)
  obtain ⟨rfl, ⟨hke, hre, hfe, hoe⟩, hsz, hch⟩ := p_2
  have hvY := hke.v hI hlo
  have hloY := hke.low hlo
  refine x_new B xc_14 q1106 q1107 q138 (xd_14 E) xe_14 (by decide) (by decide) dX1_beat_5 (fun z_5 n_5 => ?_)
  have hr : x_raw (.inl (14, 0)) := Or.inl ⟨_, rfl⟩
  have h0 := x_ku_le (kd := .inl (14, 0)) n_5 _ _ h0
  have hT := hT.ku n_5 hr
  have hk1 := hke.nw (x_df 14) hlo0
  have hv1 := hk1.v hI hlo
  have hI1 := ((hv1.C hC).ku n_5 hr).1
  have e1 : x_nw X_2 (x_df 14) 1 2 = X 1 2 := congrFun (hv1.1 1 (by omega) (by omega)) 2
  have hm1 : (x_ku κ (X_2 (-1) 0) (.inl (14, 0))) 3 = some (.inl (2, 1)) := hT.1 0 0 h0 2 (0, 3, .inl (2, 1)) rfl
  refine x_dup B dX1_beat_8 (by first | rfl | exact x_cr _ _) ?_
  refine x_aload_n B dX1_beat_9 rfl ?_
  refine x_getC0 B (k := 15) hT rfl rfl xc_0 (by decide) h0 (Or.inl q416) (fun _ h => h) dX1_beat_10 (fun k_10 => ?_)
  refine x_iload_n B dX1_beat_13 rfl ?_
  refine x_aaldC B (t := 14) hT k_10 rfl rfl rfl rfl ⟨by omega, by omega⟩ dX1_beat_14 (fun k_14 => ?_)
  refine x_aload_n B dX1_beat_15 rfl ?_
  refine x_getC0 B (k := 2) hT rfl rfl xc_0 (by decide) h0 (Or.inl q400) (fun _ h => h) dX1_beat_16 (fun k_16 => ?_)
  refine x_iload_n B dX1_beat_19 rfl ?_
  refine x_iconst B dX1_beat_20 ?_
  refine x_iconst B dX1_beat_21 ?_
  refine x_iload_n B dX1_beat_22 rfl ?_
  refine x_iconst B dX1_beat_23 ?_
  refine x_iconst B dX1_beat_24 ?_
  refine x_goP (x_rV B k_16 (show x_cl[2]? = some _ from rfl) (c_X2_isAhead_2 hI1 hm1 ⟨by omega, by omega⟩ ⟨by omega, by omega⟩ ⟨by omega, by omega⟩ ⟨by omega, by omega⟩ ⟨by omega, by omega⟩ ⟨by omega, by omega⟩) (lw_V q942 q927 q928 q114 q929) hv_X2_isAhead_2 ⟨by decide, by decide⟩ ⟨by decide, by decide⟩ rfl rfl (by simp [x_cr, x_c1, x_c2]) dX1_beat_25) ?_
  refine x_goV (x_rIN B (by omega) (c_X16_init (by omega) (x_ku_s _ _ _) (by rw [show c_li (x_nw X_2 (x_df 14)) = c_li X from hv1.li]; exact m_li_r _ _ _ _)) q1108 q1109 q138 q1110 rfl hd_X16_init ⟨by decide, by decide⟩ ⟨by decide, by decide⟩ rfl rfl (by simp [x_cr, x_c1, x_c2]) dX1_beat_28) ?_
  refine x_aretK B (Or.inl ⟨_, rfl⟩) ?_ dX1_beat_31
  have ea : X_2 (-1) 0 = X (-1) 0 + 122 := hsz
  have hml : m_ah (c_li (x_nw X_2 (x_df 14)) i j) 1 0 1 0 = c_li X i j := by unfold m_ah; rw [if_pos rfl, if_pos rfl, hv1.li]
  rw [hml]
  refine ⟨by rw [ea], by rw [ea], by rw [← ea]; exact n_5, (hk1.up (by omega) hlo0).up (by omega) hlo0, ((hre.nw _ hloY.1).up (by omega)).up (by omega), ((hfe.nw _ hloY.1).up (by omega)).up (by omega), fun a a1 a2 a3 => ?_, ?_, ?_, ?_, fun w w1 w2 => ?_⟩
  · rw [x_up2_o (by omega), x_nw_o (by omega)]; exact hoe a a1 a2 a3
  · rw [x_up2_o (by omega), x_nw_z]; omega
  · rw [← ea, x_up_n _ (Or.inr (by omega)), x_up_s]
  · rw [← ea, x_up_s]
  · rw [x_up2_o (by omega), x_nw_o (by omega)]; exact hch w w1 w2
