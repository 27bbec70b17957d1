theorem c_X8_draw {l : Launch} {E : x_E} {κ : x_Ka} {X : x_X} {o : Int} (hT : x_T κ) (h8 : κ 64 = some (.inl (7, 1))) (ho : o = 1000) : x_De l yX8_draw cX8_draw 2 (some .int) 0 E κ X [x_rf E 64, vi o] (vi (d_rl (d_nx (X 64 39)))) (x_up X 64 39 (d_nx (X 64 39))) := by
  refine x_Met.of [(false, x_rf E 64), (false, vi o)] [some (x_rf E 64), some (vi o)] 0 (by decide) rfl rfl ⟨x_cr E (64), rfl, trivial⟩ rfl rfl ?_
  intro p e s m args below meth c hargs hin B
  subst ho
  refine x_aload_n B dX8_draw_0 rfl ?_
  refine x_aload_n B dX8_draw_1 rfl ?_
  refine x_getI B (k := 39) 39 rfl rfl xc_7 (by decide) h8 (Or.inl q1374) (fun _ h => h) dX8_draw_2 (fun r_2 => ?_)
  refine x_ldcw B (1103515245) q1907 (by decide) dX8_draw_5 ?_
  refine x_imul B dX8_draw_8 ?_
  refine x_sipush B dX8_draw_9 (by decide) ?_
  refine x_iadd B dX8_draw_12 ?_
  rw [d_nx_v]
  refine x_putI B (k := 39) 39 rfl rfl rfl (d_nx_R _) xc_7 (by decide) rfl nn_7_39 (fun _ => rfl) h8 (Or.inl q1374) (fun _ h => h) dX8_draw_13 ?_
  refine x_aload_n B dX8_draw_16 rfl ?_
  refine x_getI B (k := 39) 39 rfl rfl xc_7 (by decide) h8 (Or.inl q1374) (fun _ h => h) dX8_draw_17 (fun r_17 => ?_)
  rw [x_up_s] at r_17 ⊢
  refine x_bipush B dX8_draw_20 (by decide) ?_
  refine x_iushr B dX8_draw_22 ?_
  refine x_iload_n B dX8_draw_23 rfl ?_
  refine x_irem B dX8_draw_24 (i_ushr_R _ _) ⟨by omega, by omega⟩ ?_
  have e24 : (i_ushr (d_nx (X 64 39)) 16).tmod 1000 = d_rl (d_nx (X 64 39)) := rfl
  rw [e24]
  refine x_iret B (fun _ _ h => h) ?_ dX8_draw_25
  exact ⟨rfl, rfl⟩
/-- the goods are counted -/
def t_gd (X : x_X) : Prop := X 64 14 = g_sm (fun k => t_G X k 3) (X 64 13).toNat ∧ ∀ k, 0 ≤ k → k < X 64 13 → 0 ≤ t_G X k 3 ∧ t_G X k 3 ≤ 1
theorem t_gd_r {X : x_X} (h : t_gd X) (h0 : 0 ≤ X 64 13) : 0 ≤ X 64 14 ∧ X 64 14 ≤ X 64 13 := by
  have := g_sm_b (f := fun k => t_G X k 3) (X 64 13).toNat (fun k k1 k2 => h.2 k k1 (by omega))
  rw [h.1]
  omega
theorem y_log_sm {G : x_X} {c l t x g : Int} (hc : 0 ≤ c) : g_sm (fun k => y_log G c l t x g k 3) (c + 1).toNat = g_sm (fun k => G k 3) c.toNat + g := by
  rw [g_sm_s _ hc, g_sm_c (g := fun k => G k 3) c.toNat (fun k k1 k2 => by unfold y_log; rw [if_neg (by omega)])]
  congr 1
  unfold y_log
  rw [if_pos rfl]
  simp
/-- the run by draws, of the twin's views -/
def q_ru8 (X : x_X) (d : Int) (M : x_X) (c : Int) (G : x_X) : Int × x_X × Int × x_X := y_run (X 64 3) (t_lot X) (t_p3 X) (t_O X) 60 d M c G
def p_f8 (X Y : x_X) : Prop := (∀ b, b ≠ 72 → b ≠ 74 → b ≠ 64 → Y b = X b) ∧ (∀ i, i ≠ 13 → i ≠ 14 → i ≠ 16 → i ≠ 39 → Y 64 i = X 64 i)
theorem p_f8.rf (X : x_X) : p_f8 X X := ⟨fun _ _ _ _ => rfl, fun _ _ _ _ _ => rfl⟩
theorem p_f8.trans {X Y Z : x_X} (h : p_f8 X Y) (h2 : p_f8 Y Z) : p_f8 X Z := ⟨fun b b1 b2 b3 => (h2.1 b b1 b2 b3).trans (h.1 b b1 b2 b3), fun i i1 i2 i3 i4 => (h2.2 i i1 i2 i3 i4).trans (h.2 i i1 i2 i3 i4)⟩
theorem p_f8.v {X Y : x_X} (h : p_f8 X Y) : Y 64 3 = X 64 3 ∧ t_lot Y = t_lot X ∧ t_li Y = t_li X ∧ t_p3 Y = t_p3 X ∧ t_O Y = t_O X := by
  have e3 : Y 64 3 = X 64 3 := h.2 3 (by omega) (by omega) (by omega) (by omega)
  have el := t_lot_e e3 (h.1 67 (by omega) (by omega) (by omega))
  refine ⟨e3, el, ?_, t_p3_e e3 (h.1 71 (by omega) (by omega) (by omega)), t_O_e e3 (h.2 10 (by omega) (by omega) (by omega) (by omega)) (h.1 68 (by omega) (by omega) (by omega)) (h.1 69 (by omega) (by omega) (by omega)) (h.1 70 (by omega) (by omega) (by omega))⟩
  unfold t_li; rw [el, t_body_e e3 (h.1 66 (by omega) (by omega) (by omega))]
theorem p_f8.C {κ : x_Ka} {X Y : x_X} (h : p_f8 X Y) (hC : t_C κ X) (hW : m_W (X 64 3) (t_M Y)) (hL : t_La Y) : t_C κ Y := by
  obtain ⟨hK, hP, hO, -, -⟩ := hC
  obtain ⟨e3, -, -, ep, -⟩ := h.v
  refine ⟨?_, ?_, ?_, by rw [e3]; exact hW, hL⟩
  · unfold t_K at *; rw [e3]; exact hK
  · unfold t_P at *; rw [e3, ep]; exact hP
  · unfold t_Ow at *; rw [e3, h.2 10 (by omega) (by omega) (by omega) (by omega), h.1 68 (by omega) (by omega) (by omega), h.1 69 (by omega) (by omega) (by omega), h.1 70 (by omega) (by omega) (by omega)]; exact hO
theorem p_f8.d {X : x_X} {z : Int} : p_f8 X (x_up X 64 39 z) := ⟨fun b b1 b2 b3 => x_up_o _ b3, fun i i1 i2 i3 i4 => x_up_n _ (Or.inr i4)⟩
theorem c_X8_playsOn {l : Launch} {E : x_E} {κ : x_Ka} {X : x_X}  (hC : t_C κ X) (h13 : 0 ≤ X 64 13 ∧ X 64 13 ≤ m_T (X 64 3) (t_M X) ∧ X 64 13 ≤ 54) (hgd : t_gd X) : x_Met l yX8_playsOn cX8_playsOn 3 (some .int) 6 0 0 E κ X [x_rf E 64] κ (fun v_ Y_ => v_ = some (vi ((q_ru8 X (X 64 39) (t_M X) (X 64 13) (t_G X)).2.2.1 - X 64 13)) ∧ p_f8 X Y_ ∧ t_M Y_ = (q_ru8 X (X 64 39) (t_M X) (X 64 13) (t_G X)).2.1 ∧ (m_W (X 64 3) (t_M Y_) ∧ t_La Y_) ∧ Y_ 64 13 = (q_ru8 X (X 64 39) (t_M X) (X 64 13) (t_G X)).2.2.1 ∧ t_G Y_ = (q_ru8 X (X 64 39) (t_M X) (X 64 13) (t_G X)).2.2.2 ∧ Y_ 64 39 = (q_ru8 X (X 64 39) (t_M X) (X 64 13) (t_G X)).1 ∧ t_gd Y_ ∧ (∀ k, k < 4 * X 64 13 → Y_ 74 k = X 74 k) ∧ (X 64 13 ≤ Y_ 64 13 ∧ Y_ 64 13 ≤ 54)) := by
  refine x_Met.of [(false, x_rf E 64)] [some (x_rf E 64), none, none] 2 (by decide) rfl rfl ⟨x_cr E (64), trivial⟩ rfl rfl ?_
  intro p e s m args below meth c hargs hin B
  obtain ⟨hK, hP, hO, hW, hLa⟩ := id hC
  obtain ⟨hT, h8, hn⟩ := id hK
  refine x_rgA (show κ 72 = some (.inr (0, 63)) from hT.1 64 7 h8 11 (0, 72, .inr (0, 63)) rfl) (fun _ => ?_)
  have lp_52 : ∀ (n : Nat) (g : Int) (Y : x_X) (f : Nat) (l0 n0 : Int), ((0 ≤ g ∧ g ≤ 1) ∧ n0 = Y 64 13 - X 64 13 ∧ g = y_g (X 64 3) (t_lot X) (t_O X) (Y 64 39) (t_M Y) ∧ l0 ≠ -1 ∧ (p_f8 X Y ∧ (m_W (X 64 3) (t_M Y) ∧ t_La Y) ∧ (X 64 13 ≤ Y 64 13 ∧ Y 64 13 ≤ m_T (X 64 3) (t_M Y)) ∧ t_gd Y ∧ (∀ k, k < 4 * X 64 13 → Y 74 k = X 74 k) ∧ (60 - Y 64 13 ≤ f) ∧ l0 = m_cal (X 64 3) (t_lot X) (t_M Y) ∧ (q_ru8 X (X 64 39) (t_M X) (X 64 13) (t_G X)) = y_run (X 64 3) (t_lot X) (t_p3 X) (t_O X) f (Y 64 39) (t_M Y) (Y 64 13) (t_G Y)) ∧ (∀ (f2 : Nat) (Y2 : x_X) (l2 : Int), (p_f8 X Y2 ∧ (m_W (X 64 3) (t_M Y2) ∧ t_La Y2) ∧ (X 64 13 ≤ Y2 64 13 ∧ Y2 64 13 ≤ m_T (X 64 3) (t_M Y2)) ∧ t_gd Y2 ∧ (∀ k, k < 4 * X 64 13 → Y2 74 k = X 74 k) ∧ (60 - Y2 64 13 ≤ f2) ∧ Y2 64 13 ≤ 54 ∧ l2 = m_cal (X 64 3) (t_lot X) (t_M Y2) ∧ (q_ru8 X (X 64 39) (t_M X) (X 64 13) (t_G X)) = y_run (X 64 3) (t_lot X) (t_p3 X) (t_O X) f2 (Y2 64 39) (t_M Y2) (Y2 64 13) (t_G Y2)) → Y2 64 13 = Y 64 13 + 1 → x_G p l e (x_rm 6 0 0) s m args below meth c 3 E 0 0 (MQ below (x_Q E κ (fun v_ Y_ => v_ = some (vi ((q_ru8 X (X 64 39) (t_M X) (X 64 13) (t_G X)).2.2.1 - X 64 13)) ∧ p_f8 X Y_ ∧ t_M Y_ = (q_ru8 X (X 64 39) (t_M X) (X 64 13) (t_G X)).2.1 ∧ (m_W (X 64 3) (t_M Y_) ∧ t_La Y_) ∧ Y_ 64 13 = (q_ru8 X (X 64 39) (t_M X) (X 64 13) (t_G X)).2.2.1 ∧ t_G Y_ = (q_ru8 X (X 64 39) (t_M X) (X 64 13) (t_G X)).2.2.2 ∧ Y_ 64 39 = (q_ru8 X (X 64 39) (t_M X) (X 64 13) (t_G X)).1 ∧ t_gd Y_ ∧ (∀ k, k < 4 * X 64 13 → Y_ 74 k = X 74 k) ∧ (X 64 13 ≤ Y_ 64 13 ∧ Y_ 64 13 ≤ 54))) args s 0 0 (fun q => E.1 ≤ q)) κ 7 [some (x_rf E 64), some (vi (Y2 64 13 - X 64 13)), some (vi l2)] [] Y2)) → (0 < n) → x_G p l e (x_rm 6 0 0) s m args below meth c 3 E 0 0 (MQ below (x_Q E κ (fun v_ Y_ => v_ = some (vi ((q_ru8 X (X 64 39) (t_M X) (X 64 13) (t_G X)).2.2.1 - X 64 13)) ∧ p_f8 X Y_ ∧ t_M Y_ = (q_ru8 X (X 64 39) (t_M X) (X 64 13) (t_G X)).2.1 ∧ (m_W (X 64 3) (t_M Y_) ∧ t_La Y_) ∧ Y_ 64 13 = (q_ru8 X (X 64 39) (t_M X) (X 64 13) (t_G X)).2.2.1 ∧ t_G Y_ = (q_ru8 X (X 64 39) (t_M X) (X 64 13) (t_G X)).2.2.2 ∧ Y_ 64 39 = (q_ru8 X (X 64 39) (t_M X) (X 64 13) (t_G X)).1 ∧ t_gd Y_ ∧ (∀ k, k < 4 * X 64 13 → Y_ 74 k = X 74 k) ∧ (X 64 13 ≤ Y_ 64 13 ∧ Y_ 64 13 ≤ 54))) args s 0 0 (fun q => E.1 ≤ q)) κ 52 [some (x_rf E 64), some (vi n0), some (vi l0)] [vi g, vi l0, x_rf E 64] (x_up Y 64 39 (d_nx (Y 64 39))) := by
    intro n
    induction n with
    | zero => intro g Y f l0 n0 hinv hme; exfalso; omega
    | succ n ih =>
      intro g Y f l0 n0 hinv hme
      obtain ⟨hgr, hn0, hgy, hl1, ⟨hp, ⟨hWY, hLY⟩, h13Y, hgY, h74, hfu, hl0, hq⟩, hk7⟩ := hinv
      obtain ⟨y3, yl, yli, yp, yO⟩ := hp.v
      have hcr := m_cb_r (t_lot X) (t_M Y) (X 64 3).toNat
      have hc : m_cal (X 64 3) (t_lot X) (t_M Y) ≠ -1 := by rw [← hl0]; exact hl1
      have hm := m_T_53 (lot := t_lot X) hn hWY hc
      have hpd : p_f8 X (x_up Y 64 39 (d_nx (Y 64 39))) := hp.trans p_f8.d
      have dM : t_M (x_up Y 64 39 (d_nx (Y 64 39))) = t_M Y := t_M_e (x_up_n _ (Or.inr (by omega))) (x_up_o _ (by omega))
      have dG : t_G (x_up Y 64 39 (d_nx (Y 64 39))) = t_G Y := by funext k w; unfold t_G; rw [x_up_n _ (Or.inr (by omega)), x_up_o _ (by omega)]
      have d13 : (x_up Y 64 39 (d_nx (Y 64 39))) 64 13 = Y 64 13 := x_up_n _ (Or.inr (by omega))
      have d14 : (x_up Y 64 39 (d_nx (Y 64 39))) 64 14 = Y 64 14 := x_up_n _ (Or.inr (by omega))
      have d39 : (x_up Y 64 39 (d_nx (Y 64 39))) 64 39 = d_nx (Y 64 39) := x_up_s _ _ _ _
      have d74 : (x_up Y 64 39 (d_nx (Y 64 39))) 74 = Y 74 := x_up_o _ (by omega)
      have dL : t_La (x_up Y 64 39 (d_nx (Y 64 39))) := by intro b b1 b2; rw [x_up_n _ (Or.inr (by omega))] at b2; rw [x_up_o _ (by omega)]; exact hLY b b1 b2
      have CD : t_C κ (x_up Y 64 39 (d_nx (Y 64 39))) := hpd.C hC (by rw [dM]; exact hWY) dL
      obtain ⟨d3, dl, -, dp, dO⟩ := hpd.v
      have hg14 : 0 ≤ Y 64 14 ∧ Y 64 14 ≤ 60 := by have := t_gd_r hgY (by omega); omega
      refine x_go (x_rV B h8 (show x_cl[7]? = some _ from rfl) (c_X8_doesTry CD (by rw [d3, dl, dM]; exact hc) (by rw [d3, dl, dM]; exact hl0.symm) hgr (by rw [d13]; omega) (by rw [d14]; exact hg14)) (lw_V q1636 q1638 qs67 q122 q1639) hv_X8_doesTry ⟨by decide, by decide⟩ ⟨by decide, by decide⟩ rfl rfl (by simp [x_cr, x_c1, x_c2]) dX8_playsOn_52) (fun v_52 X_52 p_52 => ?_)
      obtain ⟨rfl, ho, h64, ⟨y13, y14, -⟩, yG, yM, hL3, h743⟩ := p_52
      rw [d3, dl, dp, dM] at yM
      rw [d3, dl, dM, d13, dG] at yG
      have hp3 : p_f8 X X_52 := hpd.trans ⟨ho, fun i i1 i2 i3 i4 => h64 i i1 i2 i3⟩
      have x39 : X_52 64 39 = d_nx (Y 64 39) := by rw [h64 39 (by omega) (by omega) (by omega), d39]
      have hyw := y_M_W (g := g) (lot := t_lot X) hn.1 hP hWY hgr hc
      have hW3 : m_W (X 64 3) (t_M X_52) := by rw [yM]; exact hyw.1.1
      have hT3 : m_T (X 64 3) (t_M Y) + 1 ≤ m_T (X 64 3) (t_M X_52) := by rw [yM]; exact hyw.1.2
      have hgd3 : t_gd X_52 := by
        unfold t_gd
        rw [y14, y13, d13, d14, yG, hgY.1]
        unfold y_G
        refine ⟨(y_log_sm (by omega)).symm, fun k k1 k2 => ?_⟩
        unfold y_log
        by_cases q : k = Y 64 13
        · rw [if_pos q]; simp; omega
        · rw [if_neg q]; exact hgY.2 k k1 (by omega)
      have C3 := hp3.C hC hW3 hL3
      obtain ⟨x3, xl, -, -, -⟩ := hp3.v
      refine x_iinc_1 B dX8_playsOn_55 (by first | rfl | exact x_cr _ _) ?_
      refine x_aload_n B dX8_playsOn_58 rfl ?_
      refine x_goP (x_rV B h8 (show x_cl[7]? = some _ from rfl) (c_X8_calledNow C3.1 C3.2.2.2.1) (lw_V q1608 q1610 qs63 q122 q1611) hv_X8_calledNow ⟨by decide, by decide⟩ ⟨by decide, by decide⟩ rfl rfl (by simp [x_cr, x_c1, x_c2]) dX8_playsOn_59) ?_
      rw [x3, xl]
      refine x_ist_2 B dX8_playsOn_62 (by first | rfl | exact x_cr _ _) ?_
      refine x_goto B (tgt := 7) dX8_playsOn_63 (by decide) ?_
      have x13 : X_52 64 13 = Y 64 13 + 1 := by rw [y13, d13]
      rw [show n0 + 1 = X_52 64 13 - X 64 13 by omega]
      refine hk7 (f - 1) X_52 _ ⟨hp3, ⟨hW3, hL3⟩, ⟨by omega, by omega⟩, hgd3, fun k hk => by rw [h743 k (by rw [d13]; omega), d74]; exact h74 k hk, by omega, by omega, rfl, ?_⟩ x13
      have hst := y_run_s (n := X 64 3) (lot := t_lot X) (pl := t_p3 X) (O := t_O X) (f := f - 1) (d := Y 64 39) (M := t_M Y) (c := Y 64 13) (G := t_G Y) hc
      rw [show f - 1 + 1 = f by omega, ← hgy] at hst
      rw [hq, hst, x39, yM, x13, yG]
  have lp_7 : ∀ (n : Nat) (f : Nat) (Y : x_X) (l0 : Int), (p_f8 X Y ∧ (m_W (X 64 3) (t_M Y) ∧ t_La Y) ∧ (X 64 13 ≤ Y 64 13 ∧ Y 64 13 ≤ m_T (X 64 3) (t_M Y)) ∧ t_gd Y ∧ (∀ k, k < 4 * X 64 13 → Y 74 k = X 74 k) ∧ (60 - Y 64 13 ≤ f) ∧ Y 64 13 ≤ 54 ∧ l0 = m_cal (X 64 3) (t_lot X) (t_M Y) ∧ (q_ru8 X (X 64 39) (t_M X) (X 64 13) (t_G X)) = y_run (X 64 3) (t_lot X) (t_p3 X) (t_O X) f (Y 64 39) (t_M Y) (Y 64 13) (t_G Y)) → ((60 - Y 64 13).toNat < n) → x_G p l e (x_rm 6 0 0) s m args below meth c 3 E 0 0 (MQ below (x_Q E κ (fun v_ Y_ => v_ = some (vi ((q_ru8 X (X 64 39) (t_M X) (X 64 13) (t_G X)).2.2.1 - X 64 13)) ∧ p_f8 X Y_ ∧ t_M Y_ = (q_ru8 X (X 64 39) (t_M X) (X 64 13) (t_G X)).2.1 ∧ (m_W (X 64 3) (t_M Y_) ∧ t_La Y_) ∧ Y_ 64 13 = (q_ru8 X (X 64 39) (t_M X) (X 64 13) (t_G X)).2.2.1 ∧ t_G Y_ = (q_ru8 X (X 64 39) (t_M X) (X 64 13) (t_G X)).2.2.2 ∧ Y_ 64 39 = (q_ru8 X (X 64 39) (t_M X) (X 64 13) (t_G X)).1 ∧ t_gd Y_ ∧ (∀ k, k < 4 * X 64 13 → Y_ 74 k = X 74 k) ∧ (X 64 13 ≤ Y_ 64 13 ∧ Y_ 64 13 ≤ 54))) args s 0 0 (fun q => E.1 ≤ q)) κ 7 [some (x_rf E 64), some (vi (Y 64 13 - X 64 13)), some (vi l0)] [] Y := by
    intro n
    induction n with
    | zero => intro f Y l0 hinv hme; exfalso; omega
    | succ n ih =>
      intro f Y l0 hinv hme
      obtain ⟨hp, ⟨hWY, hLY⟩, h13Y, hgY, h74, hfu, h54, hl0, hq⟩ := hinv
      obtain ⟨y3, yl, yli, yp, yO⟩ := hp.v
      have hcr := m_cb_r (t_lot X) (t_M Y) (X 64 3).toNat
      have hl0r : -1 ≤ l0 ∧ l0 < X 64 3 := by rw [hl0]; unfold m_cal; omega
      have CY := hp.C hC hWY hLY
      refine x_iload_n B dX8_playsOn_7 rfl ?_
      refine x_iconst B dX8_playsOn_8 ?_
      refine x_icmp_eq B (tgt := 66) dX8_playsOn_9 (by decide) ⟨by omega, by omega⟩ ⟨by omega, by omega⟩ (fun h_9 => ?_) (fun h_9 => ?_)
      · refine x_iload_n B dX8_playsOn_66 rfl ?_
        refine x_iret B (fun _ _ h => h) ?_ dX8_playsOn_67
        have hse := y_run_e (n := X 64 3) (lot := t_lot X) (pl := t_p3 X) (O := t_O X) (f := f) (d := Y 64 39) (M := t_M Y) (c := Y 64 13) (G := t_G Y) (by rw [← hl0]; exact h_9)
        rw [hq, hse]
        exact ⟨rfl, hp, rfl, ⟨hWY, hLY⟩, rfl, rfl, rfl, hgY, h74, h13Y.1, h54⟩
      · have hco := m_cb_ok (t_lot X) (t_M Y) (X 64 3).toNat (by intro q; apply h_9; rw [hl0]; exact q)
        have hco2 : t_M Y l0 3 > 0 ∧ t_M Y l0 6 = 0 := by rw [hl0]; exact hco
        have hr0 : 0 ≤ l0 ∧ l0 < X 64 3 := by omega
        have hr1 : 0 ≤ l0 ∧ l0 < Y 64 3 := by rw [y3]; exact hr0
        have w1 := hWY.1
        have w2 := hWY.2.1 l0 hr0.1 hr0.2
        have w3 := hWY.2.2 l0 hr0.1 hr0.2
        have g1 : t_M Y (-1) 1 = Y 72 0 := t_M_g (by omega)
        have s3 : t_M Y l0 3 = Y 72 (3 + 10 * l0 + 0) := t_M_s hr1 (by decide) (by omega) (by omega)
        have s2 : t_M Y l0 2 = Y 72 (3 + 10 * l0 + 4) := t_M_s hr1 (by decide) (by omega) (by omega)
        have hlt : t_M Y (-1) 1 < 3 := by rcases Int.lt_or_le (t_M Y (-1) 1) 3 with q | q; exact q; exfalso; have := w3.2.1 (by omega); omega
        refine x_aload_n B dX8_playsOn_12 rfl ?_
        refine x_iload_n B dX8_playsOn_13 rfl ?_
        refine x_aload_n B dX8_playsOn_14 rfl ?_
        refine x_sipush B dX8_playsOn_15 (by decide) ?_
        refine x_goP (x_rV B h8 (show x_cl[7]? = some _ from rfl) (c_X8_draw hT h8 rfl) (lw_V q1903 q1905 qs107 q122 q1906) hv_X8_draw ⟨by decide, by decide⟩ ⟨by decide, by decide⟩ rfl rfl (by simp [x_cr, x_c1, x_c2]) dX8_playsOn_18) ?_
        have hpd : p_f8 X (x_up Y 64 39 (d_nx (Y 64 39))) := hp.trans p_f8.d
        have dM : t_M (x_up Y 64 39 (d_nx (Y 64 39))) = t_M Y := t_M_e (x_up_n _ (Or.inr (by omega))) (x_up_o _ (by omega))
        have dL : t_La (x_up Y 64 39 (d_nx (Y 64 39))) := by intro b b1 b2; rw [x_up_n _ (Or.inr (by omega))] at b2; rw [x_up_o _ (by omega)]; exact hLY b b1 b2
        have CD : t_C κ (x_up Y 64 39 (d_nx (Y 64 39))) := hpd.C hC (by rw [dM]; exact hWY) dL
        obtain ⟨d3, dl, -, dp, dO⟩ := hpd.v
        refine x_aload_n B dX8_playsOn_21 rfl ?_
        refine x_iload_n B dX8_playsOn_22 rfl ?_
        refine x_aload_n B dX8_playsOn_23 rfl ?_
        refine x_getC0 B (k := 11) hT rfl rfl xc_7 (by decide) h8 (Or.inl q1346) (fun _ h => h) dX8_playsOn_24 (fun k_24 => ?_)
        refine x_iconst B dX8_playsOn_27 ?_
        refine x_iald B k_24 ⟨by omega, by omega⟩ dX8_playsOn_28 (fun r_28 => ?_)
        rw [x_up_o _ (by omega), ← g1] at r_28 ⊢
        refine x_aload_n B dX8_playsOn_29 rfl ?_
        refine x_iload_n B dX8_playsOn_30 rfl ?_
        refine x_iconst B dX8_playsOn_31 ?_
        refine x_goP (x_rV B h8 (show x_cl[7]? = some _ from rfl) (c_X8_of hT h8 ⟨by omega, by omega⟩) (lw_V q1525 q1527 qs52 q122 q1528) hv_X8_of ⟨by decide, by decide⟩ ⟨by decide, by decide⟩ rfl rfl (by simp [x_cr, x_c1, x_c2]) dX8_playsOn_32) ?_
        rw [x_up_o _ (by omega), ← s3]
        refine x_aload_n B dX8_playsOn_35 rfl ?_
        refine x_iload_n B dX8_playsOn_36 rfl ?_
        refine x_iconst B dX8_playsOn_37 ?_
        refine x_goP (x_rV B h8 (show x_cl[7]? = some _ from rfl) (c_X8_of hT h8 ⟨by omega, by omega⟩) (lw_V q1525 q1527 qs52 q122 q1528) hv_X8_of ⟨by decide, by decide⟩ ⟨by decide, by decide⟩ rfl rfl (by simp [x_cr, x_c1, x_c2]) dX8_playsOn_38) ?_
        rw [x_up_o _ (by omega), ← s2]
        refine x_goP (x_rV B h8 (show x_cl[7]? = some _ from rfl) (c_X8_oddsOf CD.1 CD.2.2.1 (by rw [d3]; exact hr0) ⟨by omega, by omega⟩ ⟨by omega, by omega⟩ ⟨by omega, by omega⟩) (lw_V q1576 q1578 qs58 q122 q1579) hv_X8_oddsOf ⟨by decide, by decide⟩ ⟨by decide, by decide⟩ rfl rfl (by simp [x_cr, x_c1, x_c2]) dX8_playsOn_41) ?_
        rw [dO]
        have hOr := t_O_r (κ := κ) (x := t_M Y l0 3) (f := t_M Y l0 2) (t := t_M Y (-1) 1) hO hr0 ⟨by omega, hlt⟩ (by omega)
        have hdr := d_rl_r (d_nx (Y 64 39))
        refine x_icmp_ge B (tgt := 51) dX8_playsOn_44 (by decide) ⟨by omega, by omega⟩ ⟨by omega, by omega⟩ (fun h_44 => ?_) (fun h_44 => ?_)
        · have hg0 : 0 = y_g (X 64 3) (t_lot X) (t_O X) (Y 64 39) (t_M Y) := by unfold y_g; rw [← hl0, if_neg (by omega)]
          refine x_iconst B dX8_playsOn_51 ?_
          have hm := m_T_53 (lot := t_lot X) hn hWY (by rw [← hl0]; exact h_9)
          first
          | exact lp_52 _ 1 Y f l0 _ ⟨⟨by decide, by decide⟩, rfl, hg1, h_9, ⟨hp, ⟨hWY, hLY⟩, h13Y, hgY, h74, hfu, hl0, hq⟩, fun f2 Y2 l2 hi2 he2 => ih f2 Y2 l2 hi2 (by omega)⟩ (Nat.lt_succ_self _)
          | exact lp_52 _ 0 Y f l0 _ ⟨⟨by decide, by decide⟩, rfl, hg0, h_9, ⟨hp, ⟨hWY, hLY⟩, h13Y, hgY, h74, hfu, hl0, hq⟩, fun f2 Y2 l2 hi2 he2 => ih f2 Y2 l2 hi2 (by omega)⟩ (Nat.lt_succ_self _)
        · have hg1 : 1 = y_g (X 64 3) (t_lot X) (t_O X) (Y 64 39) (t_M Y) := by unfold y_g; rw [← hl0, if_pos (by omega)]
          refine x_iconst B dX8_playsOn_47 ?_
          refine x_goto B (tgt := 52) dX8_playsOn_48 (by decide) ?_
          have hm := m_T_53 (lot := t_lot X) hn hWY (by rw [← hl0]; exact h_9)
          first
          | exact lp_52 _ 1 Y f l0 _ ⟨⟨by decide, by decide⟩, rfl, hg1, h_9, ⟨hp, ⟨hWY, hLY⟩, h13Y, hgY, h74, hfu, hl0, hq⟩, fun f2 Y2 l2 hi2 he2 => ih f2 Y2 l2 hi2 (by omega)⟩ (Nat.lt_succ_self _)
          | exact lp_52 _ 0 Y f l0 _ ⟨⟨by decide, by decide⟩, rfl, hg0, h_9, ⟨hp, ⟨hWY, hLY⟩, h13Y, hgY, h74, hfu, hl0, hq⟩, fun f2 Y2 l2 hi2 he2 => ih f2 Y2 l2 hi2 (by omega)⟩ (Nat.lt_succ_self _)
  refine x_iconst B dX8_playsOn_0 ?_
  refine x_ist_1 B dX8_playsOn_1 (by first | rfl | exact x_cr _ _) ?_
  refine x_aload_n B dX8_playsOn_2 rfl ?_
  refine x_goP (x_rV B h8 (show x_cl[7]? = some _ from rfl) (c_X8_calledNow hK hW) (lw_V q1608 q1610 qs63 q122 q1611) hv_X8_calledNow ⟨by decide, by decide⟩ ⟨by decide, by decide⟩ rfl rfl (by simp [x_cr, x_c1, x_c2]) dX8_playsOn_3) ?_
  refine x_ist_2 B dX8_playsOn_6 (by first | rfl | exact x_cr _ _) ?_
  rw [show (0 : Int) = X 64 13 - X 64 13 by omega]
  exact lp_7 _ 60 X _ ⟨p_f8.rf X, ⟨hW, hLa⟩, ⟨by omega, by omega⟩, hgd, fun _ _ => rfl, by omega, by omega, rfl, rfl⟩ (Nat.lt_succ_self _)
