theorem t_gd.e {X Y : x_X} (h : t_gd X) (h1 : Y 64 14 = X 64 14) (h2 : Y 64 13 = X 64 13) (h3 : t_G Y = t_G X) : t_gd Y := by unfold t_gd at *; rw [h1, h2, h3]; exact h
theorem c_X8_plays {l : Launch} {E : x_E} {κ : x_Ka} {X : x_X} {sd : Int} (hC : t_C κ X) (h13 : 0 ≤ X 64 13 ∧ X 64 13 ≤ m_T (X 64 3) (t_M X) ∧ X 64 13 ≤ 54) (hgd : t_gd X) (hs : xR sd) : x_Met l yX8_plays cX8_plays 3 (some .int) 7 0 0 E κ X [x_rf E 64, vi sd] κ (fun v_ Y_ => if (m_cal (X 64 3) (t_lot X) (t_M X)) = -1 then (v_ = some (vi (-2)) ∧ Y_ = (x_up X 64 0 0)) else (v_ = some (vi ((q_ru8 X sd (t_M X) (X 64 13) (t_G X)).2.2.1 - X 64 13)) ∧ (∀ b, b ≠ 72 → b ≠ 74 → b ≠ 64 → b ≠ 65 → Y_ b = X b) ∧ (∀ i, i ≠ 0 → i ≠ 1 → i ≠ 13 → i ≠ 14 → i ≠ 16 → i ≠ 39 → Y_ 64 i = X 64 i) ∧ t_M Y_ = (q_ru8 X sd (t_M X) (X 64 13) (t_G X)).2.1 ∧ (m_W (X 64 3) (t_M Y_) ∧ t_La Y_) ∧ Y_ 64 13 = (q_ru8 X sd (t_M X) (X 64 13) (t_G X)).2.2.1 ∧ t_G Y_ = (q_ru8 X sd (t_M X) (X 64 13) (t_G X)).2.2.2 ∧ t_gd Y_ ∧ (X 64 13 ≤ Y_ 64 13 ∧ Y_ 64 13 ≤ 54) ∧ (Y_ 64 1 = (w_out (fun k l => decide (m_cnt (t_li X) (q_ru8 X sd (t_M X) (X 64 13) (t_G X)).2.1 l (X 64 3).toNat = k)) (X 64 3).toNat (X 64 3).toNat).1 ∧ ∀ j, 0 ≤ j → j < (w_out (fun k l => decide (m_cnt (t_li X) (q_ru8 X sd (t_M X) (X 64 13) (t_G X)).2.1 l (X 64 3).toNat = k)) (X 64 3).toNat (X 64 3).toNat).1 → Y_ 65 j = (w_out (fun k l => decide (m_cnt (t_li X) (q_ru8 X sd (t_M X) (X 64 13) (t_G X)).2.1 l (X 64 3).toNat = k)) (X 64 3).toNat (X 64 3).toNat).2 j))) := by
  refine x_Met.of [(false, x_rf E 64), (false, vi sd)] [some (x_rf E 64), some (vi sd), none] 1 (by decide) rfl rfl ⟨x_cr E (64), rfl, trivial⟩ rfl rfl ?_
  intro p e s m args below meth c hargs hin B
  obtain ⟨hK, hP, hO, hW, hLa⟩ := id hC
  obtain ⟨hT, h8, hn⟩ := id hK
  have hn0 := (t_nt.rf X).z (i := 0) (Or.inl rfl) 0
  have C0 := hn0.C hC
  obtain ⟨e3, eM, el, eli, ep, eO, eG⟩ := hn0.v
  have ebo : t_body (x_up X 64 0 0) = t_body X := t_body_e e3 (x_up_o _ (by omega))
  have x0o : ∀ b, b ≠ 64 → x_up X 64 0 0 b = X b := fun b hb => x_up_o _ hb
  have x0i : ∀ i, i ≠ 0 → x_up X 64 0 0 64 i = X 64 i := fun i hi => x_up_n _ (Or.inr hi)
  obtain ⟨hK0, hP0, hO0, hW0, hL0⟩ := id C0
  have hcr := m_cb_r (t_lot X) (t_M X) (X 64 3).toNat
  have hcr2 : -1 ≤ (m_cal (X 64 3) (t_lot X) (t_M X)) ∧ (m_cal (X 64 3) (t_lot X) (t_M X)) < X 64 3 := by unfold m_cal; omega
  have sp : p_f8 (x_up X 64 0 0) (x_up (x_up X 64 0 0) 64 39 sd) := p_f8.d
  obtain ⟨s3, sl, sli, spl, sO⟩ := sp.v
  have sM : t_M (x_up (x_up X 64 0 0) 64 39 sd) = t_M X := by rw [t_M_e (X := (x_up X 64 0 0)) (x_up_n _ (Or.inr (by omega))) (x_up_o _ (by omega)), eM]
  have s13 : (x_up (x_up X 64 0 0) 64 39 sd) 64 13 = X 64 13 := by rw [x_up_n _ (Or.inr (by omega)), x0i 13 (by omega)]
  have s14 : (x_up (x_up X 64 0 0) 64 39 sd) 64 14 = X 64 14 := by rw [x_up_n _ (Or.inr (by omega)), x0i 14 (by omega)]
  have sG : t_G (x_up (x_up X 64 0 0) 64 39 sd) = t_G X := by funext k w; unfold t_G; rw [s13, x_up_o _ (by omega), x_up_o _ (by omega)]
  have s39 : (x_up (x_up X 64 0 0) 64 39 sd) 64 39 = sd := x_up_s _ _ _ _
  have CS : t_C κ (x_up (x_up X 64 0 0) 64 39 sd) := sp.C C0 (by rw [e3, sM]; exact hW) (by intro b b1 b2; rw [s3] at b2; rw [x_up_o _ (by omega)]; exact hL0 b b1 b2)
  have sgd : t_gd (x_up (x_up X 64 0 0) 64 39 sd) := hgd.e s14 s13 sG
  have sq : q_ru8 (x_up (x_up X 64 0 0) 64 39 sd) ((x_up (x_up X 64 0 0) 64 39 sd) 64 39) (t_M (x_up (x_up X 64 0 0) 64 39 sd)) ((x_up (x_up X 64 0 0) 64 39 sd) 64 13) (t_G (x_up (x_up X 64 0 0) 64 39 sd)) = (q_ru8 X sd (t_M X) (X 64 13) (t_G X)) := by unfold q_ru8; rw [s39, sM, s13, sG, s3, sl, spl, sO, e3, el, ep, eO]
  have hs74 : ∀ b, b ≠ 64 → (x_up (x_up X 64 0 0) 64 39 sd) b = X b := fun b hb => by rw [x_up_o _ hb, x0o b hb]
  have hs64 : ∀ i, i ≠ 0 → i ≠ 39 → (x_up (x_up X 64 0 0) 64 39 sd) 64 i = X 64 i := fun i i1 i2 => by rw [x_up_n _ (Or.inr i2), x0i i i1]
  have sn : (x_up (x_up X 64 0 0) 64 39 sd) 64 3 = X 64 3 := by rw [s3, e3]
  have sli2 : t_li (x_up (x_up X 64 0 0) 64 39 sd) = t_li X := by rw [sli, eli]
  refine x_aload_n B dX8_plays_0 rfl ?_
  refine x_iconst B dX8_plays_1 ?_
  refine x_putI B (k := 0) 0 rfl rfl rfl ⟨by omega, by omega⟩ xc_7 (by decide) rfl nn_7_0 (fun _ => rfl) h8 (Or.inl q1335) (fun _ h => h) dX8_plays_2 ?_
  refine x_aload_n B dX8_plays_5 rfl ?_
  refine x_goP (x_rV B h8 (show x_cl[7]? = some _ from rfl) (c_X8_calledNow hK0 hW0) (lw_V q1608 q1610 qs63 q122 q1611) hv_X8_calledNow ⟨by decide, by decide⟩ ⟨by decide, by decide⟩ rfl rfl (by simp [x_cr, x_c1, x_c2]) dX8_plays_6) ?_
  rw [e3, el, eM]
  refine x_iconst B dX8_plays_9 ?_
  refine x_icmp_ne B (tgt := 16) dX8_plays_10 (by decide) ⟨by omega, by omega⟩ ⟨by omega, by omega⟩ (fun h_10 => ?_) (fun h_10 => ?_)
  · refine x_aload_n B dX8_plays_16 rfl ?_
    refine x_iload_n B dX8_plays_17 rfl ?_
    refine x_putI B (k := 39) 39 rfl rfl rfl ⟨by omega, by omega⟩ xc_7 (by decide) rfl nn_7_39 (fun _ => rfl) h8 (Or.inl q1374) (fun _ h => h) dX8_plays_18 ?_
    generalize (x_up (x_up X 64 0 0) 64 39 sd) = S at *
    refine x_aload_n B dX8_plays_21 rfl ?_
    refine x_go (x_rV B h8 (show x_cl[7]? = some _ from rfl) (c_X8_playsOn CS (by rw [s13, sn, sM]; exact h13) sgd) (lw_V q1899 q1901 qs106 q122 q1902) hv_X8_playsOn ⟨by decide, by decide⟩ ⟨by decide, by decide⟩ rfl rfl (by simp [x_cr, x_c1, x_c2]) dX8_plays_22) (fun v_22 X_22 p_22 => ?_)
    obtain ⟨rfl, hp, hM, ⟨hW2, hL2⟩, h132, hG2, -, hgd2, -, hle⟩ := p_22
    rw [sq] at hM h132 hG2 ⊢
    obtain ⟨y3, -, yli, -, -⟩ := hp.v
    have CY := hp.C CS hW2 hL2
    refine x_ist_2 B dX8_plays_25 (by first | rfl | exact x_cr _ _) ?_
    refine x_aload_n B dX8_plays_26 rfl ?_
    refine x_go (x_rV B h8 (show x_cl[7]? = some _ from rfl) (c_X8_entersPlaces CY) (lw_V q1661 q1663 qs71 q122 q1664) hv_X8_entersPlaces ⟨by decide, by decide⟩ ⟨by decide, by decide⟩ rfl rfl (by simp [x_cr, x_c1, x_c2]) dX8_plays_27) (fun v_27 X_27 p_27 => ?_)
    obtain ⟨rfl, hy, hto⟩ := p_27
    rw [y3, sn, yli, sli2, hM] at hto
    obtain ⟨z3, zM, -, -, -, -, zG⟩ := hy.v
    refine x_iload_n B dX8_plays_30 rfl ?_
    refine x_iret B (fun _ _ h => h) ?_ dX8_plays_31
    rw [if_neg h_10]
    have e13 : X_27 64 13 = X_22 64 13 := hy.2 13 (by omega) (by omega)
    have e14 : X_27 64 14 = X_22 64 14 := hy.2 14 (by omega) (by omega)
    rw [s13]
    refine ⟨rfl, fun b b1 b2 b3 b4 => (hy.1 b b3 b4).trans ((hp.1 b b1 b2 b3).trans (hs74 b b3)), fun i i0 i1 i2 i3 i4 i5 => (hy.2 i i0 i1).trans ((hp.2 i i2 i3 i4 i5).trans (hs64 i i0 i5)), by rw [zM, hM], ⟨by rw [zM, ← sn]; exact hW2, ?_⟩, by rw [e13, h132], by rw [zG, hG2], hgd2.e e14 e13 zG, by rw [e13, ← s13]; exact hle, hto⟩
    intro b b1 b2; rw [z3] at b2; rw [hy.1 72 (by omega) (by omega)]; exact hL2 b b1 b2
  · refine x_bipush B dX8_plays_13 (by decide) ?_
    refine x_iret B (fun _ _ h => h) ?_ dX8_plays_15
    rw [if_pos (by omega)]; exact ⟨rfl, rfl⟩
theorem t_M_r {X Y : x_X} (h3 : Y 64 3 = X 64 3) (hn : X 64 3 ≤ 6) (h : ∀ k, 0 ≤ k → k < 63 → Y 72 k = X 72 k) : t_M Y = t_M X := by
  funext l f
  have hr := ti_r f
  unfold t_M
  rw [h3]
  by_cases e : l = -1
  · rw [if_pos e, if_pos e]
    by_cases q : 1 ≤ f ∧ f ≤ 3
    · rw [if_pos q, if_pos q, h _ (by omega) (by omega)]
    · rw [if_neg q, if_neg q]
  · rw [if_neg e, if_neg e]
    by_cases q : 0 ≤ l ∧ l < X 64 3
    · rw [if_pos q, if_pos q, h (3 + 10 * l + 2) (by omega) (by omega), h (3 + 10 * l + 3) (by omega) (by omega)]
      by_cases q4 : f = 4
      · rw [if_pos q4, if_pos q4]
      · rw [if_neg q4, if_neg q4]
        by_cases q0 : 0 ≤ ti f
        · rw [if_pos q0, if_pos q0, h _ (by omega) (by omega)]
        · rw [if_neg q0, if_neg q0]
    · rw [if_neg q, if_neg q]
/-- between two meets drawn: all stands as it did, but scratch -/
def o_I (X Y : x_X) : Prop := (∀ b, b ≠ 72 → b ≠ 73 → b ≠ 74 → b ≠ 64 → Y b = X b) ∧ (∀ k, 0 ≤ k → k < 63 → Y 72 k = X 72 k ∧ Y 73 k = X 72 k) ∧ (∀ i, i ≠ 0 → i ≠ 16 → i ≠ 39 → Y 64 i = X 64 i) ∧ ∀ k, k < 4 * X 64 13 → Y 74 k = X 74 k
theorem o_I.v {X Y : x_X} (h : o_I X Y) (hn : X 64 3 ≤ 6) : Y 64 3 = X 64 3 ∧ t_lot Y = t_lot X ∧ t_li Y = t_li X ∧ t_p3 Y = t_p3 X ∧ t_O Y = t_O X ∧ t_M Y = t_M X ∧ t_G Y = t_G X := by
  have e3 : Y 64 3 = X 64 3 := h.2.2.1 3 (by omega) (by omega) (by omega)
  have el := t_lot_e e3 (h.1 67 (by omega) (by omega) (by omega) (by omega))
  refine ⟨e3, el, ?_, t_p3_e e3 (h.1 71 (by omega) (by omega) (by omega) (by omega)), t_O_e e3 (h.2.2.1 10 (by omega) (by omega) (by omega)) (h.1 68 (by omega) (by omega) (by omega) (by omega)) (h.1 69 (by omega) (by omega) (by omega) (by omega)) (h.1 70 (by omega) (by omega) (by omega) (by omega)), t_M_r e3 hn (fun k k1 k2 => (h.2.1 k k1 k2).1), ?_⟩
  · unfold t_li; rw [el, t_body_e e3 (h.1 66 (by omega) (by omega) (by omega) (by omega))]
  · funext k w
    unfold t_G
    rw [h.2.2.1 13 (by omega) (by omega) (by omega)]
    by_cases q : 0 ≤ k ∧ k < X 64 13
    · rw [if_pos q, if_pos q]
      by_cases q2 : 0 ≤ w ∧ w < 4
      · rw [if_pos q2, if_pos q2, h.2.2.2 _ (by omega)]
      · rw [if_neg q2, if_neg q2]
    · rw [if_neg q, if_neg q]
theorem o_I.C {κ : x_Ka} {X Y : x_X} (h : o_I X Y) (hC : t_C κ X) : t_C κ Y := by
  obtain ⟨hK, hP, hO, hW, hL⟩ := hC
  obtain ⟨e3, -, -, ep, -, eM, -⟩ := h.v hK.2.2.2
  refine ⟨?_, ?_, ?_, by rw [e3, eM]; exact hW, ?_⟩
  · unfold t_K at *; rw [e3]; exact hK
  · unfold t_P at *; rw [e3, ep]; exact hP
  · unfold t_Ow at *; rw [e3, h.2.2.1 10 (by omega) (by omega) (by omega), h.1 68 (by omega) (by omega) (by omega) (by omega), h.1 69 (by omega) (by omega) (by omega) (by omega), h.1 70 (by omega) (by omega) (by omega) (by omega)]; exact hO
  · intro b b1 b2
    rw [e3] at b2
    have := hK.2.2.2
    rw [(h.2.1 (3 + 10 * b + 2) (by omega) (by omega)).1, (h.2.1 (3 + 10 * b + 3) (by omega) (by omega)).1]
    exact hL b b1 b2
theorem c_X8_often {l : Launch} {E : x_E} {κ : x_Ka} {X : x_X} {i w sd : Int} (hC : t_C κ X) (h13 : 0 ≤ X 64 13 ∧ X 64 13 ≤ m_T (X 64 3) (t_M X) ∧ X 64 13 ≤ 54) (hgd : t_gd X) (hx : xR i) (hw0 : xR w) (hs : xR sd) : x_Met l yX8_often cX8_often 11 (some .int) 7 0 0 E κ X [x_rf E 64, vi i, vi w, vi sd] κ (fun v_ Y_ => if x_in i 0 (X 64 3 - 1) = 1 ∧ x_in w 1 50 = 1 then (v_ = some (vi (y_oft (fun d => ((q_ru8 X d (t_M X) 0 (fun _ _ => 0)).1, (q_ru8 X d (t_M X) 0 (fun _ _ => 0)).2.1)) (fun M => m_cnt (t_li X) M i (X 64 3).toNat) i w.toNat sd).2.1) ∧ (∀ b, b ≠ 72 → b ≠ 73 → b ≠ 74 → b ≠ 64 → b ≠ 65 → Y_ b = X b) ∧ (∀ k, 0 ≤ k → k < 63 → Y_ 72 k = X 72 k) ∧ (∀ i, i ≠ 0 → i ≠ 1 → i ≠ 16 → i ≠ 39 → Y_ 64 i = X 64 i) ∧ (∀ k, k < 4 * X 64 13 → Y_ 74 k = X 74 k) ∧ Y_ 64 1 = 2 ∧ Y_ 65 0 = (y_oft (fun d => ((q_ru8 X d (t_M X) 0 (fun _ _ => 0)).1, (q_ru8 X d (t_M X) 0 (fun _ _ => 0)).2.1)) (fun M => m_cnt (t_li X) M i (X 64 3).toNat) i w.toNat sd).2.2.1 ∧ Y_ 65 1 = (y_oft (fun d => ((q_ru8 X d (t_M X) 0 (fun _ _ => 0)).1, (q_ru8 X d (t_M X) 0 (fun _ _ => 0)).2.1)) (fun M => m_cnt (t_li X) M i (X 64 3).toNat) i w.toNat sd).2.2.2) else (v_ = some (vi (-1)) ∧ Y_ = (x_up X 64 0 0))) := by
  refine x_Met.of [(false, x_rf E 64), (false, vi i), (false, vi w), (false, vi sd)] [some (x_rf E 64), some (vi i), some (vi w), some (vi sd), none, none, none, none, none, none, none] 7 (by decide) rfl rfl ⟨x_cr E (64), rfl, rfl, rfl, trivial⟩ rfl rfl ?_
  intro p e s m args below meth c hargs hin B
  obtain ⟨hK, hP, hO, hW, hLa⟩ := id hC
  obtain ⟨hT, h8, hn⟩ := id hK
  have z1 := x_in_01 i 0 (X 64 3 - 1)
  have z2 := x_in_01 w 1 50
  have hn0 := (t_nt.rf X).z (i := 0) (Or.inl rfl) 0
  have C0 := hn0.C hC
  obtain ⟨e3, eM, el, eli, ep, eO, eG⟩ := hn0.v
  have ebo : t_body (x_up X 64 0 0) = t_body X := t_body_e e3 (x_up_o _ (by omega))
  have x0o : ∀ b, b ≠ 64 → x_up X 64 0 0 b = X b := fun b hb => x_up_o _ hb
  have x0i : ∀ i, i ≠ 0 → x_up X 64 0 0 64 i = X 64 i := fun i hi => x_up_n _ (Or.inr hi)
  obtain ⟨hK0, hP0, hO0, hW0, hL0⟩ := id C0
  have lp_155 : ∀ (n : Nat) (j : Int) (Z : x_X) (k : Int) (Y : x_X) (n1 n2 n3 : Int), ((0 ≤ j ∧ j ≤ 63) ∧ (∀ b, b ≠ 72 → b ≠ 73 → b ≠ 74 → b ≠ 64 → Z b = X b) ∧ (∀ q, 0 ≤ q → q < 63 → Z 73 q = X 72 q) ∧ (∀ q, 0 ≤ q → q < j → Z 72 q = X 72 q) ∧ (∀ i, i ≠ 0 → i ≠ 13 → i ≠ 14 → i ≠ 16 → i ≠ 39 → Z 64 i = X 64 i) ∧ (∀ q, q < 4 * X 64 13 → Z 74 q = X 74 q) ∧ (∀ (Y2 : x_X), o_I X Y2 → Y2 64 39 = Z 64 39 → x_G p l e (x_rm 7 0 0) s m args below meth c 11 E 0 0 (MQ below (x_Q E κ (fun v_ Y_ => if x_in i 0 (X 64 3 - 1) = 1 ∧ x_in w 1 50 = 1 then (v_ = some (vi (y_oft (fun d => ((q_ru8 X d (t_M X) 0 (fun _ _ => 0)).1, (q_ru8 X d (t_M X) 0 (fun _ _ => 0)).2.1)) (fun M => m_cnt (t_li X) M i (X 64 3).toNat) i w.toNat sd).2.1) ∧ (∀ b, b ≠ 72 → b ≠ 73 → b ≠ 74 → b ≠ 64 → b ≠ 65 → Y_ b = X b) ∧ (∀ k, 0 ≤ k → k < 63 → Y_ 72 k = X 72 k) ∧ (∀ i, i ≠ 0 → i ≠ 1 → i ≠ 16 → i ≠ 39 → Y_ 64 i = X 64 i) ∧ (∀ k, k < 4 * X 64 13 → Y_ 74 k = X 74 k) ∧ Y_ 64 1 = 2 ∧ Y_ 65 0 = (y_oft (fun d => ((q_ru8 X d (t_M X) 0 (fun _ _ => 0)).1, (q_ru8 X d (t_M X) 0 (fun _ _ => 0)).2.1)) (fun M => m_cnt (t_li X) M i (X 64 3).toNat) i w.toNat sd).2.2.1 ∧ Y_ 65 1 = (y_oft (fun d => ((q_ru8 X d (t_M X) 0 (fun _ _ => 0)).1, (q_ru8 X d (t_M X) 0 (fun _ _ => 0)).2.1)) (fun M => m_cnt (t_li X) M i (X 64 3).toNat) i w.toNat sd).2.2.2) else (v_ = some (vi (-1)) ∧ Y_ = (x_up X 64 0 0)))) args s 0 0 (fun q => E.1 ≤ q)) κ 89 [some (x_rf E 64), some (vi i), some (vi w), some (vi sd), some (vi (X 64 13)), some (vi (X 64 14)), some (vi n1), some (vi n2), some (vi n3), some (vi (k + 1)), none] [] Y2)) → ((64 - j).toNat < n) → x_G p l e (x_rm 7 0 0) s m args below meth c 11 E 0 0 (MQ below (x_Q E κ (fun v_ Y_ => if x_in i 0 (X 64 3 - 1) = 1 ∧ x_in w 1 50 = 1 then (v_ = some (vi (y_oft (fun d => ((q_ru8 X d (t_M X) 0 (fun _ _ => 0)).1, (q_ru8 X d (t_M X) 0 (fun _ _ => 0)).2.1)) (fun M => m_cnt (t_li X) M i (X 64 3).toNat) i w.toNat sd).2.1) ∧ (∀ b, b ≠ 72 → b ≠ 73 → b ≠ 74 → b ≠ 64 → b ≠ 65 → Y_ b = X b) ∧ (∀ k, 0 ≤ k → k < 63 → Y_ 72 k = X 72 k) ∧ (∀ i, i ≠ 0 → i ≠ 1 → i ≠ 16 → i ≠ 39 → Y_ 64 i = X 64 i) ∧ (∀ k, k < 4 * X 64 13 → Y_ 74 k = X 74 k) ∧ Y_ 64 1 = 2 ∧ Y_ 65 0 = (y_oft (fun d => ((q_ru8 X d (t_M X) 0 (fun _ _ => 0)).1, (q_ru8 X d (t_M X) 0 (fun _ _ => 0)).2.1)) (fun M => m_cnt (t_li X) M i (X 64 3).toNat) i w.toNat sd).2.2.1 ∧ Y_ 65 1 = (y_oft (fun d => ((q_ru8 X d (t_M X) 0 (fun _ _ => 0)).1, (q_ru8 X d (t_M X) 0 (fun _ _ => 0)).2.1)) (fun M => m_cnt (t_li X) M i (X 64 3).toNat) i w.toNat sd).2.2.2) else (v_ = some (vi (-1)) ∧ Y_ = (x_up X 64 0 0)))) args s 0 0 (fun q => E.1 ≤ q)) κ 155 [some (x_rf E 64), some (vi i), some (vi w), some (vi sd), some (vi (X 64 13)), some (vi (X 64 14)), some (vi n1), some (vi n2), some (vi n3), some (vi k), some (vi j)] [] Z := by
    intro n
    induction n with
    | zero => intro j Z k Y n1 n2 n3 hinv hme; exfalso; omega
    | succ n ih =>
      intro j Z k Y n1 n2 n3 hinv hme
      obtain ⟨hj, zo, z73, z72, z64, z74, hk89⟩ := hinv
      refine x_iload B dX8_often_155 rfl ?_
      refine x_aload_n B dX8_often_157 rfl ?_
      refine x_getC0 B (k := 11) hT rfl rfl xc_7 (by decide) h8 (Or.inl q1346) (fun _ h => h) dX8_often_158 (fun k_158 => ?_)
      refine x_alen B (t := 0) (i := 0) k_158 rfl dX8_often_161 ?_
      refine x_icmp_ge B (tgt := 185) dX8_often_162 (by decide) ⟨by omega, by omega⟩ ⟨by omega, by omega⟩ (fun h_162 => ?_) (fun h_162 => ?_)
      · obtain rfl : j = 63 := by omega
        refine x_aload_n B dX8_often_185 rfl ?_
        refine x_iload B dX8_often_186 rfl ?_
        refine x_putI B (k := 13) 13 rfl rfl rfl ⟨by omega, by omega⟩ xc_7 (by decide) rfl nn_7_13 (fun _ => rfl) h8 (Or.inl q1348) (fun _ h => h) dX8_often_188 ?_
        refine x_aload_n B dX8_often_191 rfl ?_
        refine x_iload B dX8_often_192 rfl ?_
        refine x_putI B (k := 14) 14 rfl rfl rfl ⟨by have := t_gd_r hgd h13.1; omega, by have := t_gd_r hgd h13.1; omega⟩ xc_7 (by decide) rfl nn_7_14 (fun _ => rfl) h8 (Or.inl q1349) (fun _ h => h) dX8_often_194 ?_
        refine x_iinc_9 B dX8_often_197 (by first | rfl | exact x_cr _ _) ?_
        refine x_goto B (tgt := 89) dX8_often_200 (by decide) ?_
        refine x_fg_10 ?_
        refine hk89 _ ⟨fun b b1 b2 b3 b4 => by rw [x_up_o _ b4, x_up_o _ b4]; exact zo b b1 b2 b3 b4, fun q q1 q2 => ⟨by rw [x_up_o _ (by omega), x_up_o _ (by omega)]; exact z72 q q1 (by omega), by rw [x_up_o _ (by omega), x_up_o _ (by omega)]; exact z73 q q1 q2⟩, fun i i1 i2 i3 => ?_, fun q q1 => by rw [x_up_o _ (by omega), x_up_o _ (by omega)]; exact z74 q q1⟩ (by rw [x_up_n _ (Or.inr (by omega)), x_up_n _ (Or.inr (by omega))])
        by_cases e14 : i = 14
        · rw [e14, x_up_s]
        · rw [x_up_n _ (Or.inr e14)]
          by_cases e13 : i = 13
          · rw [e13, x_up_s]
          · rw [x_up_n _ (Or.inr e13)]; exact z64 i i1 e13 e14 i2 i3
      · refine x_aload_n B dX8_often_165 rfl ?_
        refine x_getC0 B (k := 11) hT rfl rfl xc_7 (by decide) h8 (Or.inl q1346) (fun _ h => h) dX8_often_166 (fun k_166 => ?_)
        refine x_iload B dX8_often_169 rfl ?_
        refine x_aload_n B dX8_often_171 rfl ?_
        refine x_getC0 B (k := 12) hT rfl rfl xc_7 (by decide) h8 (Or.inl q1347) (fun _ h => h) dX8_often_172 (fun k_172 => ?_)
        refine x_iload B dX8_often_175 rfl ?_
        refine x_iald B k_172 ⟨by omega, by omega⟩ dX8_often_177 (fun r_177 => ?_)
        rw [z73 j hj.1 (by omega)] at r_177 ⊢
        refine x_iast B k_166 ⟨by omega, by omega⟩ ⟨by omega, by omega⟩ dX8_often_178 ?_
        refine x_iinc_10 B dX8_often_179 (by first | rfl | exact x_cr _ _) ?_
        refine x_goto B (tgt := 155) dX8_often_182 (by decide) ?_
        refine ih _ _ k Y _ _ _ ⟨⟨by omega, by omega⟩, fun b b1 b2 b3 b4 => by rw [x_up_o _ b1]; exact zo b b1 b2 b3 b4, fun q q1 q2 => by rw [x_up_o _ (by omega)]; exact z73 q q1 q2, fun q q1 q2 => ?_, fun i i1 i2 i3 i4 i5 => by rw [x_up_o _ (by omega)]; exact z64 i i1 i2 i3 i4 i5, fun q q1 => by rw [x_up_o _ (by omega)]; exact z74 q q1, fun Y2 ho h39 => hk89 Y2 ho (by rw [h39, x_up_o _ (by omega)])⟩ (by omega)
        by_cases e : q = j
        · rw [e, x_up_s]
        · rw [x_up_n _ (Or.inr e)]; exact z72 q q1 (by omega)
  have lp_89 : ∀ (n : Nat) (k : Int) (Y : x_X), ((0 ≤ i ∧ i < X 64 3) ∧ (1 ≤ w ∧ w ≤ 50) ∧ (0 ≤ k ∧ k ≤ w) ∧ o_I X Y ∧ Y 64 39 = (y_oft (fun d => ((q_ru8 X d (t_M X) 0 (fun _ _ => 0)).1, (q_ru8 X d (t_M X) 0 (fun _ _ => 0)).2.1)) (fun M => m_cnt (t_li X) M i (X 64 3).toNat) i k.toNat sd).1 ∧ ((0 ≤ (y_oft (fun d => ((q_ru8 X d (t_M X) 0 (fun _ _ => 0)).1, (q_ru8 X d (t_M X) 0 (fun _ _ => 0)).2.1)) (fun M => m_cnt (t_li X) M i (X 64 3).toNat) i k.toNat sd).2.1 ∧ (y_oft (fun d => ((q_ru8 X d (t_M X) 0 (fun _ _ => 0)).1, (q_ru8 X d (t_M X) 0 (fun _ _ => 0)).2.1)) (fun M => m_cnt (t_li X) M i (X 64 3).toNat) i k.toNat sd).2.1 ≤ k) ∧ (0 ≤ (y_oft (fun d => ((q_ru8 X d (t_M X) 0 (fun _ _ => 0)).1, (q_ru8 X d (t_M X) 0 (fun _ _ => 0)).2.1)) (fun M => m_cnt (t_li X) M i (X 64 3).toNat) i k.toNat sd).2.2.1 ∧ (y_oft (fun d => ((q_ru8 X d (t_M X) 0 (fun _ _ => 0)).1, (q_ru8 X d (t_M X) 0 (fun _ _ => 0)).2.1)) (fun M => m_cnt (t_li X) M i (X 64 3).toNat) i k.toNat sd).2.2.1 ≤ k) ∧ (0 ≤ (y_oft (fun d => ((q_ru8 X d (t_M X) 0 (fun _ _ => 0)).1, (q_ru8 X d (t_M X) 0 (fun _ _ => 0)).2.1)) (fun M => m_cnt (t_li X) M i (X 64 3).toNat) i k.toNat sd).2.2.2 ∧ (y_oft (fun d => ((q_ru8 X d (t_M X) 0 (fun _ _ => 0)).1, (q_ru8 X d (t_M X) 0 (fun _ _ => 0)).2.1)) (fun M => m_cnt (t_li X) M i (X 64 3).toNat) i k.toNat sd).2.2.2 ≤ 120 * k))) → ((51 - k).toNat < n) → x_G p l e (x_rm 7 0 0) s m args below meth c 11 E 0 0 (MQ below (x_Q E κ (fun v_ Y_ => if x_in i 0 (X 64 3 - 1) = 1 ∧ x_in w 1 50 = 1 then (v_ = some (vi (y_oft (fun d => ((q_ru8 X d (t_M X) 0 (fun _ _ => 0)).1, (q_ru8 X d (t_M X) 0 (fun _ _ => 0)).2.1)) (fun M => m_cnt (t_li X) M i (X 64 3).toNat) i w.toNat sd).2.1) ∧ (∀ b, b ≠ 72 → b ≠ 73 → b ≠ 74 → b ≠ 64 → b ≠ 65 → Y_ b = X b) ∧ (∀ k, 0 ≤ k → k < 63 → Y_ 72 k = X 72 k) ∧ (∀ i, i ≠ 0 → i ≠ 1 → i ≠ 16 → i ≠ 39 → Y_ 64 i = X 64 i) ∧ (∀ k, k < 4 * X 64 13 → Y_ 74 k = X 74 k) ∧ Y_ 64 1 = 2 ∧ Y_ 65 0 = (y_oft (fun d => ((q_ru8 X d (t_M X) 0 (fun _ _ => 0)).1, (q_ru8 X d (t_M X) 0 (fun _ _ => 0)).2.1)) (fun M => m_cnt (t_li X) M i (X 64 3).toNat) i w.toNat sd).2.2.1 ∧ Y_ 65 1 = (y_oft (fun d => ((q_ru8 X d (t_M X) 0 (fun _ _ => 0)).1, (q_ru8 X d (t_M X) 0 (fun _ _ => 0)).2.1)) (fun M => m_cnt (t_li X) M i (X 64 3).toNat) i w.toNat sd).2.2.2) else (v_ = some (vi (-1)) ∧ Y_ = (x_up X 64 0 0)))) args s 0 0 (fun q => E.1 ≤ q)) κ 89 [some (x_rf E 64), some (vi i), some (vi w), some (vi sd), some (vi (X 64 13)), some (vi (X 64 14)), some (vi (y_oft (fun d => ((q_ru8 X d (t_M X) 0 (fun _ _ => 0)).1, (q_ru8 X d (t_M X) 0 (fun _ _ => 0)).2.1)) (fun M => m_cnt (t_li X) M i (X 64 3).toNat) i k.toNat sd).2.1), some (vi (y_oft (fun d => ((q_ru8 X d (t_M X) 0 (fun _ _ => 0)).1, (q_ru8 X d (t_M X) 0 (fun _ _ => 0)).2.1)) (fun M => m_cnt (t_li X) M i (X 64 3).toNat) i k.toNat sd).2.2.1), some (vi (y_oft (fun d => ((q_ru8 X d (t_M X) 0 (fun _ _ => 0)).1, (q_ru8 X d (t_M X) 0 (fun _ _ => 0)).2.1)) (fun M => m_cnt (t_li X) M i (X 64 3).toNat) i k.toNat sd).2.2.2), some (vi k), none] [] Y := by
    intro n
    induction n with
    | zero => intro k Y hinv hme; exfalso; omega
    | succ n ih =>
      intro k Y hinv hme
      obtain ⟨hi, hw, hk, hoI, h39, ho1, ho2, ho3⟩ := hinv
      have hos := y_oft_s (fun d => ((q_ru8 X d (t_M X) 0 (fun _ _ => 0)).1, (q_ru8 X d (t_M X) 0 (fun _ _ => 0)).2.1)) (fun M => m_cnt (t_li X) M i (X 64 3).toNat) i hk.1 sd
      obtain ⟨y3, yl, yli, yp, yO, yM, yG⟩ := hoI.v hn.2
      have CY := hoI.C hC
      have y13 : Y 64 13 = X 64 13 := hoI.2.2.1 13 (by omega) (by omega) (by omega)
      have y14 : Y 64 14 = X 64 14 := hoI.2.2.1 14 (by omega) (by omega) (by omega)
      have yq : q_ru8 Y (Y 64 39) (t_M Y) (Y 64 13) (t_G Y) = (q_ru8 X (Y 64 39) (t_M X) (X 64 13) (t_G X)) := by unfold q_ru8; rw [y3, yl, yp, yO, yM, y13, yG]
      have yi := y_run_i (n := X 64 3) (lot := t_lot X) (pl := t_p3 X) (O := t_O X) 60 (Y 64 39) (t_M X) (X 64 13) 0 (t_G X) (fun _ _ => 0)
      refine x_iload B dX8_often_89 rfl ?_
      refine x_iload_n B dX8_often_91 rfl ?_
      refine x_icmp_ge B (tgt := 203) dX8_often_92 (by decide) ⟨by omega, by omega⟩ ⟨by omega, by omega⟩ (fun h_92 => ?_) (fun h_92 => ?_)
      · obtain rfl : k = w := by omega
        refine x_aload_n B dX8_often_203 rfl ?_
        refine x_iconst B dX8_often_204 ?_
        refine x_putI B (k := 1) 1 rfl rfl rfl ⟨by omega, by omega⟩ xc_7 (by decide) rfl nn_7_1 (fun _ => rfl) h8 (Or.inl q1336) (fun _ h => h) dX8_often_205 ?_
        refine x_aload_n B dX8_often_208 rfl ?_
        refine x_iload B dX8_often_209 rfl ?_
        refine x_i2l B dX8_often_211 ⟨by omega, by omega⟩ ?_
        refine x_goV (x_rV B h8 (show x_cl[7]? = some _ from rfl) (c_X8_notes hT h8 ⟨by rw [x_up_s]; omega, by rw [x_up_s]; omega⟩ ⟨by omega, by omega⟩) (lw_V q1616 q1618 qs65 q122 q1619) hv_X8_notes ⟨by decide, by decide⟩ ⟨by decide, by decide⟩ rfl rfl (by simp [x_cr, x_c1, x_c2]) dX8_often_212) ?_
        change x_G _ _ _ _ _ _ _ _ _ _ _ _ _ _ _ _ _ _ _ (t_tl (x_up Y 64 1 0) (y_oft (fun d => ((q_ru8 X d (t_M X) 0 (fun _ _ => 0)).1, (q_ru8 X d (t_M X) 0 (fun _ _ => 0)).2.1)) (fun M => m_cnt (t_li X) M i (X 64 3).toNat) i k.toNat sd).2.2.1)
        refine x_aload_n B dX8_often_215 rfl ?_
        refine x_iload B dX8_often_216 rfl ?_
        refine x_i2l B dX8_often_218 ⟨by omega, by omega⟩ ?_
        refine x_goV (x_rV B h8 (show x_cl[7]? = some _ from rfl) (c_X8_notes hT h8 ⟨by rw [(t_tl1 (x_up Y 64 1 0) _ (x_up_s _ _ _ _)).1]; omega, by rw [(t_tl1 (x_up Y 64 1 0) _ (x_up_s _ _ _ _)).1]; omega⟩ ⟨by omega, by omega⟩) (lw_V q1616 q1618 qs65 q122 q1619) hv_X8_notes ⟨by decide, by decide⟩ ⟨by decide, by decide⟩ rfl rfl (by simp [x_cr, x_c1, x_c2]) dX8_often_219) ?_
        refine x_iload B dX8_often_222 rfl ?_
        refine x_iret B (fun _ _ h => h) ?_ dX8_often_224
        rw [if_pos ⟨by unfold x_in; rw [if_pos (by omega)], by unfold x_in; rw [if_pos (by omega)]⟩]
        have q1 := t_tl1 (x_up Y 64 1 0) (y_oft (fun d => ((q_ru8 X d (t_M X) 0 (fun _ _ => 0)).1, (q_ru8 X d (t_M X) 0 (fun _ _ => 0)).2.1)) (fun M => m_cnt (t_li X) M i (X 64 3).toNat) i k.toNat sd).2.2.1 (x_up_s _ _ _ _)
        have q2 := t_tl1 (t_tl (x_up Y 64 1 0) (y_oft (fun d => ((q_ru8 X d (t_M X) 0 (fun _ _ => 0)).1, (q_ru8 X d (t_M X) 0 (fun _ _ => 0)).2.1)) (fun M => m_cnt (t_li X) M i (X 64 3).toNat) i k.toNat sd).2.2.1) (y_oft (fun d => ((q_ru8 X d (t_M X) 0 (fun _ _ => 0)).1, (q_ru8 X d (t_M X) 0 (fun _ _ => 0)).2.1)) (fun M => m_cnt (t_li X) M i (X 64 3).toNat) i k.toNat sd).2.2.2 q1.1
        have hnt : t_nt Y (t_tl (t_tl (x_up Y 64 1 0) (y_oft (fun d => ((q_ru8 X d (t_M X) 0 (fun _ _ => 0)).1, (q_ru8 X d (t_M X) 0 (fun _ _ => 0)).2.1)) (fun M => m_cnt (t_li X) M i (X 64 3).toNat) i k.toNat sd).2.2.1) (y_oft (fun d => ((q_ru8 X d (t_M X) 0 (fun _ _ => 0)).1, (q_ru8 X d (t_M X) 0 (fun _ _ => 0)).2.1)) (fun M => m_cnt (t_li X) M i (X 64 3).toNat) i k.toNat sd).2.2.2) := ((((t_nt.rf Y).z (Or.inr rfl) 0).tl _).tl _)
        refine ⟨rfl, fun b b1 b2 b3 b4 b5 => (hnt.1 b b4 b5).trans (hoI.1 b b1 b2 b3 b4), fun q q1 q2 => ?_, fun i i1 i2 i3 i4 => (hnt.2 i i1 i2).trans (hoI.2.2.1 i i1 i3 i4), fun q q1 => ?_, q2.1, (q2.2.2 0 (by omega)).trans q1.2.1, q2.2.1⟩
        · have := hnt.1 72 (by omega) (by omega); unfold t_tl at this ⊢; rw [this]; exact (hoI.2.1 q q1 q2).1
        · have := hnt.1 74 (by omega) (by omega); unfold t_tl at this ⊢; rw [this]; exact hoI.2.2.2 q q1
      · refine x_aload_n B dX8_often_95 rfl ?_
        refine x_go (x_rV B h8 (show x_cl[7]? = some _ from rfl) (c_X8_playsOn CY (by rw [y13, y3, yM]; exact h13) (hgd.e y14 y13 yG)) (lw_V q1899 q1901 qs106 q122 q1902) hv_X8_playsOn ⟨by decide, by decide⟩ ⟨by decide, by decide⟩ rfl rfl (by simp [x_cr, x_c1, x_c2]) dX8_often_96) (fun v_96 X_96 p_96 => ?_)
        obtain ⟨rfl, hp, hM, ⟨hW2, hL2⟩, -, -, h39b, -, h74, -⟩ := p_96
        rw [yq] at hM h39b
        obtain ⟨zz3, zzl, zzli, -, -⟩ := hp.v
        rw [y3] at zz3 hW2
        rw [yli] at zzli
        have CZ := hp.C CY (by rw [y3]; exact hW2) hL2
        rw [hM] at hW2
        have wz := hW2.2.1 i hi.1 hi.2
        have sz := m_sum_r hW2 hi.1 hi.2
        have cz := m_cnt_r (t_li X) (q_ru8 X (Y 64 39) (t_M X) (X 64 13) (t_G X)).2.1 i (X 64 3).toNat
        have s7 : (q_ru8 X (Y 64 39) (t_M X) (X 64 13) (t_G X)).2.1 i 7 = X_96 72 (3 + 10 * i + 6) := by rw [← hM]; exact t_M_s (by rw [zz3]; exact hi) (by decide) (by omega) (by omega)
        have e7 : (if X_96 72 (3 + 10 * i + 6) = 1 then (1 : Int) else 0) = (q_ru8 X (Y 64 39) (t_M X) (X 64 13) (t_G X)).2.1 i 7 := by rw [s7] at wz ⊢; split <;> omega
        have ho : (y_oft (fun d => ((q_ru8 X d (t_M X) 0 (fun _ _ => 0)).1, (q_ru8 X d (t_M X) 0 (fun _ _ => 0)).2.1)) (fun M => m_cnt (t_li X) M i (X 64 3).toNat) i (k + 1).toNat sd) = ((q_ru8 X (Y 64 39) (t_M X) (X 64 13) (t_G X)).1, (y_oft (fun d => ((q_ru8 X d (t_M X) 0 (fun _ _ => 0)).1, (q_ru8 X d (t_M X) 0 (fun _ _ => 0)).2.1)) (fun M => m_cnt (t_li X) M i (X 64 3).toNat) i k.toNat sd).2.1 + (if (q_ru8 X (Y 64 39) (t_M X) (X 64 13) (t_G X)).2.1 i 7 = 0 ∧ m_cnt (t_li X) (q_ru8 X (Y 64 39) (t_M X) (X 64 13) (t_G X)).2.1 i (X 64 3).toNat = 0 then 1 else 0), (y_oft (fun d => ((q_ru8 X d (t_M X) 0 (fun _ _ => 0)).1, (q_ru8 X d (t_M X) 0 (fun _ _ => 0)).2.1)) (fun M => m_cnt (t_li X) M i (X 64 3).toNat) i k.toNat sd).2.2.1 + (q_ru8 X (Y 64 39) (t_M X) (X 64 13) (t_G X)).2.1 i 7, (y_oft (fun d => ((q_ru8 X d (t_M X) 0 (fun _ _ => 0)).1, (q_ru8 X d (t_M X) 0 (fun _ _ => 0)).2.1)) (fun M => m_cnt (t_li X) M i (X 64 3).toNat) i k.toNat sd).2.2.2 + m_sum (q_ru8 X (Y 64 39) (t_M X) (X 64 13) (t_G X)).2.1 i) := by
          rw [hos, ← h39]
          show ((q_ru8 X (Y 64 39) (t_M X) 0 (fun _ _ => 0)).1, _ + (if (q_ru8 X (Y 64 39) (t_M X) 0 (fun _ _ => 0)).2.1 i 7 = 0 ∧ m_cnt (t_li X) (q_ru8 X (Y 64 39) (t_M X) 0 (fun _ _ => 0)).2.1 i (X 64 3).toNat = 0 then 1 else 0), _ + (q_ru8 X (Y 64 39) (t_M X) 0 (fun _ _ => 0)).2.1 i 7, _ + m_sum (q_ru8 X (Y 64 39) (t_M X) 0 (fun _ _ => 0)).2.1 i) = _
          unfold q_ru8
          rw [yi.1, yi.2]
        refine x_pop B dX8_often_99 (by first | rfl | exact x_cr _ _) ?_
        refine x_iload B dX8_often_100 rfl ?_
        refine x_aload_n B dX8_often_102 rfl ?_
        refine x_iload_n B dX8_often_103 rfl ?_
        refine x_goP (x_rV B h8 (show x_cl[7]? = some _ from rfl) (c_X8_isOut hT h8 ⟨by omega, by omega⟩) (lw_V q1521 q1523 qs51 q122 q1524) hv_X8_isOut ⟨by decide, by decide⟩ ⟨by decide, by decide⟩ rfl rfl (by simp [x_cr, x_c1, x_c2]) dX8_often_104) ?_
        rw [e7]
        refine x_if_ne B (tgt := 122) dX8_often_107 (by decide) ⟨by omega, by omega⟩ (fun h_107 => ?_) (fun h_107 => ?_)
        · have hfirst : ¬ ((q_ru8 X (Y 64 39) (t_M X) (X 64 13) (t_G X)).2.1 i 7 = 0 ∧ m_cnt (t_li X) (q_ru8 X (Y 64 39) (t_M X) (X 64 13) (t_G X)).2.1 i (X 64 3).toNat = 0) := by intro q; omega
          refine x_iconst B dX8_often_122 ?_
          refine x_goP (x_rS B (c_X8_flag ⟨by omega, by omega⟩) (lw_S q1597 q1598 q122 q1599) hd_X8_flag ⟨by decide, by decide⟩ ⟨by decide, by decide⟩ rfl rfl (by simp [x_cr, x_c1, x_c2]) dX8_often_123) ?_
          refine x_iadd B dX8_often_126 ?_
          refine x_istw_6 B dX8_often_127 (by first | rfl | exact x_cr _ _) ?_
          refine x_iload B dX8_often_129 rfl ?_
          refine x_aload_n B dX8_often_131 rfl ?_
          refine x_iload_n B dX8_often_132 rfl ?_
          refine x_goP (x_rV B h8 (show x_cl[7]? = some _ from rfl) (c_X8_isOut hT h8 ⟨by omega, by omega⟩) (lw_V q1521 q1523 qs51 q122 q1524) hv_X8_isOut ⟨by decide, by decide⟩ ⟨by decide, by decide⟩ rfl rfl (by simp [x_cr, x_c1, x_c2]) dX8_often_133) ?_
          rw [e7]
          refine x_goP (x_rS B (c_X8_flag ⟨by omega, by omega⟩) (lw_S q1597 q1598 q122 q1599) hd_X8_flag ⟨by decide, by decide⟩ ⟨by decide, by decide⟩ rfl rfl (by simp [x_cr, x_c1, x_c2]) dX8_often_136) ?_
          refine x_iadd B dX8_often_139 ?_
          refine x_istw_7 B dX8_often_140 (by first | rfl | exact x_cr _ _) ?_
          refine x_iload B dX8_often_142 rfl ?_
          refine x_aload_n B dX8_often_144 rfl ?_
          refine x_iload_n B dX8_often_145 rfl ?_
          refine x_goP (x_rV B h8 (show x_cl[7]? = some _ from rfl) (c_X8_sumOf CZ.1 CZ.2.2.2.1.V (by rw [zz3]; exact hi)) (lw_V q1600 q1602 qs62 q122 q1603) hv_X8_sumOf ⟨by decide, by decide⟩ ⟨by decide, by decide⟩ rfl rfl (by simp [x_cr, x_c1, x_c2]) dX8_often_146) ?_
          rw [hM]
          refine x_iadd B dX8_often_149 ?_
          refine x_istw_8 B dX8_often_150 (by first | rfl | exact x_cr _ _) ?_
          refine x_iconst B dX8_often_152 ?_
          refine x_istw_10 B dX8_often_153 (by first | rfl | exact x_cr _ _) ?_
          have hz1 := congrArg (fun r => r.1) ho
          have hz2 := congrArg (fun r => r.2.1) ho
          have hz3 := congrArg (fun r => r.2.2.1) ho
          have hz4 := congrArg (fun r => r.2.2.2) ho
          dsimp only at hz1 hz2 hz3 hz4
          refine lp_155 _ 0 X_96 k Y _ _ _ ⟨⟨by omega, by omega⟩, fun b b1 b2 b3 b4 => (hp.1 b b1 b3 b4).trans (hoI.1 b b1 b2 b3 b4), fun q q1 q2 => by rw [hp.1 73 (by omega) (by omega) (by omega)]; exact (hoI.2.1 q q1 q2).2, fun q q1 q2 => by omega, fun i i1 i2 i3 i4 i5 => (hp.2 i i2 i3 i4 i5).trans (hoI.2.2.1 i i1 i4 i5), fun q q1 => by rw [h74 q (by rw [y13]; exact q1)]; exact hoI.2.2.2 q q1, fun Y2 hoI2 h392 => ?_⟩ (Nat.lt_succ_self _)
          first
          | (rw [if_pos hfirst] at hz2; rw [← hz2, ← hz3, ← hz4]; exact ih _ _ ⟨hi, hw, ⟨by omega, by omega⟩, hoI2, by rw [h392, h39b, hz1], by omega, by omega, by omega⟩ (by omega))
          | (rw [if_neg hfirst] at hz2; rw [← hz2, ← hz3, ← hz4]; exact ih _ _ ⟨hi, hw, ⟨by omega, by omega⟩, hoI2, by rw [h392, h39b, hz1], by omega, by omega, by omega⟩ (by omega))
        · refine x_aload_n B dX8_often_110 rfl ?_
          refine x_iload_n B dX8_often_111 rfl ?_
          refine x_goP (x_rV B h8 (show x_cl[7]? = some _ from rfl) (c_X8_aheadOf CZ.1 CZ.2.2.2.1 (by rw [zz3]; exact hi)) (lw_V q1665 q1667 qs72 q122 q1668) hv_X8_aheadOf ⟨by decide, by decide⟩ ⟨by decide, by decide⟩ rfl rfl (by simp [x_cr, x_c1, x_c2]) dX8_often_112) ?_
          rw [zz3, zzli, hM]
          refine x_if_ne B (tgt := 122) dX8_often_115 (by decide) ⟨by omega, by omega⟩ (fun h_115 => ?_) (fun h_115 => ?_)
          · have hfirst : ¬ ((q_ru8 X (Y 64 39) (t_M X) (X 64 13) (t_G X)).2.1 i 7 = 0 ∧ m_cnt (t_li X) (q_ru8 X (Y 64 39) (t_M X) (X 64 13) (t_G X)).2.1 i (X 64 3).toNat = 0) := by intro q; omega
            refine x_iconst B dX8_often_122 ?_
            refine x_goP (x_rS B (c_X8_flag ⟨by omega, by omega⟩) (lw_S q1597 q1598 q122 q1599) hd_X8_flag ⟨by decide, by decide⟩ ⟨by decide, by decide⟩ rfl rfl (by simp [x_cr, x_c1, x_c2]) dX8_often_123) ?_
            refine x_iadd B dX8_often_126 ?_
            refine x_istw_6 B dX8_often_127 (by first | rfl | exact x_cr _ _) ?_
            refine x_iload B dX8_often_129 rfl ?_
            refine x_aload_n B dX8_often_131 rfl ?_
            refine x_iload_n B dX8_often_132 rfl ?_
            refine x_goP (x_rV B h8 (show x_cl[7]? = some _ from rfl) (c_X8_isOut hT h8 ⟨by omega, by omega⟩) (lw_V q1521 q1523 qs51 q122 q1524) hv_X8_isOut ⟨by decide, by decide⟩ ⟨by decide, by decide⟩ rfl rfl (by simp [x_cr, x_c1, x_c2]) dX8_often_133) ?_
            rw [e7]
            refine x_goP (x_rS B (c_X8_flag ⟨by omega, by omega⟩) (lw_S q1597 q1598 q122 q1599) hd_X8_flag ⟨by decide, by decide⟩ ⟨by decide, by decide⟩ rfl rfl (by simp [x_cr, x_c1, x_c2]) dX8_often_136) ?_
            refine x_iadd B dX8_often_139 ?_
            refine x_istw_7 B dX8_often_140 (by first | rfl | exact x_cr _ _) ?_
            refine x_iload B dX8_often_142 rfl ?_
            refine x_aload_n B dX8_often_144 rfl ?_
            refine x_iload_n B dX8_often_145 rfl ?_
            refine x_goP (x_rV B h8 (show x_cl[7]? = some _ from rfl) (c_X8_sumOf CZ.1 CZ.2.2.2.1.V (by rw [zz3]; exact hi)) (lw_V q1600 q1602 qs62 q122 q1603) hv_X8_sumOf ⟨by decide, by decide⟩ ⟨by decide, by decide⟩ rfl rfl (by simp [x_cr, x_c1, x_c2]) dX8_often_146) ?_
            rw [hM]
            refine x_iadd B dX8_often_149 ?_
            refine x_istw_8 B dX8_often_150 (by first | rfl | exact x_cr _ _) ?_
            refine x_iconst B dX8_often_152 ?_
            refine x_istw_10 B dX8_often_153 (by first | rfl | exact x_cr _ _) ?_
            have hz1 := congrArg (fun r => r.1) ho
            have hz2 := congrArg (fun r => r.2.1) ho
            have hz3 := congrArg (fun r => r.2.2.1) ho
            have hz4 := congrArg (fun r => r.2.2.2) ho
            dsimp only at hz1 hz2 hz3 hz4
            refine lp_155 _ 0 X_96 k Y _ _ _ ⟨⟨by omega, by omega⟩, fun b b1 b2 b3 b4 => (hp.1 b b1 b3 b4).trans (hoI.1 b b1 b2 b3 b4), fun q q1 q2 => by rw [hp.1 73 (by omega) (by omega) (by omega)]; exact (hoI.2.1 q q1 q2).2, fun q q1 q2 => by omega, fun i i1 i2 i3 i4 i5 => (hp.2 i i2 i3 i4 i5).trans (hoI.2.2.1 i i1 i4 i5), fun q q1 => by rw [h74 q (by rw [y13]; exact q1)]; exact hoI.2.2.2 q q1, fun Y2 hoI2 h392 => ?_⟩ (Nat.lt_succ_self _)
            first
            | (rw [if_pos hfirst] at hz2; rw [← hz2, ← hz3, ← hz4]; exact ih _ _ ⟨hi, hw, ⟨by omega, by omega⟩, hoI2, by rw [h392, h39b, hz1], by omega, by omega, by omega⟩ (by omega))
            | (rw [if_neg hfirst] at hz2; rw [← hz2, ← hz3, ← hz4]; exact ih _ _ ⟨hi, hw, ⟨by omega, by omega⟩, hoI2, by rw [h392, h39b, hz1], by omega, by omega, by omega⟩ (by omega))
          · have hfirst : (q_ru8 X (Y 64 39) (t_M X) (X 64 13) (t_G X)).2.1 i 7 = 0 ∧ m_cnt (t_li X) (q_ru8 X (Y 64 39) (t_M X) (X 64 13) (t_G X)).2.1 i (X 64 3).toNat = 0 := ⟨by omega, by omega⟩
            refine x_iconst B dX8_often_118 ?_
            refine x_goto B (tgt := 123) dX8_often_119 (by decide) ?_
            refine x_goP (x_rS B (c_X8_flag ⟨by omega, by omega⟩) (lw_S q1597 q1598 q122 q1599) hd_X8_flag ⟨by decide, by decide⟩ ⟨by decide, by decide⟩ rfl rfl (by simp [x_cr, x_c1, x_c2]) dX8_often_123) ?_
            refine x_iadd B dX8_often_126 ?_
            refine x_istw_6 B dX8_often_127 (by first | rfl | exact x_cr _ _) ?_
            refine x_iload B dX8_often_129 rfl ?_
            refine x_aload_n B dX8_often_131 rfl ?_
            refine x_iload_n B dX8_often_132 rfl ?_
            refine x_goP (x_rV B h8 (show x_cl[7]? = some _ from rfl) (c_X8_isOut hT h8 ⟨by omega, by omega⟩) (lw_V q1521 q1523 qs51 q122 q1524) hv_X8_isOut ⟨by decide, by decide⟩ ⟨by decide, by decide⟩ rfl rfl (by simp [x_cr, x_c1, x_c2]) dX8_often_133) ?_
            rw [e7]
            refine x_goP (x_rS B (c_X8_flag ⟨by omega, by omega⟩) (lw_S q1597 q1598 q122 q1599) hd_X8_flag ⟨by decide, by decide⟩ ⟨by decide, by decide⟩ rfl rfl (by simp [x_cr, x_c1, x_c2]) dX8_often_136) ?_
            refine x_iadd B dX8_often_139 ?_
            refine x_istw_7 B dX8_often_140 (by first | rfl | exact x_cr _ _) ?_
            refine x_iload B dX8_often_142 rfl ?_
            refine x_aload_n B dX8_often_144 rfl ?_
            refine x_iload_n B dX8_often_145 rfl ?_
            refine x_goP (x_rV B h8 (show x_cl[7]? = some _ from rfl) (c_X8_sumOf CZ.1 CZ.2.2.2.1.V (by rw [zz3]; exact hi)) (lw_V q1600 q1602 qs62 q122 q1603) hv_X8_sumOf ⟨by decide, by decide⟩ ⟨by decide, by decide⟩ rfl rfl (by simp [x_cr, x_c1, x_c2]) dX8_often_146) ?_
            rw [hM]
            refine x_iadd B dX8_often_149 ?_
            refine x_istw_8 B dX8_often_150 (by first | rfl | exact x_cr _ _) ?_
            refine x_iconst B dX8_often_152 ?_
            refine x_istw_10 B dX8_often_153 (by first | rfl | exact x_cr _ _) ?_
            have hz1 := congrArg (fun r => r.1) ho
            have hz2 := congrArg (fun r => r.2.1) ho
            have hz3 := congrArg (fun r => r.2.2.1) ho
            have hz4 := congrArg (fun r => r.2.2.2) ho
            dsimp only at hz1 hz2 hz3 hz4
            refine lp_155 _ 0 X_96 k Y _ _ _ ⟨⟨by omega, by omega⟩, fun b b1 b2 b3 b4 => (hp.1 b b1 b3 b4).trans (hoI.1 b b1 b2 b3 b4), fun q q1 q2 => by rw [hp.1 73 (by omega) (by omega) (by omega)]; exact (hoI.2.1 q q1 q2).2, fun q q1 q2 => by omega, fun i i1 i2 i3 i4 i5 => (hp.2 i i2 i3 i4 i5).trans (hoI.2.2.1 i i1 i4 i5), fun q q1 => by rw [h74 q (by rw [y13]; exact q1)]; exact hoI.2.2.2 q q1, fun Y2 hoI2 h392 => ?_⟩ (Nat.lt_succ_self _)
            first
            | (rw [if_pos hfirst] at hz2; rw [← hz2, ← hz3, ← hz4]; exact ih _ _ ⟨hi, hw, ⟨by omega, by omega⟩, hoI2, by rw [h392, h39b, hz1], by omega, by omega, by omega⟩ (by omega))
            | (rw [if_neg hfirst] at hz2; rw [← hz2, ← hz3, ← hz4]; exact ih _ _ ⟨hi, hw, ⟨by omega, by omega⟩, hoI2, by rw [h392, h39b, hz1], by omega, by omega, by omega⟩ (by omega))
  have lp_42 : ∀ (n : Nat) (k : Int) (Y : x_X), ((0 ≤ i ∧ i < X 64 3) ∧ (1 ≤ w ∧ w ≤ 50) ∧ (0 ≤ k ∧ k ≤ 63) ∧ (∀ b, b ≠ 73 → b ≠ 64 → Y b = X b) ∧ (∀ i, i ≠ 0 → Y 64 i = X 64 i) ∧ ∀ q, 0 ≤ q → q < k → Y 73 q = X 72 q) → ((64 - k).toNat < n) → x_G p l e (x_rm 7 0 0) s m args below meth c 11 E 0 0 (MQ below (x_Q E κ (fun v_ Y_ => if x_in i 0 (X 64 3 - 1) = 1 ∧ x_in w 1 50 = 1 then (v_ = some (vi (y_oft (fun d => ((q_ru8 X d (t_M X) 0 (fun _ _ => 0)).1, (q_ru8 X d (t_M X) 0 (fun _ _ => 0)).2.1)) (fun M => m_cnt (t_li X) M i (X 64 3).toNat) i w.toNat sd).2.1) ∧ (∀ b, b ≠ 72 → b ≠ 73 → b ≠ 74 → b ≠ 64 → b ≠ 65 → Y_ b = X b) ∧ (∀ k, 0 ≤ k → k < 63 → Y_ 72 k = X 72 k) ∧ (∀ i, i ≠ 0 → i ≠ 1 → i ≠ 16 → i ≠ 39 → Y_ 64 i = X 64 i) ∧ (∀ k, k < 4 * X 64 13 → Y_ 74 k = X 74 k) ∧ Y_ 64 1 = 2 ∧ Y_ 65 0 = (y_oft (fun d => ((q_ru8 X d (t_M X) 0 (fun _ _ => 0)).1, (q_ru8 X d (t_M X) 0 (fun _ _ => 0)).2.1)) (fun M => m_cnt (t_li X) M i (X 64 3).toNat) i w.toNat sd).2.2.1 ∧ Y_ 65 1 = (y_oft (fun d => ((q_ru8 X d (t_M X) 0 (fun _ _ => 0)).1, (q_ru8 X d (t_M X) 0 (fun _ _ => 0)).2.1)) (fun M => m_cnt (t_li X) M i (X 64 3).toNat) i w.toNat sd).2.2.2) else (v_ = some (vi (-1)) ∧ Y_ = (x_up X 64 0 0)))) args s 0 0 (fun q => E.1 ≤ q)) κ 42 [some (x_rf E 64), some (vi i), some (vi w), some (vi sd), some (vi (X 64 13)), some (vi (X 64 14)), some (vi k), none, none, none, none] [] Y := by
    intro n
    induction n with
    | zero => intro k Y hinv hme; exfalso; omega
    | succ n ih =>
      intro k Y hinv hme
      obtain ⟨hi, hw, hk, ho, h64, h73⟩ := hinv
      refine x_iload B dX8_often_42 rfl ?_
      refine x_aload_n B dX8_often_44 rfl ?_
      refine x_getC0 B (k := 11) hT rfl rfl xc_7 (by decide) h8 (Or.inl q1346) (fun _ h => h) dX8_often_45 (fun k_45 => ?_)
      refine x_alen B (t := 0) (i := 0) k_45 rfl dX8_often_48 ?_
      refine x_icmp_ge B (tgt := 72) dX8_often_49 (by decide) ⟨by omega, by omega⟩ ⟨by omega, by omega⟩ (fun h_49 => ?_) (fun h_49 => ?_)
      · obtain rfl : k = 63 := by omega
        refine x_aload_n B dX8_often_72 rfl ?_
        refine x_iload_n B dX8_often_73 rfl ?_
        refine x_putI B (k := 39) 39 rfl rfl rfl ⟨by omega, by omega⟩ xc_7 (by decide) rfl nn_7_39 (fun _ => rfl) h8 (Or.inl q1374) (fun _ h => h) dX8_often_74 ?_
        refine x_iconst B dX8_often_77 ?_
        refine x_istw_6 B dX8_often_78 (by first | rfl | exact x_cr _ _) ?_
        refine x_iconst B dX8_often_80 ?_
        refine x_istw_7 B dX8_often_81 (by first | rfl | exact x_cr _ _) ?_
        refine x_iconst B dX8_often_83 ?_
        refine x_istw_8 B dX8_often_84 (by first | rfl | exact x_cr _ _) ?_
        refine x_iconst B dX8_often_86 ?_
        refine x_istw_9 B dX8_often_87 (by first | rfl | exact x_cr _ _) ?_
        exact lp_89 _ 0 _ ⟨hi, hw, ⟨by omega, by omega⟩, ⟨fun b b1 b2 b3 b4 => by rw [x_up_o _ b4]; exact (ho b b2 b4), fun q q1 q2 => ⟨by rw [x_up_o _ (by omega), ho 72 (by omega) (by omega)], by rw [x_up_o _ (by omega)]; exact h73 q q1 q2⟩, fun i i1 i2 i3 => by rw [x_up_n _ (Or.inr i3)]; exact h64 i i1, fun q q1 => by rw [x_up_o _ (by omega), ho 74 (by omega) (by omega)]⟩, x_up_s _ _ _ _, by show (0 ≤ (0 : Int) ∧ (0 : Int) ≤ 0) ∧ (0 ≤ (0 : Int) ∧ (0 : Int) ≤ 0) ∧ (0 ≤ (0 : Int) ∧ (0 : Int) ≤ 120 * 0); omega⟩ (Nat.lt_succ_self _)
      · refine x_aload_n B dX8_often_52 rfl ?_
        refine x_getC0 B (k := 12) hT rfl rfl xc_7 (by decide) h8 (Or.inl q1347) (fun _ h => h) dX8_often_53 (fun k_53 => ?_)
        refine x_iload B dX8_often_56 rfl ?_
        refine x_aload_n B dX8_often_58 rfl ?_
        refine x_getC0 B (k := 11) hT rfl rfl xc_7 (by decide) h8 (Or.inl q1346) (fun _ h => h) dX8_often_59 (fun k_59 => ?_)
        refine x_iload B dX8_often_62 rfl ?_
        refine x_iald B k_59 ⟨by omega, by omega⟩ dX8_often_64 (fun r_64 => ?_)
        rw [ho 72 (by omega) (by omega)] at r_64 ⊢
        refine x_iast B k_53 ⟨by omega, by omega⟩ ⟨by omega, by omega⟩ dX8_often_65 ?_
        refine x_iinc_6 B dX8_often_66 (by first | rfl | exact x_cr _ _) ?_
        refine x_goto B (tgt := 42) dX8_often_69 (by decide) ?_
        refine ih _ _ ⟨hi, hw, ⟨by omega, by omega⟩, fun b b1 b2 => by rw [x_up_o _ b1]; exact ho b b1 b2, fun i i1 => by rw [x_up_o _ (by omega)]; exact h64 i i1, fun q q1 q2 => ?_⟩ (by omega)
        by_cases e : q = k
        · rw [e, x_up_s]
        · rw [x_up_n _ (Or.inr e)]; exact h73 q q1 (by omega)
  refine x_aload_n B dX8_often_0 rfl ?_
  refine x_iconst B dX8_often_1 ?_
  refine x_putI B (k := 0) 0 rfl rfl rfl ⟨by omega, by omega⟩ xc_7 (by decide) rfl nn_7_0 (fun _ => rfl) h8 (Or.inl q1335) (fun _ h => h) dX8_often_2 ?_
  refine x_aload_n B dX8_often_5 rfl ?_
  refine x_iload_n B dX8_often_6 rfl ?_
  refine x_goP (x_rV B h8 (show x_cl[7]? = some _ from rfl) (c_X8_isLifter hK0 hx) (lw_V q1553 q1555 qs57 q122 q1556) hv_X8_isLifter ⟨by decide, by decide⟩ ⟨by decide, by decide⟩ rfl rfl (by simp [x_cr, x_c1, x_c2]) dX8_often_7) ?_
  rw [e3]
  refine x_if_eq B (tgt := 25) dX8_often_10 (by decide) ⟨by omega, by omega⟩ (fun h_10 => ?_) (fun h_10 => ?_)
  · refine x_iconst B dX8_often_25 ?_
    refine x_iret B (fun _ _ h => h) ?_ dX8_often_26
    rw [if_neg (by omega)]; exact ⟨rfl, rfl⟩
  · refine x_iload_n B dX8_often_13 rfl ?_
    refine x_i2l B dX8_often_14 ⟨by omega, by omega⟩ ?_
    refine x_lconst B 1 dX8_often_15 (by decide) ?_
    refine x_ldc2 B (50) q1912 (by decide) dX8_often_16 ?_
    refine x_goP (x_rS B (c_X8_in ⟨by omega, by omega⟩ ⟨by omega, by omega⟩ ⟨by omega, by omega⟩) (lw_S q1468 q1469 q122 q1470) hd_X8_in ⟨by decide, by decide⟩ ⟨by decide, by decide⟩ rfl rfl (by simp [x_cr, x_c1, x_c2]) dX8_often_19) ?_
    refine x_if_ne B (tgt := 27) dX8_often_22 (by decide) ⟨by omega, by omega⟩ (fun h_22 => ?_) (fun h_22 => ?_)
    · have hi : 0 ≤ i ∧ i < X 64 3 := by unfold x_in at h_10; split at h_10 <;> omega
      have hw : 1 ≤ w ∧ w ≤ 50 := by unfold x_in at h_22; split at h_22 <;> omega
      refine x_aload_n B dX8_often_27 rfl ?_
      refine x_getI B (k := 13) 13 rfl rfl xc_7 (by decide) h8 (Or.inl q1348) (fun _ h => h) dX8_often_28 (fun r_28 => ?_)
      rw [x0i 13 (by omega)] at r_28 ⊢
      refine x_istw_4 B dX8_often_31 (by first | rfl | exact x_cr _ _) ?_
      refine x_aload_n B dX8_often_33 rfl ?_
      refine x_getI B (k := 14) 14 rfl rfl xc_7 (by decide) h8 (Or.inl q1349) (fun _ h => h) dX8_often_34 (fun r_34 => ?_)
      rw [x0i 14 (by omega)] at r_34 ⊢
      refine x_istw_5 B dX8_often_37 (by first | rfl | exact x_cr _ _) ?_
      refine x_iconst B dX8_often_39 ?_
      refine x_istw_6 B dX8_often_40 (by first | rfl | exact x_cr _ _) ?_
      exact lp_42 _ 0 _ ⟨hi, hw, ⟨by omega, by omega⟩, fun b b1 b2 => x0o b b2, fun i i1 => x0i i i1, fun q q1 q2 => by omega⟩ (Nat.lt_succ_self _)
    · refine x_iconst B dX8_often_25 ?_
      refine x_iret B (fun _ _ h => h) ?_ dX8_often_26
      rw [if_neg (by omega)]; exact ⟨rfl, rfl⟩
