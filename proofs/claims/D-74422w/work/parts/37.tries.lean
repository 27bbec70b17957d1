theorem n_O.fr {κ : x_Ka} {mo : Int} {X Y : x_X} (h : n_O X) (hI : n_I κ X) (hf : c_fr mo X Y) (hmo : 3 ≤ mo) (hm2 : mo ≤ 17) : n_O Y := by
  refine ⟨fun l h1 h2 => ?_, by rw [hf 0 (by omega)]; exact h.2⟩
  rw [hf 1 (by omega)] at h2
  have ha := hI.2.2.2.2 l h1 h2
  rw [hf 2 (by omega)]
  intro t t1 t2
  rw [hf (X 2 l + 1 + 1 + 3 * t + 1) (by omega), hf (X 2 l + 1 + 1 + 3 * t + 2) (by omega), hf (X 2 l + 1 + 1 + 3 * t) (by omega)]
  exact h.1 l h1 h2 t t1 t2
theorem s_tr_fr {X : x_X} {mo l t g w z : Int} (h : 0 ≤ l ∧ l < 6) : c_fr mo X (s_tr (x_up X mo 3 z) (mo + 1 + 1 + 2 * l) t g w) := by
  unfold s_tr
  exact (((((((c_fr.rf mo X).up (by omega)).up (by omega)).up (by omega)).up (by omega)).up (by omega)).up (by omega)).up (by omega)
/-- the cells of a standing behind a try -/
theorem s_tr_at {X : x_X} {a t g w : Int} : (s_tr X a t g w) a 3 = m_ask (X a 1 + 1) (X a 3) w ∧ (s_tr X a t g w) a 1 = X a 1 + 1 ∧ (s_tr X a t g w) a 6 = 1 := by
  refine ⟨by unfold s_tr; rw [x_up_s], ?_, ?_⟩
  · unfold s_tr; rw [x_up_n _ (Or.inr (by omega)), x_up_n _ (Or.inr (by omega)), x_up_s]
  · unfold s_tr; rw [x_up_n _ (Or.inr (by omega)), x_up_s]
theorem s_tr_o {X : x_X} {a t g w b : Int} (h : b ≠ a ∧ b ≠ a + 1) : (s_tr X a t g w) b = X b := by
  unfold s_tr
  rw [x_up_o _ h.1, x_up_o _ h.1, x_up_o _ h.1, x_up_o _ h.1, x_up_o _ h.1, x_up_o _ h.2]
theorem c_X2_tries {l : Launch} {E : x_E} {κ : x_Ka} {X : x_X} {mo z : Int} (hI : n_I κ X) (hm : κ mo = some (.inl (2, 1))) (hmo : 3 ≤ mo) (hm2 : mo ≤ 17) (hW : m_W (X 1 2) (c_M X mo)) (hJ : c_J X mo) (hP : n_P X) (hz : z = -2 ∨ z = -3) (hc : m_cal (X 1 2) (c_lot X) (c_M X mo) ≠ -1) : x_Met l yX2_tries cX2_tries 4 (some .int) 6 0 0 E κ X [x_rf E mo, x_rf E z] κ (fun v Y => v = some (vi ((m_tr (c_M X mo) (m_cal (X 1 2) (c_lot X) (c_M X mo)) (z + 3) (if z = -2 then c_pl X (m_cal (X 1 2) (c_lot X) (c_M X mo)) (X mo 1) 1 else c_pl X (m_cal (X 1 2) (c_lot X) (c_M X mo)) (X mo 1) 2)) (m_cal (X 1 2) (c_lot X) (c_M X mo)) 3)) ∧ c_fr mo X Y ∧ c_M Y mo = m_go (X 1 2) (c_op X) (c_lot X) 20 (m_tr (c_M X mo) (m_cal (X 1 2) (c_lot X) (c_M X mo)) (z + 3) (if z = -2 then c_pl X (m_cal (X 1 2) (c_lot X) (c_M X mo)) (X mo 1) 1 else c_pl X (m_cal (X 1 2) (c_lot X) (c_M X mo)) (X mo 1) 2)) ∧ c_J Y mo) := by
  refine x_Met.of [(false, x_rf E mo), (false, x_rf E z)] [some (x_rf E mo), some (x_rf E z), none, none] 2 (by decide) rfl rfl ⟨x_cr E (mo), x_cr E (z), trivial⟩ rfl rfl ?_
  intro p e s m args below meth c hargs hin B
  obtain ⟨hT, h0, hn, hl, hla⟩ := id hI
  have hcr := m_cb_r (c_lot X) (c_M X mo) (X 1 2).toNat
  have hco := m_cb_ok (c_lot X) (c_M X mo) (X 1 2).toNat hc
  generalize hle : m_cal (X 1 2) (c_lot X) (c_M X mo) = l0
  have hle2 : m_cb (c_lot X) (c_M X mo) (X 1 2).toNat = l0 := hle
  rw [hle2] at hcr hco
  rw [hle] at hc
  have hl0 : 0 ≤ l0 ∧ l0 < X 1 2 := by omega
  obtain ⟨hW1, hW2, hW3⟩ := id hW
  have w2 := hW2 l0 hl0.1 hl0.2
  have w3 := hW3 l0 hl0.1 hl0.2
  have g1 : c_M X mo (-1) 1 = X mo 1 := c_M_g (by omega)
  have g2 : c_M X mo (-1) 2 = X mo 2 := c_M_g (by omega)
  have g3 : c_M X mo (-1) 3 = X mo 3 := c_M_g (by omega)
  have s3 : c_M X mo l0 3 = X (mo + 1 + 1 + 2 * l0) 3 := c_M_s hl0 (by omega)
  have s2 : c_M X mo l0 2 = X (mo + 1 + 1 + 2 * l0) 2 := c_M_s hl0 (by omega)
  have s6 : c_M X mo l0 6 = X (mo + 1 + 1 + 2 * l0) 6 := c_M_s hl0 (by omega)
  have hj := hJ l0 hl0.1 hl0.2 (by omega)
  have hlt : X mo 1 < 3 := by rcases Int.lt_or_le (X mo 1) 3 with q | q; exact q; exfalso; have := w3.2.1 (by omega); omega
  have hA := hla l0 hl0.1 hl0.2
  have hp := hP l0 hl0.1 hl0.2 (X mo 1) (by omega) hlt
  have u3 : ∀ a, a ≠ mo → x_up X mo 3 (max (X mo 3) (X (mo + 1 + 1 + 2 * l0) 3)) a = X a := fun a h => x_up_o X h
  have u12 : x_up X mo 3 (max (X mo 3) (X (mo + 1 + 1 + 2 * l0) 3)) 1 2 = X 1 2 := congrFun (u3 1 (by omega)) 2
  have u31 : x_up X mo 3 (max (X mo 3) (X (mo + 1 + 1 + 2 * l0) 3)) mo 1 = X mo 1 := x_up_n X (Or.inr (by omega))
  refine x_aload_n B dX2_tries_0 rfl ?_
  refine x_goP (x_rV B hm (show x_cl[2]? = some _ from rfl) (c_X2_called hI hm hmo) (lw_V q851 q798 q799 q114 q800) hv_X2_called ⟨by decide, by decide⟩ ⟨by decide, by decide⟩ rfl rfl (by simp [x_cr, x_c1, x_c2]) dX2_tries_1) ?_
  rw [hle]
  refine x_ist_2 B dX2_tries_4 (by first | rfl | exact x_cr _ _) ?_
  refine x_aload_n B dX2_tries_5 rfl ?_
  refine x_aload_n B dX2_tries_6 rfl ?_
  refine x_getI B (k := 3) 3 rfl rfl xc_2 (by decide) hm (Or.inl q251) (fun _ h => h) dX2_tries_7 (fun r_7 => ?_)
  refine x_aload_n B dX2_tries_10 rfl ?_
  refine x_getC1 B (k := 0) hT rfl rfl xc_2 (by decide) hm (Or.inl q242) (fun _ h => h) dX2_tries_11 (fun k_11 => ?_)
  refine x_iload_n B dX2_tries_14 rfl ?_
  refine x_aaldC B (t := 10) hT k_11 rfl rfl rfl rfl ⟨by omega, by omega⟩ dX2_tries_15 (fun k_15 => ?_)
  refine x_getI B (k := 3) 3 rfl rfl xc_3 (by decide) k_15 (Or.inr q210) (fun _ h => h) dX2_tries_16 (fun r_16 => ?_)
  refine x_max B ⟨by omega, by omega⟩ ⟨by omega, by omega⟩ q852 q666 q130 q667 (by decide) (by simp [x_cr, x_c1, x_c2]) ⟨by decide, by decide⟩ dX2_tries_19 ?_
  refine x_putI B (k := 3) 3 rfl rfl rfl ⟨by omega, by omega⟩ xc_2 (by decide) rfl nn_2_3 (fun _ => rfl) hm (Or.inl q251) (fun _ h => h) dX2_tries_22 ?_
  refine x_aload_n B dX2_tries_25 rfl ?_
  refine x_getC1 B (k := 0) hT rfl rfl xc_2 (by decide) hm (Or.inl q242) (fun _ h => h) dX2_tries_26 (fun k_26 => ?_)
  refine x_iload_n B dX2_tries_29 rfl ?_
  refine x_aaldC B (t := 10) hT k_26 rfl rfl rfl rfl ⟨by omega, by omega⟩ dX2_tries_30 (fun k_30 => ?_)
  refine x_aload_n B dX2_tries_31 rfl ?_
  refine x_getC0 B (k := 4) hT rfl rfl xc_2 (by decide) hm (Or.inl q254) (fun _ h => h) dX2_tries_32 (fun k_32 => ?_)
  refine x_getC0 B (k := 0) hT rfl rfl xc_0 (by decide) k_32 (Or.inr q395) (fun _ h => h) dX2_tries_35 (fun k_35 => ?_)
  refine x_iload_n B dX2_tries_38 rfl ?_
  refine x_goP (x_rV B k_35 (show x_cl[1]? = some _ from rfl) (c_J2_get hT (by assumption) (by omega) ⟨by omega, by omega⟩) (lw_V q371 q372 q373 q113 q374) hv_J2_get ⟨by decide, by decide⟩ ⟨by decide, by decide⟩ rfl rfl (by simp [x_cr, x_c1, x_c2]) dX2_tries_39) ?_
  refine x_cast B (by rw [u3 2 (by omega)]; exact hl _ (by omega) (by omega)) (show x_cl[8]? = some _ from rfl) q385 dX2_tries_42 ?_
  refine x_aload_n B dX2_tries_45 rfl ?_
  refine x_getI B (k := 1) 1 rfl rfl xc_2 (by decide) hm (Or.inl q245) (fun _ h => h) dX2_tries_46 (fun r_46 => ?_)
  refine x_aload_n B dX2_tries_49 rfl ?_
  refine x_goV (x_rV B k_30 (show x_cl[3]? = some _ from rfl) (c_X3_tried hT (x_std hT hm (by omega) (by omega)) (by rw [u3 2 (by omega)]; exact hl _ (by omega) (by omega)) hz (by rw [u31]; omega) (by rw [u3 _ (by omega)]; omega) (by rw [u3 _ (by omega)]; omega) (by rw [u3 _ (by omega)]; omega) (by rw [u3 2 (by omega), u3 _ (by omega), u31]; omega) (by rw [u3 2 (by omega), u3 _ (by omega), u31]; omega) (by rw [u3 2 (by omega)]; omega)) (lw_V q853 q854 q855 q115 q856) hv_X3_tried ⟨by decide, by decide⟩ ⟨by decide, by decide⟩ rfl rfl (by simp [x_cr, x_c1, x_c2]) dX2_tries_50) ?_
  rw [u31, u3 2 (by omega), u3 (X 2 l0 + 12) (by omega), u3 (X 2 l0 + 13) (by omega)]
  have ew : (if z = -2 then X (X 2 l0 + 12) (X mo 1) else X (X 2 l0 + 13) (X mo 1)) = (if z = -2 then c_pl X l0 (X mo 1) 1 else c_pl X l0 (X mo 1) 2) := by unfold c_pl; rw [if_pos hl0, if_pos hl0, show X 2 l0 + 11 + 1 = X 2 l0 + 12 by omega, show X 2 l0 + 11 + 2 = X 2 l0 + 13 by omega]
  rw [ew]
  generalize (if z = -2 then c_pl X l0 (X mo 1) 1 else c_pl X l0 (X mo 1) 2) = w0
  have hMt := c_M_tr (g := z + 3) (w := w0) hmo hl0 (by omega) (by omega) (by omega)
  have hF := s_tr_fr (X := X) (mo := mo) (l := l0) (t := X mo 1) (g := z + 3) (w := w0) (z := max (X mo 3) (X (mo + 1 + 1 + 2 * l0) 3)) (by omega)
  have hat := s_tr_at (X := x_up X mo 3 (max (X mo 3) (X (mo + 1 + 1 + 2 * l0) 3))) (a := mo + 1 + 1 + 2 * l0) (t := X mo 1) (g := z + 3) (w := w0)
  rw [u3 (mo + 1 + 1 + 2 * l0) (by omega)] at hat
  have hot : ∀ b, b ≠ mo + 1 + 1 + 2 * l0 ∧ b ≠ mo + 1 + 1 + 2 * l0 + 1 → s_tr (x_up X mo 3 (max (X mo 3) (X (mo + 1 + 1 + 2 * l0) 3))) (mo + 1 + 1 + 2 * l0) (X mo 1) (z + 3) w0 b = x_up X mo 3 (max (X mo 3) (X (mo + 1 + 1 + 2 * l0) 3)) b := fun b hb => s_tr_o hb
  generalize hYt : s_tr (x_up X mo 3 (max (X mo 3) (X (mo + 1 + 1 + 2 * l0) 3))) (mo + 1 + 1 + 2 * l0) (X mo 1) (z + 3) w0 = Yt at hMt hF hat hot ⊢
  have y1 : Yt mo 1 = X mo 1 := by rw [hot mo (by omega), u31]
  have y2 : Yt mo 2 = X mo 2 := by rw [hot mo (by omega), x_up_n X (Or.inr (by omega))]
  have yn : Yt 1 2 = X 1 2 := congrFun (hF 1 (by omega)) 2
  have hJt : c_J Yt mo := by
    intro l l1 l2 l3
    by_cases e : l = l0
    · subst e; rw [hat.2.1, hat.2.2, y2]; omega
    · rw [hot (mo + 1 + 1 + 2 * l) (by omega), u3 _ (by omega)] at l3 ⊢; rw [y2]; exact hJ l l1 (by omega) l3
  have hop := hI.op hF hmo hm2
  refine x_aload_n B dX2_tries_53 rfl ?_
  refine x_getC1 B (k := 0) hT rfl rfl xc_2 (by decide) hm (Or.inl q242) (fun _ h => h) dX2_tries_54 (fun k_54 => ?_)
  refine x_iload_n B dX2_tries_57 rfl ?_
  refine x_aaldC B (t := 10) hT k_54 rfl rfl rfl rfl ⟨by omega, by omega⟩ dX2_tries_58 (fun k_58 => ?_)
  refine x_getI B (k := 3) 3 rfl rfl xc_3 (by decide) k_58 (Or.inr q210) (fun _ h => h) dX2_tries_59 (fun r_59 => ?_)
  refine x_ist_3 B dX2_tries_62 (by first | rfl | exact x_cr _ _) ?_
  refine x_aload_n B dX2_tries_63 rfl ?_
  refine x_go (x_rV B hm (show x_cl[2]? = some _ from rfl) (c_X2_goesOn (hI.fr hF hmo) hm hmo hm2 ⟨by omega, by omega⟩ ⟨by omega, by omega⟩ hJt) (lw_V q897 q899 qs18 q114 q900) hv_X2_goesOn ⟨by decide, by decide⟩ ⟨by decide, by decide⟩ rfl rfl (by simp [x_cr, x_c1, x_c2]) dX2_tries_64) (fun v_64 X_64 p_64 => ?_)
  obtain ⟨rfl, hf2, hM2, hJ2, -, -⟩ := p_64
  refine x_iload_n B dX2_tries_67 rfl ?_
  refine x_iret B (fun _ _ h => h) ?_ dX2_tries_68
  have yv : c_M Yt mo l0 3 = Yt (mo + 1 + 1 + 2 * l0) 3 := c_M_s (by omega) (by omega)
  refine ⟨by rw [← yv, hMt], hF.trans hf2, ?_, hJ2⟩
  rw [hM2, yn, hop.1, hop.2, hMt]
