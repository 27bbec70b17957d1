/-- meets drawn: the meet, what was tried, rows, draws have moved, nothing else -/
def p_fr (X Y : x_X) : Prop := (∀ a, (a < 3 ∨ 16 < a) → (a < 32 ∨ 36 < a) → a ≠ 0 → Y a = X a) ∧ ∀ i, i ≠ 7 → i ≠ 12 → i ≠ 17 → Y 0 i = X 0 i
theorem p_fr.rf (X : x_X) : p_fr X X := ⟨fun _ _ _ _ => rfl, fun _ _ _ _ => rfl⟩
theorem p_fr.trans {X Y Z : x_X} (h : p_fr X Y) (h2 : p_fr Y Z) : p_fr X Z := ⟨fun a a1 a2 a3 => (h2.1 a a1 a2 a3).trans (h.1 a a1 a2 a3), fun i i1 i2 i3 => (h2.2 i i1 i2 i3).trans (h.2 i i1 i2 i3)⟩
theorem p_fr.l {κ : x_Ka} {X Y : x_X} (h : p_fr X Y) (hI : n_I κ X) : l_eq X Y := ⟨h.1 1 (by omega) (by omega) (by omega), h.1 2 (by omega) (by omega) (by omega), fun l l1 l2 j j1 j2 => h.1 _ (by have := hI.2.2.2.2 l l1 l2; omega) (by have := hI.2.2.2.2 l l1 l2; omega) (by have := hI.2.2.2.2 l l1 l2; omega), h.2 1 (by omega) (by omega) (by omega)⟩
theorem p_fr.up17 {X : x_X} {z : Int} : p_fr X (x_up X 0 17 z) := ⟨fun a a1 a2 a3 => x_up_o _ a3, fun i i1 i2 i3 => x_up_n _ (Or.inr i3)⟩
theorem p_fr.lg {X Y : x_X} {l t x g : Int} (h : c_fr 3 (c_lg X l t x g) Y) : p_fr X Y := ⟨fun a a1 a2 a3 => (h a (by omega)).trans (c_lg_o ⟨a3, by omega⟩), fun i i1 i2 i3 => by rw [h 0 (by omega)]; exact c_lg_0 i2⟩
theorem o_fr.p {X Y : x_X} (h : o_fr X Y) : p_fr X Y := ⟨fun a a1 a2 a3 => h.1 a a3 (by omega), fun i i1 i2 i3 => h.2 i i1⟩
theorem c_M_17 {X : x_X} {z : Int} (hn : X 1 2 ≤ 6) : c_M (x_up X 0 17 z) 3 = c_M X 3 := by
  have e : ∀ a, a ≠ 0 → x_up X 0 17 z a = X a := fun a h => x_up_o X h
  funext l f
  unfold c_M
  rw [e 1 (by omega), e 3 (by omega)]
  by_cases q : l = -1
  · rw [if_pos q, if_pos q]
  · rw [if_neg q, if_neg q]
    by_cases q2 : 0 ≤ l ∧ l < X 1 2
    · rw [if_pos q2, if_pos q2, e (3 + 1 + 1 + 2 * l) (by omega), e (3 + 1 + 1 + 2 * l + 1) (by omega)]
    · rw [if_neg q2, if_neg q2]
theorem c_G_17 {X : x_X} {z : Int} : c_G (x_up X 0 17 z) = c_G X := by
  have e : ∀ a, a ≠ 0 → x_up X 0 17 z a = X a := fun a h => x_up_o X h
  funext k w
  unfold c_G
  rw [e 33 (by omega), e 34 (by omega), e 35 (by omega), e 36 (by omega), x_up_n X (Or.inr (by omega))]
/-- what it takes to go on with tries -/
theorem n_C.of {κ : x_Ka} {X Y : x_X} (hC : n_C κ X) (h : l_eq X Y) (hW : m_W (X 1 2) (c_M Y 3)) (hJ : c_J Y 3) : n_C κ Y := by
  obtain ⟨a, b, c⟩ := h.n hC.1 hC.2.1 hC.2.2.1
  exact ⟨a, b, c, by rw [h.1]; exact hW, hJ⟩
/-- the run by draws, of the component's views -/
def q_run (X : x_X) (d : Int) (M : x_X) (c : Int) (G : x_X) : Int × x_X × Int × x_X := y_run (X 1 2) (c_lot X) (c_p3 X) (c_O X) 60 d M c G
theorem c_X1_plays {l : Launch} {E : x_E} {κ : x_Ka} {X : x_X} {sd : Int} (hC : n_C κ X) (hD : ∀ M, m_W (X 1 2) M → n_D X M) (h12 : 0 ≤ X 0 12 ∧ X 0 12 ≤ m_T (X 1 2) (c_M X 3)) (hs : xR sd) : x_Met l yX1_plays cX1_plays 4 (some .int) 8 0 0 E κ X [x_rf E 0, vi sd] κ (fun v_ Y_ => if (m_cal (X 1 2) (c_lot X) (c_M X 3)) = -1 then (v_ = some (vi (-2)) ∧ Y_ = X) else (v_ = some (vi ((q_run X sd (c_M X 3) (X 0 12) (c_G X)).2.2.1 - X 0 12)) ∧ p_fr X Y_ ∧ c_M Y_ 3 = (q_run X sd (c_M X 3) (X 0 12) (c_G X)).2.1 ∧ c_J Y_ 3 ∧ Y_ 0 12 = (q_run X sd (c_M X 3) (X 0 12) (c_G X)).2.2.1 ∧ c_G Y_ = (q_run X sd (c_M X 3) (X 0 12) (c_G X)).2.2.2 ∧ Y_ 0 7 = X 1 2 ∧ ∀ k, 0 ≤ k → k < X 1 2 → Y_ 32 k = q_pl (X 1 2) (c_li X) (q_run X sd (c_M X 3) (X 0 12) (c_G X)).2.1 k)) := by
  refine x_Met.of [(false, x_rf E 0), (false, vi sd)] [some (x_rf E 0), some (vi sd), none, none] 2 (by decide) rfl rfl ⟨x_cr E (0), rfl, trivial⟩ rfl rfl ?_
  intro p e s m args below meth c hargs hin B
  obtain ⟨hI, hP, hO, hW, hJ⟩ := id hC
  obtain ⟨hT, h0, hn, hl, hla⟩ := id hI
  have hcr := m_cb_r (c_lot X) (c_M X 3) (X 1 2).toNat
  have hcr2 : -1 ≤ (m_cal (X 1 2) (c_lot X) (c_M X 3)) ∧ (m_cal (X 1 2) (c_lot X) (c_M X 3)) < X 1 2 := by unfold m_cal; omega
  have lp_32 : ∀ (n : Nat) (f : Nat) (Y : x_X) (l0 : Int), ((m_cal (X 1 2) (c_lot X) (c_M X 3)) ≠ -1 ∧ X 0 12 ≤ 53 ∧ p_fr X Y ∧ (m_W (X 1 2) (c_M Y 3) ∧ c_J Y 3) ∧ (0 ≤ Y 0 12 ∧ Y 0 12 ≤ m_T (X 1 2) (c_M Y 3)) ∧ (Y 0 12 ≤ 54 ∧ 60 - Y 0 12 ≤ f) ∧ l0 = m_cal (X 1 2) (c_lot X) (c_M Y 3) ∧ (q_run X sd (c_M X 3) (X 0 12) (c_G X)) = y_run (X 1 2) (c_lot X) (c_p3 X) (c_O X) f (Y 0 17) (c_M Y 3) (Y 0 12) (c_G Y)) → ((60 - Y 0 12).toNat < n) → x_G p l e (x_rm 8 0 0) s m args below meth c 4 E 0 0 (MQ below (x_Q E κ (fun v_ Y_ => if (m_cal (X 1 2) (c_lot X) (c_M X 3)) = -1 then (v_ = some (vi (-2)) ∧ Y_ = X) else (v_ = some (vi ((q_run X sd (c_M X 3) (X 0 12) (c_G X)).2.2.1 - X 0 12)) ∧ p_fr X Y_ ∧ c_M Y_ 3 = (q_run X sd (c_M X 3) (X 0 12) (c_G X)).2.1 ∧ c_J Y_ 3 ∧ Y_ 0 12 = (q_run X sd (c_M X 3) (X 0 12) (c_G X)).2.2.1 ∧ c_G Y_ = (q_run X sd (c_M X 3) (X 0 12) (c_G X)).2.2.2 ∧ Y_ 0 7 = X 1 2 ∧ ∀ k, 0 ≤ k → k < X 1 2 → Y_ 32 k = q_pl (X 1 2) (c_li X) (q_run X sd (c_M X 3) (X 0 12) (c_G X)).2.1 k))) args s 0 0 (fun q => E.1 ≤ q)) κ 32 [some (x_rf E 0), some (vi sd), some (vi (X 0 12)), some (vi l0)] [] Y := by
    intro n
    induction n with
    | zero => intro f Y l0 hinv hme; exfalso; omega
    | succ n ih =>
      intro f Y l0 hinv hme
      obtain ⟨hne, h53, hp, ⟨hW, hJ⟩, hc12, hfu, hl0, hq⟩ := hinv
      have hle := hp.l hI
      have hCY := hC.of hle hW hJ
      have y1 : Y 1 2 = X 1 2 := congrFun hle.1 2
      have hcrY := m_cb_r (c_lot X) (c_M Y 3) (X 1 2).toNat
      have hl0r : -1 ≤ l0 ∧ l0 < X 1 2 := by rw [hl0]; unfold m_cal; omega
      obtain ⟨hIY, hPY, hOY, hWY, hJY⟩ := id hCY
      refine x_iload_n B dX1_plays_32 rfl ?_
      refine x_iconst B dX1_plays_33 ?_
      refine x_icmp_eq B (tgt := 65) dX1_plays_34 (by decide) ⟨by omega, by omega⟩ ⟨by omega, by omega⟩ (fun h_34 => ?_) (fun h_34 => ?_)
      · refine x_aload_n B dX1_plays_65 rfl ?_
        refine x_aload_n B dX1_plays_66 rfl ?_
        refine x_getC0 B (k := 2) hT rfl rfl xc_0 (by decide) h0 (Or.inl q400) (fun _ h => h) dX1_plays_67 (fun k_67 => ?_)
        refine x_go (x_rV B h0 (show x_cl[0]? = some _ from rfl) (c_X1_tellPlaces hCY (by rw [show n_D Y (c_M Y 3) = n_D X (c_M Y 3) by unfold n_D; rw [y1, hle.li]]; exact hD _ hW)) (lw_V q909 q911 qs19 q110 q912) hv_X1_tellPlaces ⟨by decide, by decide⟩ ⟨by decide, by decide⟩ rfl rfl (by simp [x_cr, x_c1, x_c2]) dX1_plays_70) (fun v_70 X_70 p_70 => ?_)
        obtain ⟨rfl, hf4, h74, hr4⟩ := p_70
        have e12b : X_70 0 12 = Y 0 12 := hf4.2 12 (by omega)
        refine x_aload_n B dX1_plays_73 rfl ?_
        refine x_getI B (k := 12) 12 rfl rfl xc_0 (by decide) h0 (Or.inl q413) (fun _ h => h) dX1_plays_74 (fun r_74 => ?_)
        rw [e12b]
        refine x_iload_n B dX1_plays_77 rfl ?_
        refine x_isub B dX1_plays_78 ?_
        refine x_iret B (fun _ _ h => h) ?_ dX1_plays_79
        rw [if_neg hne]
        have hse := y_run_e (n := X 1 2) (lot := c_lot X) (pl := c_p3 X) (O := c_O X) (f := f) (d := Y 0 17) (M := c_M Y 3) (c := Y 0 12) (G := c_G Y) (by rw [← hl0]; exact h_34)
        rw [hq, hse]
        have hv4 := hf4.v hIY
        refine ⟨rfl, hp.trans hf4.p, hv4.M (by rw [y1]; exact hn.2), ?_, e12b, ?_, by rw [h74, y1], fun k k1 k2 => ?_⟩
        · intro l l1 l2; rw [hv4.1 1 (by omega) (by omega)] at l2; rw [hv4.1 3 (by omega) (by omega), hv4.1 (3 + 1 + 1 + 2 * l) (by omega) (by omega)]; exact hJ l l1 l2
        · funext k w; unfold c_G; rw [e12b, hf4.1 33 (by omega) (by omega), hf4.1 34 (by omega) (by omega), hf4.1 35 (by omega) (by omega), hf4.1 36 (by omega) (by omega)]
        · have := hr4 k k1 (by rw [y1]; exact k2); rw [this, y1, hle.li]
      · have hco := m_cb_ok (c_lot X) (c_M Y 3) (X 1 2).toNat (by intro q; apply h_34; rw [hl0]; exact q)
        have hco2 : c_M Y 3 l0 3 > 0 ∧ c_M Y 3 l0 6 = 0 := by rw [hl0]; exact hco
        have hr0 : 0 ≤ l0 ∧ l0 < X 1 2 := by omega
        have w1 := hW.1
        have w2 := hW.2.1 l0 hr0.1 hr0.2
        have w3 := hW.2.2 l0 hr0.1 hr0.2
        have hlt : c_M Y 3 (-1) 1 < 3 := by rcases Int.lt_or_le (c_M Y 3 (-1) 1) 3 with q | q; exact q; exfalso; have := w3.2.1 (by omega); omega
        have g1 : c_M Y 3 (-1) 1 = Y 3 1 := c_M_g (by omega)
        have s3 : c_M Y 3 l0 3 = Y (3 + 1 + 1 + 2 * l0) 3 := c_M_s (by rw [y1]; exact hr0) (by omega)
        have s2 : c_M Y 3 l0 2 = Y (3 + 1 + 1 + 2 * l0) 2 := c_M_s (by rw [y1]; exact hr0) (by omega)
        have hm := m_T_53 (lot := c_lot X) hn hW (by rw [← hl0]; exact h_34)
        refine x_aload_n B dX1_plays_37 rfl ?_
        refine x_aload_n B dX1_plays_38 rfl ?_
        refine x_aload_n B dX1_plays_39 rfl ?_
        refine x_getC0 B (k := 2) hT rfl rfl xc_0 (by decide) h0 (Or.inl q400) (fun _ h => h) dX1_plays_40 (fun k_40 => ?_)
        refine x_iload_n B dX1_plays_43 rfl ?_
        refine x_goP (x_rV B k_40 (show x_cl[2]? = some _ from rfl) (c_X2_odds hIY (show κ 3 = some (.inl (2, 1)) from hT.1 0 0 h0 2 (0, 3, .inl (2, 1)) rfl) hOY ⟨by omega, by rw [y1]; omega⟩ ⟨by omega, by omega⟩ ⟨by omega, by omega⟩) (lw_V q810 q811 q812 q114 q813) hv_X2_odds ⟨by decide, by decide⟩ ⟨by decide, by decide⟩ rfl rfl (by simp [x_cr, x_c1, x_c2]) dX1_plays_44) ?_
        rw [← g1, ← s3, ← s2, hle.O]
        have hOr := c_O_r (x := c_M Y 3 l0 3) (f := c_M Y 3 l0 2) (t := c_M Y 3 (-1) 1) hC hr0 ⟨by omega, hlt⟩ (by omega)
        refine x_goP (x_rV B h0 (show x_cl[0]? = some _ from rfl) (c_X1_isDrawnGood hT h0 ⟨by omega, by omega⟩) (lw_V q1276 q1278 qs37 q110 q1279) hv_X1_isDrawnGood ⟨by decide, by decide⟩ ⟨by decide, by decide⟩ rfl rfl (by simp [x_cr, x_c1, x_c2]) dX1_plays_47) ?_
        have hn6 : Y 1 2 ≤ 6 := by rw [y1]; exact hn.2
        have hgr : 0 ≤ (if d_rl (d_nx (Y 0 17)) < c_O X l0 (c_M Y 3 (-1) 1) (c_M Y 3 l0 3) (c_M Y 3 l0 2) then (1 : Int) else 0) ∧ (if d_rl (d_nx (Y 0 17)) < c_O X l0 (c_M Y 3 (-1) 1) (c_M Y 3 l0 3) (c_M Y 3 l0 2) then (1 : Int) else 0) ≤ (1 : Int) := by split <;> omega
        have hgy : (if d_rl (d_nx (Y 0 17)) < c_O X l0 (c_M Y 3 (-1) 1) (c_M Y 3 l0 3) (c_M Y 3 l0 2) then (1 : Int) else 0) = y_g (X 1 2) (c_lot X) (c_O X) (Y 0 17) (c_M Y 3) := by unfold y_g; rw [← hl0]
        generalize hgg : (if d_rl (d_nx (Y 0 17)) < c_O X l0 (c_M Y 3 (-1) 1) (c_M Y 3 l0 3) (c_M Y 3 l0 2) then (1 : Int) else 0) = g at hgr hgy ⊢
        have hpd := (hp.trans (p_fr.up17 (X := Y) (z := d_nx (Y 0 17))))
        have hld := hpd.l hI
        have hCd : n_C κ (x_up Y 0 17 (d_nx (Y 0 17))) := hC.of hld (by rw [c_M_17 hn6]; exact hW) (fun l l1 l2 => by rw [x_up_o Y (by omega)] at l2; rw [x_up_o Y (by omega), x_up_o Y (by omega)]; exact hJ l l1 l2)
        have e12a : x_up Y 0 17 (d_nx (Y 0 17)) 0 12 = Y 0 12 := x_up_n Y (Or.inr (by omega))
        have d1 : x_up Y 0 17 (d_nx (Y 0 17)) 1 2 = X 1 2 := congrFun hld.1 2
        have dL := hld.bl.2
        have dp := hld.p3
        have e17a : x_up Y 0 17 (d_nx (Y 0 17)) 0 17 = d_nx (Y 0 17) := x_up_s _ _ _ _
        refine x_go (x_rV B h0 (show x_cl[0]? = some _ from rfl) (c_X1_triesNow hCd ⟨by rw [e12a]; omega, by rw [e12a]; omega⟩ hgr (by rw [d1, dL, c_M_17 hn6, ← hl0]; exact h_34)) (lw_V q836 q838 qs17 q110 q839) hv_X1_triesNow ⟨by decide, by decide⟩ ⟨by decide, by decide⟩ rfl rfl (by simp [x_cr, x_c1, x_c2]) dX1_plays_50) (fun v_50 X_50 p_50 => ?_)
        obtain ⟨rfl, hf3, hM3, hJ3⟩ := p_50
        have hG3 := c_G_lg hf3 (by rw [e12a]; exact hc12.1)
        obtain ⟨hG3, e12⟩ := hG3
        have hp3 : p_fr X X_50 := hpd.trans (p_fr.lg hf3)
        have e17 : X_50 0 17 = d_nx (Y 0 17) := by rw [hf3 0 (by omega), c_lg_0 (by omega), e17a]
        rw [d1, dL, dp, c_M_17 hn6, hgy] at hM3
        rw [d1, dL, c_M_17 hn6, e12a, c_G_17, hgy] at hG3
        rw [e12a] at e12
        have hyw := y_M_W (g := y_g (X 1 2) (c_lot X) (c_O X) (Y 0 17) (c_M Y 3)) (lot := c_lot X) hn.1 (c_p3_r hP) hW (by rw [← hgy]; exact hgr) (by rw [← hl0]; exact h_34)
        have hW3 : m_W (X 1 2) (c_M X_50 3) := by rw [hM3]; exact hyw.1.1
        have hT3 : m_T (X 1 2) (c_M Y 3) + 1 ≤ m_T (X 1 2) (c_M X_50 3) := by rw [hM3]; exact hyw.1.2
        have hl3 := hp3.l hI
        have hI3 := (hC.of hl3 hW3 hJ3).1
        have x1 : X_50 1 2 = X 1 2 := congrFun hl3.1 2
        refine x_pop B dX1_plays_53 (by first | rfl | exact x_cr _ _) ?_
        refine x_aload_n B dX1_plays_54 rfl ?_
        refine x_getC0 B (k := 2) hT rfl rfl xc_0 (by decide) h0 (Or.inl q400) (fun _ h => h) dX1_plays_55 (fun k_55 => ?_)
        refine x_goP (x_rV B k_55 (show x_cl[2]? = some _ from rfl) (c_X2_called hI3 (show κ 3 = some (.inl (2, 1)) from hT.1 0 0 h0 2 (0, 3, .inl (2, 1)) rfl) (by omega)) (lw_V q797 q798 q799 q114 q800) hv_X2_called ⟨by decide, by decide⟩ ⟨by decide, by decide⟩ rfl rfl (by simp [x_cr, x_c1, x_c2]) dX1_plays_58) ?_
        rw [x1, hl3.bl.2]
        refine x_ist_3 B dX1_plays_61 (by first | rfl | exact x_cr _ _) ?_
        refine x_goto B (tgt := 32) dX1_plays_62 (by decide) ?_
        refine ih (f - 1) _ _ ⟨hne, h53, hp3, ⟨hW3, hJ3⟩, ⟨by omega, by omega⟩, ⟨by omega, by omega⟩, rfl, ?_⟩ (by omega)
        have hst := y_run_s (n := X 1 2) (lot := c_lot X) (pl := c_p3 X) (O := c_O X) (f := f - 1) (d := Y 0 17) (M := c_M Y 3) (c := Y 0 12) (G := c_G Y) (by rw [← hl0]; exact h_34)
        rw [show f - 1 + 1 = f by omega] at hst
        rw [hq, hst, e17, hM3, e12, hG3]
        rfl
  refine x_aload_n B dX1_plays_0 rfl ?_
  refine x_getC0 B (k := 2) hT rfl rfl xc_0 (by decide) h0 (Or.inl q400) (fun _ h => h) dX1_plays_1 (fun k_1 => ?_)
  refine x_goP (x_rV B k_1 (show x_cl[2]? = some _ from rfl) (c_X2_called hI (show κ 3 = some (.inl (2, 1)) from hT.1 0 0 h0 2 (0, 3, .inl (2, 1)) rfl) (by omega)) (lw_V q797 q798 q799 q114 q800) hv_X2_called ⟨by decide, by decide⟩ ⟨by decide, by decide⟩ rfl rfl (by simp [x_cr, x_c1, x_c2]) dX1_plays_4) ?_
  refine x_iconst B dX1_plays_7 ?_
  refine x_icmp_ne B (tgt := 14) dX1_plays_8 (by decide) ⟨by omega, by omega⟩ ⟨by omega, by omega⟩ (fun h_8 => ?_) (fun h_8 => ?_)
  · refine x_aload_n B dX1_plays_14 rfl ?_
    refine x_iload_n B dX1_plays_15 rfl ?_
    refine x_putI B (k := 17) 17 rfl rfl rfl ⟨by omega, by omega⟩ xc_0 (by decide) rfl nn_0_17 (fun _ => rfl) h0 (Or.inl q418) (fun _ h => h) dX1_plays_16 ?_
    have hIs : n_I κ (x_up X 0 17 sd) := (((p_fr.up17 (z := sd)).l hI).n hI hP hO).1
    refine x_aload_n B dX1_plays_19 rfl ?_
    refine x_getI B (k := 12) 12 rfl rfl xc_0 (by decide) h0 (Or.inl q413) (fun _ h => h) dX1_plays_20 (fun r_20 => ?_)
    rw [x_up_n X (Or.inr (by omega))] at r_20 ⊢
    refine x_ist_2 B dX1_plays_23 (by first | rfl | exact x_cr _ _) ?_
    refine x_aload_n B dX1_plays_24 rfl ?_
    refine x_getC0 B (k := 2) hT rfl rfl xc_0 (by decide) h0 (Or.inl q400) (fun _ h => h) dX1_plays_25 (fun k_25 => ?_)
    refine x_goP (x_rV B k_25 (show x_cl[2]? = some _ from rfl) (c_X2_called hIs (show κ 3 = some (.inl (2, 1)) from hT.1 0 0 h0 2 (0, 3, .inl (2, 1)) rfl) (by omega)) (lw_V q797 q798 q799 q114 q800) hv_X2_called ⟨by decide, by decide⟩ ⟨by decide, by decide⟩ rfl rfl (by simp [x_cr, x_c1, x_c2]) dX1_plays_28) ?_
    refine x_ist_3 B dX1_plays_31 (by first | rfl | exact x_cr _ _) ?_
    have e1 : x_up X 0 17 sd 1 2 = X 1 2 := congrFun (x_up_o X (by omega)) 2
    have hm := m_T_53 (lot := c_lot X) hn hW h_8
    have e12 : x_up X 0 17 sd 0 12 = X 0 12 := x_up_n X (Or.inr (by omega))
    rw [e1, c_M_17 hn.2, ((p_fr.up17 (z := sd)).l hI).bl.2]
    refine lp_32 _ 60 _ _ ⟨h_8, by omega, p_fr.up17, ⟨by rw [c_M_17 hn.2]; exact hW, ?_⟩, ⟨by omega, by rw [c_M_17 hn.2]; omega⟩, ⟨by omega, by omega⟩, by rw [c_M_17 hn.2], ?_⟩ (Nat.lt_succ_self _)
    · intro l l1 l2; rw [e1] at l2; rw [x_up_o X (by omega), x_up_o X (by omega)]; exact hJ l l1 l2
    · unfold q_run; rw [x_up_s, c_M_17 hn.2, e12, c_G_17]
  · refine x_bipush B dX1_plays_11 (by decide) ?_
    refine x_iret B (fun _ _ h => h) ?_ dX1_plays_13
    rw [if_pos (by omega)]; exact ⟨rfl, rfl⟩
theorem c_J_tk {X : x_X} (h : c_J X 3) (hn : 0 ≤ X 1 2 ∧ X 1 2 ≤ 6) : c_J (c_tk X 17 3 6) 17 := by
  intro l l1 l2
  rw [c_fr_tk 1 (by omega)] at l2
  have e : ∀ i, 1 ≤ i → i ≤ 7 → c_tk X 17 3 6 (17 + 1 + 1 + 2 * l) i = X (3 + 1 + 1 + 2 * l) i := fun i i1 i2 => by
    unfold c_tk
    rw [if_neg (by omega), if_pos (by omega), show 17 + 1 + 1 + 2 * l - 17 + 3 = 3 + 1 + 1 + 2 * l by omega]
  have e2 : c_tk X 17 3 6 17 2 = X 3 2 := by unfold c_tk; rw [if_pos (by omega)]
  rw [e 3 (by omega) (by omega), e 1 (by omega) (by omega), e 6 (by omega) (by omega), e2]
  exact h l l1 l2
/-- draws and the trial: scratch -/
theorem k_eq.n17 {X Y : x_X} (h : k_eq X Y) {z : Int} : k_eq X (x_up Y 0 17 z) := h.up7 (Or.inr rfl)
theorem f_eq.fr17 {X Y Z : x_X} (h : f_eq X Y) (hf : c_fr 17 Y Z) : f_eq X Z := fun a a1 a2 => (hf a (by omega)).trans (h a a1 a2)
theorem c_M_17b {X : x_X} {z : Int} (hn : X 1 2 ≤ 6) : c_M (x_up X 0 17 z) 17 = c_M X 17 := by
  have e : ∀ a, a ≠ 0 → x_up X 0 17 z a = X a := fun a h => x_up_o X h
  funext l f
  unfold c_M
  rw [e 1 (by omega), e 17 (by omega)]
  by_cases q : l = -1
  · rw [if_pos q, if_pos q]
  · rw [if_neg q, if_neg q]
    by_cases q2 : 0 ≤ l ∧ l < X 1 2
    · rw [if_pos q2, if_pos q2, e (17 + 1 + 1 + 2 * l) (by omega), e (17 + 1 + 1 + 2 * l + 1) (by omega)]
    · rw [if_neg q2, if_neg q2]
theorem c_X1_often {l : Launch} {E : x_E} {κ : x_Ka} {X : x_X} {i w sd : Int} (hC : n_C κ X) (k87 : κ 87 = some (.inr (1, 1))) (hx : xR i) (hw0 : xR w) (hs : xR sd) : x_Met l yX1_often cX1_often 9 (some .int) 8 0 0 E κ X [x_rf E 0, vi i, vi w, vi sd] κ (fun v_ Y_ => if x_in i 0 (X 1 2 - 1) = 1 ∧ x_in w 1 50 = 1 then (v_ = some (vi (y_oft (fun d => ((q_run X d (c_M X 3) 0 (fun _ _ => 0)).1, (q_run X d (c_M X 3) 0 (fun _ _ => 0)).2.1)) (fun M => m_cnt (c_li X) M i (X 1 2).toNat) i w.toNat sd).2.1) ∧ k_eq X Y_ ∧ f_eq X Y_ ∧ Y_ 0 7 = 2 ∧ Y_ 32 0 = (y_oft (fun d => ((q_run X d (c_M X 3) 0 (fun _ _ => 0)).1, (q_run X d (c_M X 3) 0 (fun _ _ => 0)).2.1)) (fun M => m_cnt (c_li X) M i (X 1 2).toNat) i w.toNat sd).2.2.1 ∧ Y_ 32 1 = (y_oft (fun d => ((q_run X d (c_M X 3) 0 (fun _ _ => 0)).1, (q_run X d (c_M X 3) 0 (fun _ _ => 0)).2.1)) (fun M => m_cnt (c_li X) M i (X 1 2).toNat) i w.toNat sd).2.2.2) else (v_ = some (vi (-1)) ∧ Y_ = X)) := by
  refine x_Met.of [(false, x_rf E 0), (false, vi i), (false, vi w), (false, vi sd)] [some (x_rf E 0), some (vi i), some (vi w), some (vi sd), none, none, none, none, none] 5 (by decide) rfl rfl ⟨x_cr E (0), rfl, rfl, rfl, trivial⟩ rfl rfl ?_
  intro p e s m args below meth c hargs hin B
  obtain ⟨hI, hP, hO, hW, hJ⟩ := id hC
  obtain ⟨hT, h0, hn, hl, hla⟩ := id hI
  refine x_lows (fun hlow => ?_)
  have hlo := hI.lo k87 hlow
  have hlo0 := hlo.1
  have z1 := x_in_01 i 0 (X 1 2 - 1)
  have z2 := x_in_01 w 1 50
  have lp_39 : ∀ (n : Nat) (k : Int) (Y : x_X), ((0 ≤ i ∧ i < X 1 2) ∧ (1 ≤ w ∧ w ≤ 50) ∧ (0 ≤ k ∧ k ≤ w) ∧ (k_eq X Y ∧ f_eq X Y) ∧ Y 0 17 = (y_oft (fun d => ((q_run X d (c_M X 3) 0 (fun _ _ => 0)).1, (q_run X d (c_M X 3) 0 (fun _ _ => 0)).2.1)) (fun M => m_cnt (c_li X) M i (X 1 2).toNat) i k.toNat sd).1 ∧ ((0 ≤ (y_oft (fun d => ((q_run X d (c_M X 3) 0 (fun _ _ => 0)).1, (q_run X d (c_M X 3) 0 (fun _ _ => 0)).2.1)) (fun M => m_cnt (c_li X) M i (X 1 2).toNat) i k.toNat sd).2.1 ∧ (y_oft (fun d => ((q_run X d (c_M X 3) 0 (fun _ _ => 0)).1, (q_run X d (c_M X 3) 0 (fun _ _ => 0)).2.1)) (fun M => m_cnt (c_li X) M i (X 1 2).toNat) i k.toNat sd).2.1 ≤ k) ∧ (0 ≤ (y_oft (fun d => ((q_run X d (c_M X 3) 0 (fun _ _ => 0)).1, (q_run X d (c_M X 3) 0 (fun _ _ => 0)).2.1)) (fun M => m_cnt (c_li X) M i (X 1 2).toNat) i k.toNat sd).2.2.1 ∧ (y_oft (fun d => ((q_run X d (c_M X 3) 0 (fun _ _ => 0)).1, (q_run X d (c_M X 3) 0 (fun _ _ => 0)).2.1)) (fun M => m_cnt (c_li X) M i (X 1 2).toNat) i k.toNat sd).2.2.1 ≤ k) ∧ (0 ≤ (y_oft (fun d => ((q_run X d (c_M X 3) 0 (fun _ _ => 0)).1, (q_run X d (c_M X 3) 0 (fun _ _ => 0)).2.1)) (fun M => m_cnt (c_li X) M i (X 1 2).toNat) i k.toNat sd).2.2.2 ∧ (y_oft (fun d => ((q_run X d (c_M X 3) 0 (fun _ _ => 0)).1, (q_run X d (c_M X 3) 0 (fun _ _ => 0)).2.1)) (fun M => m_cnt (c_li X) M i (X 1 2).toNat) i k.toNat sd).2.2.2 ≤ 120 * k))) → ((51 - k).toNat < n) → x_G p l e (x_rm 8 0 0) s m args below meth c 9 E 0 0 (MQ below (x_Q E κ (fun v_ Y_ => if x_in i 0 (X 1 2 - 1) = 1 ∧ x_in w 1 50 = 1 then (v_ = some (vi (y_oft (fun d => ((q_run X d (c_M X 3) 0 (fun _ _ => 0)).1, (q_run X d (c_M X 3) 0 (fun _ _ => 0)).2.1)) (fun M => m_cnt (c_li X) M i (X 1 2).toNat) i w.toNat sd).2.1) ∧ k_eq X Y_ ∧ f_eq X Y_ ∧ Y_ 0 7 = 2 ∧ Y_ 32 0 = (y_oft (fun d => ((q_run X d (c_M X 3) 0 (fun _ _ => 0)).1, (q_run X d (c_M X 3) 0 (fun _ _ => 0)).2.1)) (fun M => m_cnt (c_li X) M i (X 1 2).toNat) i w.toNat sd).2.2.1 ∧ Y_ 32 1 = (y_oft (fun d => ((q_run X d (c_M X 3) 0 (fun _ _ => 0)).1, (q_run X d (c_M X 3) 0 (fun _ _ => 0)).2.1)) (fun M => m_cnt (c_li X) M i (X 1 2).toNat) i w.toNat sd).2.2.2) else (v_ = some (vi (-1)) ∧ Y_ = X))) args s 0 0 (fun q => E.1 ≤ q)) κ 39 [some (x_rf E 0), some (vi i), some (vi w), some (vi sd), some (vi (y_oft (fun d => ((q_run X d (c_M X 3) 0 (fun _ _ => 0)).1, (q_run X d (c_M X 3) 0 (fun _ _ => 0)).2.1)) (fun M => m_cnt (c_li X) M i (X 1 2).toNat) i k.toNat sd).2.1), some (vi (y_oft (fun d => ((q_run X d (c_M X 3) 0 (fun _ _ => 0)).1, (q_run X d (c_M X 3) 0 (fun _ _ => 0)).2.1)) (fun M => m_cnt (c_li X) M i (X 1 2).toNat) i k.toNat sd).2.2.1), some (vi (y_oft (fun d => ((q_run X d (c_M X 3) 0 (fun _ _ => 0)).1, (q_run X d (c_M X 3) 0 (fun _ _ => 0)).2.1)) (fun M => m_cnt (c_li X) M i (X 1 2).toNat) i k.toNat sd).2.2.2), some (vi k), none] [] Y := by
    intro n
    induction n with
    | zero => intro k Y hinv hme; exfalso; omega
    | succ n ih =>
      intro k Y hinv hme
      have ih39 := ih
      obtain ⟨hi, hw, hk, ⟨hke, hfe⟩, h17, ho1, ho2, ho3⟩ := hinv
      have hos := y_oft_s (fun d => ((q_run X d (c_M X 3) 0 (fun _ _ => 0)).1, (q_run X d (c_M X 3) 0 (fun _ _ => 0)).2.1)) (fun M => m_cnt (c_li X) M i (X 1 2).toNat) i hk.1 sd
      have hv := hke.v hI hlo
      have hCY := hv.C hC
      have y1 : Y 1 2 = X 1 2 := congrFun (hv.1 1 (by omega) (by omega)) 2
      obtain ⟨hIY, hPY, hOY, hWY, hJY⟩ := id hCY
      have lp_65 : ∀ (n : Nat) (f : Nat) (Z : x_X) (l0 : Int), (k < w ∧ (k_eq X Z ∧ f_eq X Z) ∧ (m_W (X 1 2) (c_M Z 17) ∧ c_J Z 17) ∧ (0 ≤ m_T (X 1 2) (c_M Z 17) ∧ 60 - m_T (X 1 2) (c_M Z 17) ≤ f) ∧ l0 = m_cal (X 1 2) (c_lot X) (c_M Z 17) ∧ ∃ c G, ((q_run X (Y 0 17) (c_M X 3) 0 (fun _ _ => 0)).1 = (y_run (X 1 2) (c_lot X) (c_p3 X) (c_O X) f (Z 0 17) (c_M Z 17) c G).1 ∧ (q_run X (Y 0 17) (c_M X 3) 0 (fun _ _ => 0)).2.1 = (y_run (X 1 2) (c_lot X) (c_p3 X) (c_O X) f (Z 0 17) (c_M Z 17) c G).2.1)) → ((60 - m_T (X 1 2) (c_M Z 17)).toNat < n) → x_G p l e (x_rm 8 0 0) s m args below meth c 9 E 0 0 (MQ below (x_Q E κ (fun v_ Y_ => if x_in i 0 (X 1 2 - 1) = 1 ∧ x_in w 1 50 = 1 then (v_ = some (vi (y_oft (fun d => ((q_run X d (c_M X 3) 0 (fun _ _ => 0)).1, (q_run X d (c_M X 3) 0 (fun _ _ => 0)).2.1)) (fun M => m_cnt (c_li X) M i (X 1 2).toNat) i w.toNat sd).2.1) ∧ k_eq X Y_ ∧ f_eq X Y_ ∧ Y_ 0 7 = 2 ∧ Y_ 32 0 = (y_oft (fun d => ((q_run X d (c_M X 3) 0 (fun _ _ => 0)).1, (q_run X d (c_M X 3) 0 (fun _ _ => 0)).2.1)) (fun M => m_cnt (c_li X) M i (X 1 2).toNat) i w.toNat sd).2.2.1 ∧ Y_ 32 1 = (y_oft (fun d => ((q_run X d (c_M X 3) 0 (fun _ _ => 0)).1, (q_run X d (c_M X 3) 0 (fun _ _ => 0)).2.1)) (fun M => m_cnt (c_li X) M i (X 1 2).toNat) i w.toNat sd).2.2.2) else (v_ = some (vi (-1)) ∧ Y_ = X))) args s 0 0 (fun q => E.1 ≤ q)) κ 65 [some (x_rf E 0), some (vi i), some (vi w), some (vi sd), some (vi (y_oft (fun d => ((q_run X d (c_M X 3) 0 (fun _ _ => 0)).1, (q_run X d (c_M X 3) 0 (fun _ _ => 0)).2.1)) (fun M => m_cnt (c_li X) M i (X 1 2).toNat) i k.toNat sd).2.1), some (vi (y_oft (fun d => ((q_run X d (c_M X 3) 0 (fun _ _ => 0)).1, (q_run X d (c_M X 3) 0 (fun _ _ => 0)).2.1)) (fun M => m_cnt (c_li X) M i (X 1 2).toNat) i k.toNat sd).2.2.1), some (vi (y_oft (fun d => ((q_run X d (c_M X 3) 0 (fun _ _ => 0)).1, (q_run X d (c_M X 3) 0 (fun _ _ => 0)).2.1)) (fun M => m_cnt (c_li X) M i (X 1 2).toNat) i k.toNat sd).2.2.2), some (vi k), some (vi l0)] [] Z := by
        intro n
        induction n with
        | zero => intro f Z l0 hin2 hme; exfalso; omega
        | succ n ih =>
          intro f Z l0 hin2 hme
          have ih65 := ih
          obtain ⟨hkw, ⟨hkz, hfz⟩, ⟨hW, hJ⟩, hfu, hl0, c0, G0, hq1, hq2⟩ := hin2
          have hvz := hkz.v hI hlo
          have hCZ := hvz.C hC
          have z1 : Z 1 2 = X 1 2 := congrFun (hvz.1 1 (by omega) (by omega)) 2
          have hcrZ := m_cb_r (c_lot X) (c_M Z 17) (X 1 2).toNat
          have hl0r : -1 ≤ l0 ∧ l0 < X 1 2 := by rw [hl0]; unfold m_cal; omega
          obtain ⟨hIZ, hPZ, hOZ, -, -⟩ := id hCZ
          have wi := hW.2.1 i hi.1 hi.2
          have i7 : c_M Z 17 i 7 = Z (17 + 1 + 1 + 2 * i) 7 := c_M_s (by rw [z1]; exact hi) (by omega)
          have si := c_sum (X := Z) (mo := 17) (l := i) (by rw [z1]; exact hi)
          have sir := m_sum_r hW hi.1 hi.2
          have hctr := m_cnt_r (c_li X) (c_M Z 17) i (X 1 2).toNat
          refine x_iload B dX1_often_65 rfl ?_
          refine x_iconst B dX1_often_67 ?_
          refine x_icmp_eq B (tgt := 107) dX1_often_68 (by decide) ⟨by omega, by omega⟩ ⟨by omega, by omega⟩ (fun h_68 => ?_) (fun h_68 => ?_)
          · refine x_iload B dX1_often_107 rfl ?_
            refine x_aload_n B dX1_often_109 rfl ?_
            refine x_getC0 B (k := 3) hT rfl rfl xc_0 (by decide) h0 (Or.inl q403) (fun _ h => h) dX1_often_110 (fun k_110 => ?_)
            refine x_getC1 B (k := 0) hT rfl rfl xc_2 (by decide) k_110 (Or.inr q244) (fun _ h => h) dX1_often_113 (fun k_113 => ?_)
            refine x_iload_n B dX1_often_116 rfl ?_
            refine x_aaldC B (t := 10) hT k_113 rfl rfl rfl rfl ⟨by omega, by omega⟩ dX1_often_117 (fun k_117 => ?_)
            refine x_getZ B (k := 7) 7 rfl rfl xc_3 (by decide) k_117 (Or.inr q223) (fun _ h => h) dX1_often_118 (fun r_118 => ?_)
            refine x_goP (x_rS B (c_X1_bit ⟨by omega, by omega⟩) (lw_S q786 q787 q110 q788) hd_X1_bit ⟨by decide, by decide⟩ ⟨by decide, by decide⟩ rfl rfl (by simp [x_cr, x_c1, x_c2]) dX1_often_121) ?_
            refine x_iadd B dX1_often_124 ?_
            refine x_istw_5 B dX1_often_125 (by first | rfl | exact x_cr _ _) ?_
            refine x_iload B dX1_often_127 rfl ?_
            refine x_aload_n B dX1_often_129 rfl ?_
            refine x_getC0 B (k := 3) hT rfl rfl xc_0 (by decide) h0 (Or.inl q403) (fun _ h => h) dX1_often_130 (fun k_130 => ?_)
            refine x_getC1 B (k := 0) hT rfl rfl xc_2 (by decide) k_130 (Or.inr q244) (fun _ h => h) dX1_often_133 (fun k_133 => ?_)
            refine x_iload_n B dX1_often_136 rfl ?_
            refine x_aaldC B (t := 10) hT k_133 rfl rfl rfl rfl ⟨by omega, by omega⟩ dX1_often_137 (fun k_137 => ?_)
            refine x_goP (x_rV B k_137 (show x_cl[3]? = some _ from rfl) (c_X3_sum hT (by assumption)) (lw_V q789 q790 q791 q115 q792) hv_X3_sum ⟨by decide, by decide⟩ ⟨by decide, by decide⟩ rfl rfl (by simp [x_cr, x_c1, x_c2]) dX1_often_138) ?_
            refine x_iadd B dX1_often_141 ?_
            refine x_istw_6 B dX1_often_142 (by first | rfl | exact x_cr _ _) ?_
            refine x_iload B dX1_often_144 rfl ?_
            refine x_aload_n B dX1_often_146 rfl ?_
            refine x_getC0 B (k := 3) hT rfl rfl xc_0 (by decide) h0 (Or.inl q403) (fun _ h => h) dX1_often_147 (fun k_147 => ?_)
            refine x_getC1 B (k := 0) hT rfl rfl xc_2 (by decide) k_147 (Or.inr q244) (fun _ h => h) dX1_often_150 (fun k_150 => ?_)
            refine x_iload_n B dX1_often_153 rfl ?_
            refine x_aaldC B (t := 10) hT k_150 rfl rfl rfl rfl ⟨by omega, by omega⟩ dX1_often_154 (fun k_154 => ?_)
            refine x_getZ B (k := 7) 7 rfl rfl xc_3 (by decide) k_154 (Or.inr q223) (fun _ h => h) dX1_often_155 (fun r_155 => ?_)
            refine x_if_ne B (tgt := 176) dX1_often_158 (by decide) ⟨by omega, by omega⟩ (fun h_158 => ?_) (fun h_158 => ?_)
            · have hfirst : ¬ (c_M Z 17 i 7 = 0 ∧ m_cnt (c_li X) (c_M Z 17) i (X 1 2).toNat = 0) := by
                rw [i7]; intro q; omega
              refine x_iconst B dX1_often_176 ?_
              refine x_goP (x_rS B (c_X1_bit ⟨by omega, by omega⟩) (lw_S q786 q787 q110 q788) hd_X1_bit ⟨by decide, by decide⟩ ⟨by decide, by decide⟩ rfl rfl (by simp [x_cr, x_c1, x_c2]) dX1_often_177) ?_
              refine x_iadd B dX1_often_180 ?_
              refine x_istw_4 B dX1_often_181 (by first | rfl | exact x_cr _ _) ?_
              refine x_iinc_7 B dX1_often_183 (by first | rfl | exact x_cr _ _) ?_
              refine x_goto B (tgt := 39) dX1_often_186 (by decide) ?_
              refine x_fg_8 ?_
              have hse := y_run_e (n := X 1 2) (lot := c_lot X) (pl := c_p3 X) (O := c_O X) (f := f) (d := Z 0 17) (M := c_M Z 17) (c := c0) (G := G0) (by rw [← hl0]; exact h_68)
              rw [hse] at hq1 hq2
              have ho : (y_oft (fun d => ((q_run X d (c_M X 3) 0 (fun _ _ => 0)).1, (q_run X d (c_M X 3) 0 (fun _ _ => 0)).2.1)) (fun M => m_cnt (c_li X) M i (X 1 2).toNat) i (k + 1).toNat sd) = (Z 0 17, (y_oft (fun d => ((q_run X d (c_M X 3) 0 (fun _ _ => 0)).1, (q_run X d (c_M X 3) 0 (fun _ _ => 0)).2.1)) (fun M => m_cnt (c_li X) M i (X 1 2).toNat) i k.toNat sd).2.1 + (if c_M Z 17 i 7 = 0 ∧ m_cnt (c_li X) (c_M Z 17) i (X 1 2).toNat = 0 then 1 else 0), (y_oft (fun d => ((q_run X d (c_M X 3) 0 (fun _ _ => 0)).1, (q_run X d (c_M X 3) 0 (fun _ _ => 0)).2.1)) (fun M => m_cnt (c_li X) M i (X 1 2).toNat) i k.toNat sd).2.2.1 + c_M Z 17 i 7, (y_oft (fun d => ((q_run X d (c_M X 3) 0 (fun _ _ => 0)).1, (q_run X d (c_M X 3) 0 (fun _ _ => 0)).2.1)) (fun M => m_cnt (c_li X) M i (X 1 2).toNat) i k.toNat sd).2.2.2 + m_sum (c_M Z 17) i) := by
                rw [hos, ← h17]
                show ((q_run X (Y 0 17) (c_M X 3) 0 (fun _ _ => 0)).1, _ + (if (q_run X (Y 0 17) (c_M X 3) 0 (fun _ _ => 0)).2.1 i 7 = 0 ∧ m_cnt (c_li X) (q_run X (Y 0 17) (c_M X 3) 0 (fun _ _ => 0)).2.1 i (X 1 2).toNat = 0 then 1 else 0), _ + (q_run X (Y 0 17) (c_M X 3) 0 (fun _ _ => 0)).2.1 i 7, _ + m_sum (q_run X (Y 0 17) (c_M X 3) 0 (fun _ _ => 0)).2.1 i) = _
                rw [hq1, hq2]
              have e1 := congrArg (fun r => r.1) ho
              have e2 := congrArg (fun r => r.2.1) ho
              have e3 := congrArg (fun r => r.2.2.1) ho
              have e4 := congrArg (fun r => r.2.2.2) ho
              dsimp only at e1 e2 e3 e4
              rw [i7] at e3
              rw [← si] at e4
              rw [← e3, ← e4]
              first
              | (rw [if_pos hfirst] at e2; rw [← e2]; exact ih39 _ _ ⟨hi, hw, ⟨by omega, by omega⟩, ⟨hkz, hfz⟩, e1.symm, by omega, by omega, by omega⟩ (by omega))
              | (rw [if_neg hfirst] at e2; rw [← e2]; exact ih39 _ _ ⟨hi, hw, ⟨by omega, by omega⟩, ⟨hkz, hfz⟩, e1.symm, by omega, by omega, by omega⟩ (by omega))
            · refine x_aload_n B dX1_often_161 rfl ?_
              refine x_getC0 B (k := 3) hT rfl rfl xc_0 (by decide) h0 (Or.inl q403) (fun _ h => h) dX1_often_162 (fun k_162 => ?_)
              refine x_iload_n B dX1_often_165 rfl ?_
              refine x_goP (x_rV B k_162 (show x_cl[2]? = some _ from rfl) (c_X2_aheadOf hIZ (show κ 17 = some (.inl (2, 1)) from hT.1 0 0 h0 3 (0, 17, .inl (2, 1)) rfl) (by rw [z1]; exact hW) (by rw [z1]; exact hi)) (lw_V q931 q918 q919 q114 q920) hv_X2_aheadOf ⟨by decide, by decide⟩ ⟨by decide, by decide⟩ rfl rfl (by simp [x_cr, x_c1, x_c2]) dX1_often_166) ?_
              rw [z1, hvz.li]
              refine x_if_ne B (tgt := 176) dX1_often_169 (by decide) ⟨by omega, by omega⟩ (fun h_169 => ?_) (fun h_169 => ?_)
              · have hfirst : ¬ (c_M Z 17 i 7 = 0 ∧ m_cnt (c_li X) (c_M Z 17) i (X 1 2).toNat = 0) := by
                  rw [i7]; intro q; omega
                refine x_iconst B dX1_often_176 ?_
                refine x_goP (x_rS B (c_X1_bit ⟨by omega, by omega⟩) (lw_S q786 q787 q110 q788) hd_X1_bit ⟨by decide, by decide⟩ ⟨by decide, by decide⟩ rfl rfl (by simp [x_cr, x_c1, x_c2]) dX1_often_177) ?_
                refine x_iadd B dX1_often_180 ?_
                refine x_istw_4 B dX1_often_181 (by first | rfl | exact x_cr _ _) ?_
                refine x_iinc_7 B dX1_often_183 (by first | rfl | exact x_cr _ _) ?_
                refine x_goto B (tgt := 39) dX1_often_186 (by decide) ?_
                refine x_fg_8 ?_
                have hse := y_run_e (n := X 1 2) (lot := c_lot X) (pl := c_p3 X) (O := c_O X) (f := f) (d := Z 0 17) (M := c_M Z 17) (c := c0) (G := G0) (by rw [← hl0]; exact h_68)
                rw [hse] at hq1 hq2
                have ho : (y_oft (fun d => ((q_run X d (c_M X 3) 0 (fun _ _ => 0)).1, (q_run X d (c_M X 3) 0 (fun _ _ => 0)).2.1)) (fun M => m_cnt (c_li X) M i (X 1 2).toNat) i (k + 1).toNat sd) = (Z 0 17, (y_oft (fun d => ((q_run X d (c_M X 3) 0 (fun _ _ => 0)).1, (q_run X d (c_M X 3) 0 (fun _ _ => 0)).2.1)) (fun M => m_cnt (c_li X) M i (X 1 2).toNat) i k.toNat sd).2.1 + (if c_M Z 17 i 7 = 0 ∧ m_cnt (c_li X) (c_M Z 17) i (X 1 2).toNat = 0 then 1 else 0), (y_oft (fun d => ((q_run X d (c_M X 3) 0 (fun _ _ => 0)).1, (q_run X d (c_M X 3) 0 (fun _ _ => 0)).2.1)) (fun M => m_cnt (c_li X) M i (X 1 2).toNat) i k.toNat sd).2.2.1 + c_M Z 17 i 7, (y_oft (fun d => ((q_run X d (c_M X 3) 0 (fun _ _ => 0)).1, (q_run X d (c_M X 3) 0 (fun _ _ => 0)).2.1)) (fun M => m_cnt (c_li X) M i (X 1 2).toNat) i k.toNat sd).2.2.2 + m_sum (c_M Z 17) i) := by
                  rw [hos, ← h17]
                  show ((q_run X (Y 0 17) (c_M X 3) 0 (fun _ _ => 0)).1, _ + (if (q_run X (Y 0 17) (c_M X 3) 0 (fun _ _ => 0)).2.1 i 7 = 0 ∧ m_cnt (c_li X) (q_run X (Y 0 17) (c_M X 3) 0 (fun _ _ => 0)).2.1 i (X 1 2).toNat = 0 then 1 else 0), _ + (q_run X (Y 0 17) (c_M X 3) 0 (fun _ _ => 0)).2.1 i 7, _ + m_sum (q_run X (Y 0 17) (c_M X 3) 0 (fun _ _ => 0)).2.1 i) = _
                  rw [hq1, hq2]
                have e1 := congrArg (fun r => r.1) ho
                have e2 := congrArg (fun r => r.2.1) ho
                have e3 := congrArg (fun r => r.2.2.1) ho
                have e4 := congrArg (fun r => r.2.2.2) ho
                dsimp only at e1 e2 e3 e4
                rw [i7] at e3
                rw [← si] at e4
                rw [← e3, ← e4]
                first
                | (rw [if_pos hfirst] at e2; rw [← e2]; exact ih39 _ _ ⟨hi, hw, ⟨by omega, by omega⟩, ⟨hkz, hfz⟩, e1.symm, by omega, by omega, by omega⟩ (by omega))
                | (rw [if_neg hfirst] at e2; rw [← e2]; exact ih39 _ _ ⟨hi, hw, ⟨by omega, by omega⟩, ⟨hkz, hfz⟩, e1.symm, by omega, by omega, by omega⟩ (by omega))
              · have hfirst : c_M Z 17 i 7 = 0 ∧ m_cnt (c_li X) (c_M Z 17) i (X 1 2).toNat = 0 := ⟨by rw [i7]; omega, by omega⟩
                refine x_iconst B dX1_often_172 ?_
                refine x_goto B (tgt := 177) dX1_often_173 (by decide) ?_
                refine x_goP (x_rS B (c_X1_bit ⟨by omega, by omega⟩) (lw_S q786 q787 q110 q788) hd_X1_bit ⟨by decide, by decide⟩ ⟨by decide, by decide⟩ rfl rfl (by simp [x_cr, x_c1, x_c2]) dX1_often_177) ?_
                refine x_iadd B dX1_often_180 ?_
                refine x_istw_4 B dX1_often_181 (by first | rfl | exact x_cr _ _) ?_
                refine x_iinc_7 B dX1_often_183 (by first | rfl | exact x_cr _ _) ?_
                refine x_goto B (tgt := 39) dX1_often_186 (by decide) ?_
                refine x_fg_8 ?_
                have hse := y_run_e (n := X 1 2) (lot := c_lot X) (pl := c_p3 X) (O := c_O X) (f := f) (d := Z 0 17) (M := c_M Z 17) (c := c0) (G := G0) (by rw [← hl0]; exact h_68)
                rw [hse] at hq1 hq2
                have ho : (y_oft (fun d => ((q_run X d (c_M X 3) 0 (fun _ _ => 0)).1, (q_run X d (c_M X 3) 0 (fun _ _ => 0)).2.1)) (fun M => m_cnt (c_li X) M i (X 1 2).toNat) i (k + 1).toNat sd) = (Z 0 17, (y_oft (fun d => ((q_run X d (c_M X 3) 0 (fun _ _ => 0)).1, (q_run X d (c_M X 3) 0 (fun _ _ => 0)).2.1)) (fun M => m_cnt (c_li X) M i (X 1 2).toNat) i k.toNat sd).2.1 + (if c_M Z 17 i 7 = 0 ∧ m_cnt (c_li X) (c_M Z 17) i (X 1 2).toNat = 0 then 1 else 0), (y_oft (fun d => ((q_run X d (c_M X 3) 0 (fun _ _ => 0)).1, (q_run X d (c_M X 3) 0 (fun _ _ => 0)).2.1)) (fun M => m_cnt (c_li X) M i (X 1 2).toNat) i k.toNat sd).2.2.1 + c_M Z 17 i 7, (y_oft (fun d => ((q_run X d (c_M X 3) 0 (fun _ _ => 0)).1, (q_run X d (c_M X 3) 0 (fun _ _ => 0)).2.1)) (fun M => m_cnt (c_li X) M i (X 1 2).toNat) i k.toNat sd).2.2.2 + m_sum (c_M Z 17) i) := by
                  rw [hos, ← h17]
                  show ((q_run X (Y 0 17) (c_M X 3) 0 (fun _ _ => 0)).1, _ + (if (q_run X (Y 0 17) (c_M X 3) 0 (fun _ _ => 0)).2.1 i 7 = 0 ∧ m_cnt (c_li X) (q_run X (Y 0 17) (c_M X 3) 0 (fun _ _ => 0)).2.1 i (X 1 2).toNat = 0 then 1 else 0), _ + (q_run X (Y 0 17) (c_M X 3) 0 (fun _ _ => 0)).2.1 i 7, _ + m_sum (q_run X (Y 0 17) (c_M X 3) 0 (fun _ _ => 0)).2.1 i) = _
                  rw [hq1, hq2]
                have e1 := congrArg (fun r => r.1) ho
                have e2 := congrArg (fun r => r.2.1) ho
                have e3 := congrArg (fun r => r.2.2.1) ho
                have e4 := congrArg (fun r => r.2.2.2) ho
                dsimp only at e1 e2 e3 e4
                rw [i7] at e3
                rw [← si] at e4
                rw [← e3, ← e4]
                first
                | (rw [if_pos hfirst] at e2; rw [← e2]; exact ih39 _ _ ⟨hi, hw, ⟨by omega, by omega⟩, ⟨hkz, hfz⟩, e1.symm, by omega, by omega, by omega⟩ (by omega))
                | (rw [if_neg hfirst] at e2; rw [← e2]; exact ih39 _ _ ⟨hi, hw, ⟨by omega, by omega⟩, ⟨hkz, hfz⟩, e1.symm, by omega, by omega, by omega⟩ (by omega))
          · have hco := m_cb_ok (c_lot X) (c_M Z 17) (X 1 2).toNat (by intro q; apply h_68; rw [hl0]; exact q)
            have hco2 : c_M Z 17 l0 3 > 0 ∧ c_M Z 17 l0 6 = 0 := by rw [hl0]; exact hco
            have hr0 : 0 ≤ l0 ∧ l0 < X 1 2 := by omega
            have w1 := hW.1
            have w2 := hW.2.1 l0 hr0.1 hr0.2
            have w3 := hW.2.2 l0 hr0.1 hr0.2
            have hlt : c_M Z 17 (-1) 1 < 3 := by rcases Int.lt_or_le (c_M Z 17 (-1) 1) 3 with q | q; exact q; exfalso; have := w3.2.1 (by omega); omega
            have g1 : c_M Z 17 (-1) 1 = Z 17 1 := c_M_g (by omega)
            have s3 : c_M Z 17 l0 3 = Z (17 + 1 + 1 + 2 * l0) 3 := c_M_s (by rw [z1]; exact hr0) (by omega)
            have s2 : c_M Z 17 l0 2 = Z (17 + 1 + 1 + 2 * l0) 2 := c_M_s (by rw [z1]; exact hr0) (by omega)
            have hm := m_T_53 (lot := c_lot X) hn hW (by rw [← hl0]; exact h_68)
            refine x_aload_n B dX1_often_71 rfl ?_
            refine x_getC0 B (k := 3) hT rfl rfl xc_0 (by decide) h0 (Or.inl q403) (fun _ h => h) dX1_often_72 (fun k_72 => ?_)
            refine x_aload_n B dX1_often_75 rfl ?_
            refine x_aload_n B dX1_often_76 rfl ?_
            refine x_getC0 B (k := 3) hT rfl rfl xc_0 (by decide) h0 (Or.inl q403) (fun _ h => h) dX1_often_77 (fun k_77 => ?_)
            refine x_iload B dX1_often_80 rfl ?_
            refine x_goP (x_rV B k_77 (show x_cl[2]? = some _ from rfl) (c_X2_odds hIZ (show κ 17 = some (.inl (2, 1)) from hT.1 0 0 h0 3 (0, 17, .inl (2, 1)) rfl) hOZ ⟨by omega, by rw [z1]; omega⟩ ⟨by omega, by omega⟩ ⟨by omega, by omega⟩) (lw_V q810 q811 q812 q114 q813) hv_X2_odds ⟨by decide, by decide⟩ ⟨by decide, by decide⟩ rfl rfl (by simp [x_cr, x_c1, x_c2]) dX1_often_82) ?_
            rw [← g1, ← s3, ← s2, hvz.O]
            have hOr := c_O_r (x := c_M Z 17 l0 3) (f := c_M Z 17 l0 2) (t := c_M Z 17 (-1) 1) hC hr0 ⟨by omega, hlt⟩ (by omega)
            refine x_goP (x_rV B h0 (show x_cl[0]? = some _ from rfl) (c_X1_isDrawnGood hT h0 ⟨by omega, by omega⟩) (lw_V q1276 q1278 qs37 q110 q1279) hv_X1_isDrawnGood ⟨by decide, by decide⟩ ⟨by decide, by decide⟩ rfl rfl (by simp [x_cr, x_c1, x_c2]) dX1_often_85) ?_
            have hn6 : Z 1 2 ≤ 6 := by rw [z1]; exact hn.2
            have hgr : 0 ≤ (if d_rl (d_nx (Z 0 17)) < c_O X l0 (c_M Z 17 (-1) 1) (c_M Z 17 l0 3) (c_M Z 17 l0 2) then (1 : Int) else 0) ∧ (if d_rl (d_nx (Z 0 17)) < c_O X l0 (c_M Z 17 (-1) 1) (c_M Z 17 l0 3) (c_M Z 17 l0 2) then (1 : Int) else 0) ≤ (1 : Int) := by split <;> omega
            have hgy : (if d_rl (d_nx (Z 0 17)) < c_O X l0 (c_M Z 17 (-1) 1) (c_M Z 17 l0 3) (c_M Z 17 l0 2) then (1 : Int) else 0) = y_g (X 1 2) (c_lot X) (c_O X) (Z 0 17) (c_M Z 17) := by unfold y_g; rw [← hl0]
            generalize hgg : (if d_rl (d_nx (Z 0 17)) < c_O X l0 (c_M Z 17 (-1) 1) (c_M Z 17 l0 3) (c_M Z 17 l0 2) then (1 : Int) else 0) = g at hgr hgy ⊢
            have hkd := hkz.n17 (z := d_nx (Z 0 17))
            have hvd := hkd.v hI hlo
            have hCd := hvd.C hC
            obtain ⟨hId, hPd, hOd, -, -⟩ := id hCd
            have d1 : x_up Z 0 17 (d_nx (Z 0 17)) 1 2 = X 1 2 := congrFun (hvd.1 1 (by omega) (by omega)) 2
            have dL := hvd.lot
            have dp := hvd.l.p3
            have dM := c_M_17b (X := Z) (z := d_nx (Z 0 17)) hn6
            have e17a : x_up Z 0 17 (d_nx (Z 0 17)) 0 17 = d_nx (Z 0 17) := x_up_s _ _ _ _
            have hJd : c_J (x_up Z 0 17 (d_nx (Z 0 17))) 17 := fun l l1 l2 => by rw [x_up_o Z (by omega)] at l2; rw [x_up_o Z (by omega), x_up_o Z (by omega)]; exact hJ l l1 l2
            refine x_goP (x_rS B (c_X13_of hgr) (lw_S q840 q841 q134 q842) hd_X13_of ⟨by decide, by decide⟩ ⟨by decide, by decide⟩ rfl rfl (by simp [x_cr, x_c1, x_c2]) dX1_often_88) ?_
            refine x_go (x_rV B k_72 (show x_cl[2]? = some _ from rfl) (c_X2_tries hId (show κ 17 = some (.inl (2, 1)) from hT.1 0 0 h0 3 (0, 17, .inl (2, 1)) rfl) (by omega) (by omega) (by rw [d1, dM]; exact hW) hJd hPd (by omega) (by rw [d1, dL, dM, ← hl0]; exact h_68)) (lw_V q847 q848 q849 q114 q850) hv_X2_tries ⟨by decide, by decide⟩ ⟨by decide, by decide⟩ rfl rfl (by simp [x_cr, x_c1, x_c2]) dX1_often_91) (fun v_91 X_91 p_91 => ?_)
            obtain ⟨rfl, hf3, hM3, hJ3⟩ := p_91
            have hk3 := hkd.fr17 hf3
            have hf3e : f_eq X X_91 := (hfz.up (a := 0) (i := 17) (z := d_nx (Z 0 17)) (by omega)).fr17 hf3
            have e17 : X_91 0 17 = d_nx (Z 0 17) := by rw [hf3 0 (by omega), e17a]
            have t17 : x_up Z 0 17 (d_nx (Z 0 17)) 17 1 = c_M Z 17 (-1) 1 := by rw [x_up_o Z (by omega), g1]
            have hM3 : c_M X_91 17 = y_M (X 1 2) (c_lot X) (c_p3 X) (c_M Z 17) (y_g (X 1 2) (c_lot X) (c_O X) (Z 0 17) (c_M Z 17)) := by
              have eg : g - 3 + 3 = g := by omega
              have hp1 := c_p3_pl (X := X) (l := l0) (t := c_M Z 17 (-1) 1) (w := 1) ⟨by omega, hlt⟩ (by omega)
              have hp2 := c_p3_pl (X := X) (l := l0) (t := c_M Z 17 (-1) 1) (w := 2) ⟨by omega, hlt⟩ (by omega)
              have ew : (if g - 3 = -2 then c_pl (x_up Z 0 17 (d_nx (Z 0 17))) l0 (c_M Z 17 (-1) 1) 1 else c_pl (x_up Z 0 17 (d_nx (Z 0 17))) l0 (c_M Z 17 (-1) 1) 2) = c_p3 X l0 (c_M Z 17 (-1) 1) (if g = 1 then 1 else 2) := by
                rw [hvd.pl (by omega), hvd.pl (by omega), hp1, hp2]
                by_cases e : g = 1
                · rw [if_pos (by omega), if_pos e]
                · rw [if_neg (by omega), if_neg e]
              rw [hM3, d1, dL, dM, t17, ← hl0, eg, ew, hvd.l.op3, ← hgy]
              unfold y_M
              rw [← hl0]
              exact m_go_c (fun a t a1 a2 t1 t2 => c_p3_op ⟨t1, t2⟩) 20 _ (by rw [(m_tr_v hr0.1).1.1]; omega)
            have hyw := y_M_W (g := y_g (X 1 2) (c_lot X) (c_O X) (Z 0 17) (c_M Z 17)) (lot := c_lot X) hn.1 (c_p3_r hP) hW (by rw [← hgy]; exact hgr) (by rw [← hl0]; exact h_68)
            have hW3 : m_W (X 1 2) (c_M X_91 17) := by rw [hM3]; exact hyw.1.1
            have hT3 : m_T (X 1 2) (c_M Z 17) + 1 ≤ m_T (X 1 2) (c_M X_91 17) := by rw [hM3]; exact hyw.1.2
            have hv3 := hk3.v hI hlo
            have hI3 := (hv3.C hC).1
            have x1 : X_91 1 2 = X 1 2 := congrFun (hv3.1 1 (by omega) (by omega)) 2
            refine x_pop B dX1_often_94 (by first | rfl | exact x_cr _ _) ?_
            refine x_aload_n B dX1_often_95 rfl ?_
            refine x_getC0 B (k := 3) hT rfl rfl xc_0 (by decide) h0 (Or.inl q403) (fun _ h => h) dX1_often_96 (fun k_96 => ?_)
            refine x_goP (x_rV B k_96 (show x_cl[2]? = some _ from rfl) (c_X2_called hI3 (show κ 17 = some (.inl (2, 1)) from hT.1 0 0 h0 3 (0, 17, .inl (2, 1)) rfl) (by omega)) (lw_V q797 q798 q799 q114 q800) hv_X2_called ⟨by decide, by decide⟩ ⟨by decide, by decide⟩ rfl rfl (by simp [x_cr, x_c1, x_c2]) dX1_often_99) ?_
            rw [x1, hv3.lot]
            refine x_istw_8 B dX1_often_102 (by first | rfl | exact x_cr _ _) ?_
            refine x_goto B (tgt := 65) dX1_often_104 (by decide) ?_
            refine ih65 (f - 1) _ _ ⟨hkw, ⟨hk3, hf3e⟩, ⟨hW3, hJ3⟩, ⟨by omega, by omega⟩, rfl, c0 + 1, y_G (X 1 2) (c_lot X) (c_M Z 17) c0 G0 (y_g (X 1 2) (c_lot X) (c_O X) (Z 0 17) (c_M Z 17)), ?_⟩ (by omega)
            have hst := y_run_s (n := X 1 2) (lot := c_lot X) (pl := c_p3 X) (O := c_O X) (f := f - 1) (d := Z 0 17) (M := c_M Z 17) (c := c0) (G := G0) (by rw [← hl0]; exact h_68)
            rw [show f - 1 + 1 = f by omega] at hst
            rw [hq1, hq2, hst, e17, hM3]
            exact ⟨rfl, rfl⟩
      refine x_iload B dX1_often_39 rfl ?_
      refine x_iload_n B dX1_often_41 rfl ?_
      refine x_icmp_ge B (tgt := 189) dX1_often_42 (by decide) ⟨by omega, by omega⟩ ⟨by omega, by omega⟩ (fun h_42 => ?_) (fun h_42 => ?_)
      · obtain rfl : k = w := by omega
        refine x_aload_n B dX1_often_189 rfl ?_
        refine x_iconst B dX1_often_190 ?_
        refine x_putI B (k := 7) 7 rfl rfl rfl ⟨by omega, by omega⟩ xc_0 (by decide) rfl nn_0_7 (fun _ => rfl) h0 (Or.inl q408) (fun _ h => h) dX1_often_191 ?_
        refine x_aload_n B dX1_often_194 rfl ?_
        refine x_iload B dX1_often_195 rfl ?_
        refine x_i2l B dX1_often_197 ⟨by omega, by omega⟩ ?_
        refine x_goV (x_rV B h0 (show x_cl[0]? = some _ from rfl) (c_X1_tell hT h0 ⟨by rw [x_up_s]; omega, by rw [x_up_s]; omega⟩ ⟨by omega, by omega⟩) (lw_V q806 q808 qs16 q110 q809) hv_X1_tell ⟨by decide, by decide⟩ ⟨by decide, by decide⟩ rfl rfl (by simp [x_cr, x_c1, x_c2]) dX1_often_198) ?_
        refine x_aload_n B dX1_often_201 rfl ?_
        refine x_iload B dX1_often_202 rfl ?_
        refine x_i2l B dX1_often_204 ⟨by omega, by omega⟩ ?_
        refine x_goV (x_rV B h0 (show x_cl[0]? = some _ from rfl) (c_X1_tell hT h0 ⟨by rw [x_up_s, x_up_s]; omega, by rw [x_up_s, x_up_s]; omega⟩ ⟨by omega, by omega⟩) (lw_V q806 q808 qs16 q110 q809) hv_X1_tell ⟨by decide, by decide⟩ ⟨by decide, by decide⟩ rfl rfl (by simp [x_cr, x_c1, x_c2]) dX1_often_205) ?_
        refine x_iload B dX1_often_208 rfl ?_
        refine x_iret B (fun _ _ h => h) ?_ dX1_often_210
        rw [if_pos ⟨by unfold x_in; rw [if_pos (by omega)], by unfold x_in; rw [if_pos (by omega)]⟩]
        have q2 := x_tl2 (x_up Y 0 7 0) (y_oft (fun d => ((q_run X d (c_M X 3) 0 (fun _ _ => 0)).1, (q_run X d (c_M X 3) 0 (fun _ _ => 0)).2.1)) (fun M => m_cnt (c_li X) M i (X 1 2).toNat) i k.toNat sd).2.2.1 (y_oft (fun d => ((q_run X d (c_M X 3) 0 (fun _ _ => 0)).1, (q_run X d (c_M X 3) 0 (fun _ _ => 0)).2.1)) (fun M => m_cnt (c_li X) M i (X 1 2).toNat) i k.toNat sd).2.2.2 (x_up_s _ _ _ _)
        exact ⟨rfl, ((hke.z7).tl hlo0).tl hlo0, ((f_eq.up hfe (by omega)).tl).tl, q2.1, q2.2.1, q2.2.2⟩
      · refine x_aload_n B dX1_often_45 rfl ?_
        refine x_getC0 B (k := 3) hT rfl rfl xc_0 (by decide) h0 (Or.inl q403) (fun _ h => h) dX1_often_46 (fun k_46 => ?_)
        refine x_aload_n B dX1_often_49 rfl ?_
        refine x_getC0 B (k := 2) hT rfl rfl xc_0 (by decide) h0 (Or.inl q400) (fun _ h => h) dX1_often_50 (fun k_50 => ?_)
        refine x_goV (x_rV B k_46 (show x_cl[2]? = some _ from rfl) (c_X2_takes hT (show κ 17 = some (.inl (2, 1)) from hT.1 0 0 h0 3 (0, 17, .inl (2, 1)) rfl) (show κ 3 = some (.inl (2, 1)) from hT.1 0 0 h0 2 (0, 3, .inl (2, 1)) rfl) (by omega)) (lw_V q819 q820 q821 q114 q822) hv_X2_takes ⟨by decide, by decide⟩ ⟨by decide, by decide⟩ rfl rfl (by simp [x_cr, x_c1, x_c2]) dX1_often_53) ?_
        have hkt := hke.fr17 (c_fr_tk (X := Y) (a := 17) (b := 3))
        have hvt := hkt.v hI hlo
        have hIt := (hvt.C hC).1
        have yt1 : c_tk Y 17 3 6 1 2 = X 1 2 := congrFun (hvt.1 1 (by omega) (by omega)) 2
        refine x_aload_n B dX1_often_56 rfl ?_
        refine x_getC0 B (k := 3) hT rfl rfl xc_0 (by decide) h0 (Or.inl q403) (fun _ h => h) dX1_often_57 (fun k_57 => ?_)
        refine x_goP (x_rV B k_57 (show x_cl[2]? = some _ from rfl) (c_X2_called hIt (show κ 17 = some (.inl (2, 1)) from hT.1 0 0 h0 3 (0, 17, .inl (2, 1)) rfl) (by omega)) (lw_V q797 q798 q799 q114 q800) hv_X2_called ⟨by decide, by decide⟩ ⟨by decide, by decide⟩ rfl rfl (by simp [x_cr, x_c1, x_c2]) dX1_often_60) ?_
        refine x_istw_8 B dX1_often_63 (by first | rfl | exact x_cr _ _) ?_
        have hk0 : k_eq X (c_tk Y 17 3 6) := hke.fr17 c_fr_tk
        have hf0 : f_eq X (c_tk Y 17 3 6) := hfe.fr17 c_fr_tk
        have eM0 : c_M (c_tk Y 17 3 6) 17 = c_M X 3 := by rw [c_M_tk (by omega) (by omega) (by rw [y1]; exact hn), hv.M hn.2]
        have e170 : c_tk Y 17 3 6 0 17 = Y 0 17 := by rw [c_fr_tk 0 (by omega)]
        rw [hvt.lot, yt1, eM0]
        have hT0 := m_T_r hn.1 hW
        refine lp_65 _ 60 _ _ ⟨by omega, ⟨hk0, hf0⟩, ⟨by rw [eM0]; exact hW, c_J_tk hJY (by rw [y1]; exact hn)⟩, ⟨by rw [eM0]; omega, by rw [eM0]; omega⟩, by rw [eM0], 0, (fun _ _ => 0), ?_⟩ (Nat.lt_succ_self _)
        rw [e170, eM0]; exact ⟨rfl, rfl⟩
  refine x_aload_n B dX1_often_0 rfl ?_
  refine x_iload_n B dX1_often_1 rfl ?_
  refine x_goP (x_rV B h0 (show x_cl[0]? = some _ from rfl) (c_X1_isLifter hI ⟨by omega, by omega⟩) (lw_V q735 q737 qs13 q110 q738) hv_X1_isLifter ⟨by decide, by decide⟩ ⟨by decide, by decide⟩ rfl rfl (by simp [x_cr, x_c1, x_c2]) dX1_often_2) ?_
  refine x_if_eq B (tgt := 20) dX1_often_5 (by decide) ⟨by omega, by omega⟩ (fun h_5 => ?_) (fun h_5 => ?_)
  · refine x_iconst B dX1_often_20 ?_
    refine x_iret B (fun _ _ h => h) ?_ dX1_often_21
    rw [if_neg (by omega)]; exact ⟨rfl, rfl⟩
  · refine x_iload_n B dX1_often_8 rfl ?_
    refine x_i2l B dX1_often_9 ⟨by omega, by omega⟩ ?_
    refine x_lconst B 1 dX1_often_10 (by decide) ?_
    refine x_ldc2 B (50) q1285 (by decide) dX1_often_11 ?_
    refine x_goP (x_rS B (c_X1_in ⟨by omega, by omega⟩ ⟨by omega, by omega⟩ ⟨by omega, by omega⟩) (lw_S q464 q465 q110 q466) hd_X1_in ⟨by decide, by decide⟩ ⟨by decide, by decide⟩ rfl rfl (by simp [x_cr, x_c1, x_c2]) dX1_often_14) ?_
    refine x_if_ne B (tgt := 22) dX1_often_17 (by decide) ⟨by omega, by omega⟩ (fun h_17 => ?_) (fun h_17 => ?_)
    · have hi : 0 ≤ i ∧ i < X 1 2 := by unfold x_in at h_5; split at h_5 <;> omega
      have hw : 1 ≤ w ∧ w ≤ 50 := by unfold x_in at h_17; split at h_17 <;> omega
      refine x_aload_n B dX1_often_22 rfl ?_
      refine x_iload_n B dX1_often_23 rfl ?_
      refine x_putI B (k := 17) 17 rfl rfl rfl ⟨by omega, by omega⟩ xc_0 (by decide) rfl nn_0_17 (fun _ => rfl) h0 (Or.inl q418) (fun _ h => h) dX1_often_24 ?_
      refine x_iconst B dX1_often_27 ?_
      refine x_istw_4 B dX1_often_28 (by first | rfl | exact x_cr _ _) ?_
      refine x_iconst B dX1_often_30 ?_
      refine x_istw_5 B dX1_often_31 (by first | rfl | exact x_cr _ _) ?_
      refine x_iconst B dX1_often_33 ?_
      refine x_istw_6 B dX1_often_34 (by first | rfl | exact x_cr _ _) ?_
      refine x_iconst B dX1_often_36 ?_
      refine x_istw_7 B dX1_often_37 (by first | rfl | exact x_cr _ _) ?_
      refine lp_39 _ 0 _ ⟨hi, hw, ⟨by omega, by omega⟩, ⟨(k_eq.rf X).n17, fun a a1 a2 => x_up_o X (by omega)⟩, x_up_s _ _ _ _, ?_⟩ (Nat.lt_succ_self _)
      show (0 ≤ (0 : Int) ∧ (0 : Int) ≤ 0) ∧ (0 ≤ (0 : Int) ∧ (0 : Int) ≤ 0) ∧ (0 ≤ (0 : Int) ∧ (0 : Int) ≤ 120 * 0)
      omega
    · refine x_iconst B dX1_often_20 ?_
      refine x_iret B (fun _ _ h => h) ?_ dX1_often_21
      rw [if_neg (by omega)]; exact ⟨rfl, rfl⟩
