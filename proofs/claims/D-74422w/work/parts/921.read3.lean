/-- what points moves: the reader's place, the table at a -/
def p_q (X Y : x_X) (r a : Int) : Prop := (∀ b, b ≠ r → b ≠ a → b ≠ a + 1 → b ≠ a + 2 → Y b = X b) ∧ (∀ k, k ≠ 1 → Y r k = X r k) ∧ ∀ k, k ≠ 2 → Y a k = X a k
theorem p_q.rf (X : x_X) (r a : Int) : p_q X X r a := ⟨fun _ _ _ _ _ => rfl, fun _ _ => rfl, fun _ _ => rfl⟩
theorem p_q.at {X Y : x_X} {r a z : Int} (h : p_q X Y r a) (hra : r ≠ a) : p_q X (x_up Y r 1 z) r a := ⟨fun b b1 b2 b3 b4 => (x_up_o _ b1).trans (h.1 b b1 b2 b3 b4), fun k k1 => by rw [x_up_n _ (Or.inr k1)]; exact h.2.1 k k1, fun k k1 => by rw [x_up_o _ (Ne.symm hra)]; exact h.2.2 k k1⟩
theorem rd.q {κ : x_Ka} {X Y : x_X} {r a n q p : Int} (h : rd κ X r n q) (hq : p_q X Y r a) (e : Y r 1 = p) (hp : 0 ≤ p ∧ p ≤ n) : rd κ Y r n p := ⟨h.1, by rw [hq.2.1 0 (by omega)]; exact h.2.1, e, hp, h.2.2.2.2⟩
theorem p_q.T {X Y : x_X} {r a : Int} (hq : p_q X Y r a) (h1 : r ≠ 31) (h2 : 88 ≤ a) : c_T Y = c_T X := by funext p; unfold c_T; rw [hq.1 31 (Ne.symm h1) (by omega) (by omega) (by omega)]
theorem p_q.add {X Y : x_X} {r a w j x o : Int} (h : p_q X Y r a) (hra : r < a) : p_q X (x_up (x_up (x_up (x_up Y r 1 w) (a + 1) j x) (a + 2) j o) a 2 (j + 1)) r a := by
  refine ⟨fun b b1 b2 b3 b4 => ?_, fun k k1 => ?_, fun k k1 => ?_⟩
  · rw [x_up_o _ b2, x_up_o _ b4, x_up_o _ b3, x_up_o _ b1]; exact h.1 b b1 b2 b3 b4
  · rw [x_up_o _ (by omega), x_up_o _ (by omega), x_up_o _ (by omega), x_up_n _ (Or.inr k1)]; exact h.2.1 k k1
  · rw [x_up_n _ (Or.inr k1), x_up_o _ (by omega), x_up_o _ (by omega), x_up_o _ (by omega)]; exact h.2.2 k k1
theorem c_X9_points {l : Launch} {E : x_E} {κ : x_Ka} {X : x_X} {r a z0 w0 : Int} (h : rd κ X r z0 w0) (ka : κ a = some (.inl (9, 1))) (hra : r < a) (h88 : 88 ≤ a) (hm0 : X a 2 = 0) : x_MetX l yX9_points cX9_points 5 none 5 18 126 E κ X [x_rf E r, x_rf E a] "NextLoad$Fault" (fun v_ κ_ Y_ => v_ = none ∧ κ = κ_ ∧ (r_tab (r_num (c_T X) z0) (c_T X) z0 6 0 w0 (fun _ => 0) (fun _ => 0)).1 = 1 ∧ p_q X Y_ r a ∧ Y_ r 1 = (r_tab (r_num (c_T X) z0) (c_T X) z0 6 0 w0 (fun _ => 0) (fun _ => 0)).2.1 ∧ (0 ≤ (r_tab (r_num (c_T X) z0) (c_T X) z0 6 0 w0 (fun _ => 0) (fun _ => 0)).2.1 ∧ (r_tab (r_num (c_T X) z0) (c_T X) z0 6 0 w0 (fun _ => 0) (fun _ => 0)).2.1 ≤ z0) ∧ Y_ a 2 = (r_tab (r_num (c_T X) z0) (c_T X) z0 6 0 w0 (fun _ => 0) (fun _ => 0)).2.2.1 ∧ (1 ≤ (r_tab (r_num (c_T X) z0) (c_T X) z0 6 0 w0 (fun _ => 0) (fun _ => 0)).2.2.1 ∧ (r_tab (r_num (c_T X) z0) (c_T X) z0 6 0 w0 (fun _ => 0) (fun _ => 0)).2.2.1 ≤ 6) ∧ (∀ i, 0 ≤ i → i < (r_tab (r_num (c_T X) z0) (c_T X) z0 6 0 w0 (fun _ => 0) (fun _ => 0)).2.2.1 → Y_ (a + 1) i = (r_tab (r_num (c_T X) z0) (c_T X) z0 6 0 w0 (fun _ => 0) (fun _ => 0)).2.2.2.1 i ∧ Y_ (a + 2) i = (r_tab (r_num (c_T X) z0) (c_T X) z0 6 0 w0 (fun _ => 0) (fun _ => 0)).2.2.2.2 i)) (fun z_ κ_ Y_ => (r_tab (r_num (c_T X) z0) (c_T X) z0 6 0 w0 (fun _ => 0) (fun _ => 0)).1 = 0 ∧ f_thr κ X (fun b => b = r ∨ (a ≤ b ∧ b ≤ a + 2)) (r_tab (r_num (c_T X) z0) (c_T X) z0 6 0 w0 (fun _ => 0) (fun _ => 0)).2.1 z_ κ_ Y_) := by
  refine x_MetX.of [(false, x_rf E r), (false, x_rf E a)] [some (x_rf E r), some (x_rf E a), none, none, none] 3 (by decide) rfl rfl ⟨x_cr E (r), x_cr E (a), trivial⟩ rfl rfl ?_
  intro p e s m args below meth c hargs hin B hxt
  obtain ⟨⟨hT, h0, hk⟩, en, ea, hq, hn⟩ := id h
  have k31 : κ 31 = some (.inr (3, 240)) := hT.1 0 0 h0 4 (0, 31, .inr (3, 240)) rfl
  have hr31 : r ≠ 31 := by intro e; rw [e, k31] at hk; cases hk
  refine x_lows (fun hlow => ?_)
  have hr0 := hlow r _ hk
  have hNr := r_num_r (c_T X) z0
  have lp_23 : ∀ (n : Nat) (j w1 lw hg : Int) (L D : Int → Int) (Y : x_X), ((0 ≤ j ∧ j ≤ 5) ∧ (0 ≤ w1 ∧ w1 ≤ z0) ∧ (lw = (if j = 0 then 1 else L (j - 1) + 1) ∧ hg = (if j = 0 then 1000 else D (j - 1)) ∧ (1 ≤ lw ∧ lw ≤ 41) ∧ (0 ≤ hg ∧ hg ≤ 1000)) ∧ (p_q X Y r a ∧ Y r 1 = w1 ∧ Y a 2 = j ∧ (∀ i, 0 ≤ i → i < j → Y (a + 1) i = L i ∧ Y (a + 2) i = D i)) ∧ (r_tab (r_num (c_T X) z0) (c_T X) z0 6 0 w0 (fun _ => 0) (fun _ => 0)) = r_tab (r_num (c_T X) z0) (c_T X) z0 (6 - j).toNat j w1 L D) → ((6 - j).toNat < n) → x_G p l e (x_rm 5 18 126) s m args below meth c 5 E (3 * j.toNat) (21 * j.toNat) (vq_MQ below (x_QK E (fun v_ κ_ Y_ => v_ = none ∧ κ = κ_ ∧ (r_tab (r_num (c_T X) z0) (c_T X) z0 6 0 w0 (fun _ => 0) (fun _ => 0)).1 = 1 ∧ p_q X Y_ r a ∧ Y_ r 1 = (r_tab (r_num (c_T X) z0) (c_T X) z0 6 0 w0 (fun _ => 0) (fun _ => 0)).2.1 ∧ (0 ≤ (r_tab (r_num (c_T X) z0) (c_T X) z0 6 0 w0 (fun _ => 0) (fun _ => 0)).2.1 ∧ (r_tab (r_num (c_T X) z0) (c_T X) z0 6 0 w0 (fun _ => 0) (fun _ => 0)).2.1 ≤ z0) ∧ Y_ a 2 = (r_tab (r_num (c_T X) z0) (c_T X) z0 6 0 w0 (fun _ => 0) (fun _ => 0)).2.2.1 ∧ (1 ≤ (r_tab (r_num (c_T X) z0) (c_T X) z0 6 0 w0 (fun _ => 0) (fun _ => 0)).2.2.1 ∧ (r_tab (r_num (c_T X) z0) (c_T X) z0 6 0 w0 (fun _ => 0) (fun _ => 0)).2.2.1 ≤ 6) ∧ (∀ i, 0 ≤ i → i < (r_tab (r_num (c_T X) z0) (c_T X) z0 6 0 w0 (fun _ => 0) (fun _ => 0)).2.2.1 → Y_ (a + 1) i = (r_tab (r_num (c_T X) z0) (c_T X) z0 6 0 w0 (fun _ => 0) (fun _ => 0)).2.2.2.1 i ∧ Y_ (a + 2) i = (r_tab (r_num (c_T X) z0) (c_T X) z0 6 0 w0 (fun _ => 0) (fun _ => 0)).2.2.2.2 i))) (q_XC E "NextLoad$Fault" (fun z_ κ_ Y_ => (r_tab (r_num (c_T X) z0) (c_T X) z0 6 0 w0 (fun _ => 0) (fun _ => 0)).1 = 0 ∧ f_thr κ X (fun b => b = r ∨ (a ≤ b ∧ b ≤ a + 2)) (r_tab (r_num (c_T X) z0) (c_T X) z0 6 0 w0 (fun _ => 0) (fun _ => 0)).2.1 z_ κ_ Y_)) args s 18 126 (fun q => E.1 ≤ q)) κ 23 [some (x_rf E r), some (x_rf E a), some (vi lw), some (vi hg), none] [] Y := by
    intro n
    induction n with
    | zero => intro j w1 lw hg L D Y hinv hme; exfalso; omega
    | succ n ih =>
      intro j w1 lw hg L D Y hinv hme
      obtain ⟨hj, hw, ⟨elw, ehg, hlw, hhg⟩, ⟨hY, y1, yj, hrow⟩, he⟩ := hinv
      have eT : c_T Y = c_T X := hY.T hr31 h88
      have hsz : Y (-1) 0 = X (-1) 0 := congrFun (hY.1 (-1) (by omega) (by omega) (by omega) (by omega)) 0
      have hq1 := h.q hY y1 hw
      have ht6 : (6 - j).toNat = (6 - (j + 1)).toNat + 1 := by omega
      obtain ⟨A1, hA⟩ : ∃ A1, r_num (c_T X) z0 lw 40 w1 = A1 := ⟨_, rfl⟩
      have hAr := hNr lw 40 w1 hw
      rw [hA] at hAr
      have hA0 := hA
      rw [elw] at hA0
      refine x_aload_n B dX9_points_23 rfl ?_
      refine x_iload_n B dX9_points_24 rfl ?_
      refine x_bipush B dX9_points_25 (by decide) ?_
      refine x_goX (x_rVX B hk (show x_cl[10]? = some _ from rfl) (c_X9_number hq1 ⟨by omega, by omega⟩ ⟨by omega, by omega⟩) (lw_V q550 q552 qs2 q123 q553) hv_X9_number ⟨by decide, by decide⟩ ⟨by show _ ≤ 18; omega, by show _ ≤ 126; omega⟩ rfl rfl (by simp [x_cr, x_c1, x_c2]) dX9_points_27) (fun z_27 κ_27 X_27 hz_27 p_27 => ?_) (fun v_27 κ_27 X_27 p_27 => ?_)
      · refine x_GX.wide (cells' := 18) (slots' := 126) (by omega) (by omega) ?_
        refine x_outX B hz_27 hxt ?_
        rw [eT, hA] at p_27
        have er : (r_tab (r_num (c_T X) z0) (c_T X) z0 6 0 w0 (fun _ => 0) (fun _ => 0)) = (0, A1.2.1, 0, fun _ => 0, fun _ => 0) := by rw [he, ht6]; exact (r_tab_A hA0 p_27.1)
        rw [er]
        exact ⟨rfl, p_27.2.up (fun _ _ q => q) (fun b b1 b2 b3 => hY.1 b (fun q => b3 (Or.inl q)) (fun q => b3 (Or.inr (by omega))) (fun q => b3 (Or.inr (by omega))) (fun q => b3 (Or.inr (by omega)))) (fun b b1 b2 b3 q => b3 (Or.inl q)) (by omega)⟩
      rw [eT, hA] at p_27
      obtain ⟨hA1, rfl, rfl, rfl⟩ := p_27
      have hA3 := hAr.2.2 hA1
      refine x_istw_4 B dX9_points_30 (by first | rfl | exact x_cr _ _) ?_
      refine x_aload_n B dX9_points_32 rfl ?_
      refine x_bipush B dX9_points_33 (by decide) ?_
      refine x_goX (x_rVX B hk (show x_cl[10]? = some _ from rfl) (c_X9_passes (hq1.up (p := A1.2.1) ⟨by omega, by omega⟩) ⟨by omega, by omega⟩) (lw_V q625 q627 qs5 q123 q628) hv_X9_passes ⟨by decide, by decide⟩ ⟨by show _ ≤ 18; omega, by show _ ≤ 126; omega⟩ rfl rfl (by simp [x_cr, x_c1, x_c2]) dX9_points_35) (fun z_35 κ_35 X_35 hz_35 p_35 => ?_) (fun v_35 κ_35 X_35 p_35 => ?_)
      · refine x_GX.wide (cells' := 18) (slots' := 126) (by omega) (by omega) ?_
        refine x_outX B hz_35 hxt ?_
        rw [c_T_up hr31, eT] at p_35
        have esz : x_up Y r 1 A1.2.1 (-1) 0 = X (-1) 0 := (congrFun (x_up_o _ (by omega)) 0).trans hsz
        have er : (r_tab (r_num (c_T X) z0) (c_T X) z0 6 0 w0 (fun _ => 0) (fun _ => 0)) = (0, A1.2.1, 0, fun _ => 0, fun _ => 0) := by rw [he, ht6]; exact (r_tab_E hA0 (by omega) p_35.1)
        rw [er]
        exact ⟨rfl, p_35.2.up (fun _ _ q => q) (fun b b1 b2 b3 => (x_up_o _ (fun q => b3 (Or.inl q))).trans (hY.1 b (fun q => b3 (Or.inl q)) (fun q => b3 (Or.inr (by omega))) (fun q => b3 (Or.inr (by omega))) (fun q => b3 (Or.inr (by omega))))) (fun b b1 b2 b3 q => b3 (Or.inl q)) (by omega)⟩
      rw [c_T_up hr31, eT] at p_35
      obtain ⟨rfl, rfl, hC35, rfl⟩ := p_35
      rw [x_up_t]
      obtain ⟨B1, hB⟩ : ∃ B1, r_num (c_T X) z0 0 hg (A1.2.1 + 1) = B1 := ⟨_, rfl⟩
      have hBr := hNr 0 hg (A1.2.1 + 1) ⟨by omega, by omega⟩
      rw [hB] at hBr
      have hB0 := hB
      rw [ehg] at hB0
      refine x_aload_n B dX9_points_38 rfl ?_
      refine x_iconst B dX9_points_39 ?_
      refine x_iload_n B dX9_points_40 rfl ?_
      refine x_goX (x_rVX B hk (show x_cl[10]? = some _ from rfl) (c_X9_number (hq1.up (p := A1.2.1 + 1) ⟨by omega, by omega⟩) ⟨by omega, by omega⟩ ⟨by omega, by omega⟩) (lw_V q550 q552 qs2 q123 q553) hv_X9_number ⟨by decide, by decide⟩ ⟨by show _ ≤ 18; omega, by show _ ≤ 126; omega⟩ rfl rfl (by simp [x_cr, x_c1, x_c2]) dX9_points_41) (fun z_41 κ_41 X_41 hz_41 p_41 => ?_) (fun v_41 κ_41 X_41 p_41 => ?_)
      · refine x_GX.wide (cells' := 18) (slots' := 126) (by omega) (by omega) ?_
        refine x_outX B hz_41 hxt ?_
        rw [c_T_up hr31, eT, hB] at p_41
        have esz : x_up Y r 1 (A1.2.1 + 1) (-1) 0 = X (-1) 0 := (congrFun (x_up_o _ (by omega)) 0).trans hsz
        have er : (r_tab (r_num (c_T X) z0) (c_T X) z0 6 0 w0 (fun _ => 0) (fun _ => 0)) = (0, B1.2.1, 0, fun _ => 0, fun _ => 0) := by rw [he, ht6]; exact (r_tab_B hA0 (by omega) hC35 hB0 p_41.1)
        rw [er]
        exact ⟨rfl, p_41.2.up (fun _ _ q => q) (fun b b1 b2 b3 => (x_up_o _ (fun q => b3 (Or.inl q))).trans (hY.1 b (fun q => b3 (Or.inl q)) (fun q => b3 (Or.inr (by omega))) (fun q => b3 (Or.inr (by omega))) (fun q => b3 (Or.inr (by omega))))) (fun b b1 b2 b3 q => b3 (Or.inl q)) (by omega)⟩
      rw [c_T_up hr31, eT, hB] at p_41
      obtain ⟨hB1, rfl, rfl, rfl⟩ := p_41
      rw [x_up_t]
      have hB3 := hBr.2.2 hB1
      have e3 : x_up Y r 1 B1.2.1 a 2 = j := by rw [x_up_o _ (by omega)]; exact yj
      refine x_ist_3 B dX9_points_44 (by first | rfl | exact x_cr _ _) ?_
      refine x_aload_n B dX9_points_45 rfl ?_
      refine x_iload B dX9_points_46 rfl ?_
      refine x_iload_n B dX9_points_48 rfl ?_
      refine x_goV (x_rV B ka (show x_cl[9]? = some _ from rfl) (c_X11_adds hT ka (by omega) (by rw [e3]; omega) ⟨by omega, by omega⟩ ⟨by omega, by omega⟩) (lw_V q639 q640 q641 q125 q642) hv_X11_adds ⟨by decide, by decide⟩ ⟨by show _ ≤ 18; omega, by show _ ≤ 126; omega⟩ rfl rfl (by simp [x_cr, x_c1, x_c2]) dX9_points_49) ?_
      rw [e3]
      have hZ : p_q X (x_up (x_up (x_up (x_up Y r 1 B1.2.1) (a + 1) j A1.2.2) (a + 2) j B1.2.2) a 2 (j + 1)) r a := hY.add hra
      have z1 : (x_up (x_up (x_up (x_up Y r 1 B1.2.1) (a + 1) j A1.2.2) (a + 2) j B1.2.2) a 2 (j + 1)) r 1 = B1.2.1 := by rw [x_up_o _ (by omega), x_up_o _ (by omega), x_up_o _ (by omega), x_up_s]
      have zj : (x_up (x_up (x_up (x_up Y r 1 B1.2.1) (a + 1) j A1.2.2) (a + 2) j B1.2.2) a 2 (j + 1)) a 2 = j + 1 := x_up_s _ _ _ _
      have zrow : (∀ i, 0 ≤ i → i < (j + 1) → (x_up (x_up (x_up (x_up Y r 1 B1.2.1) (a + 1) j A1.2.2) (a + 2) j B1.2.2) a 2 (j + 1)) (a + 1) i = (r_u L j A1.2.2) i ∧ (x_up (x_up (x_up (x_up Y r 1 B1.2.1) (a + 1) j A1.2.2) (a + 2) j B1.2.2) a 2 (j + 1)) (a + 2) i = (r_u D j B1.2.2) i) := fun i i1 i2 => by
        by_cases e : i = j
        · rw [e, r_u_s, r_u_s, x_up_o _ (by omega), x_up_o _ (by omega), x_up_s, x_up_o _ (by omega), x_up_s]; exact ⟨rfl, rfl⟩
        · rw [r_u_n e, r_u_n e, x_up_o _ (by omega), x_up_o _ (by omega), x_up_n _ (Or.inr e), x_up_o _ (by omega), x_up_o _ (by omega), x_up_n _ (Or.inr e), x_up_o _ (by omega), x_up_o _ (by omega)]; exact hrow i i1 (by omega)
      generalize (x_up (x_up (x_up (x_up Y r 1 B1.2.1) (a + 1) j A1.2.2) (a + 2) j B1.2.2) a 2 (j + 1)) = Z at hZ z1 zj zrow ⊢
      have hqZ := h.q hZ z1 ⟨by omega, by omega⟩
      have eTZ : c_T Z = c_T X := hZ.T hr31 h88
      refine x_iload B dX9_points_52 rfl ?_
      refine x_iconst B dX9_points_54 ?_
      refine x_iadd B dX9_points_55 ?_
      refine x_ist_2 B dX9_points_56 (by first | rfl | exact x_cr _ _) ?_
      refine x_aload_n B dX9_points_57 rfl ?_
      refine x_bipush B dX9_points_58 (by decide) ?_
      refine x_goP (x_rV B hk (show x_cl[10]? = some _ from rfl) (c_X9_sees hqZ ⟨by omega, by omega⟩) (lw_V q629 q631 qs6 q123 q632) hv_X9_sees ⟨by decide, by decide⟩ ⟨by show _ ≤ 18; omega, by show _ ≤ 126; omega⟩ rfl rfl (by simp [x_cr, x_c1, x_c2]) dX9_points_60) ?_
      rw [eTZ]
      refine x_if_eq B (tgt := 75) dX9_points_63 (by decide) ⟨by split <;> omega, by split <;> omega⟩ (fun h_63 => ?_) (fun h_63 => ?_)
      · refine x_wide (cells' := 18) (slots' := 126) (by omega) (by omega) ?_
        refine x_vretX B ?_ dX9_points_75
        have hcn : ¬ (j + 1 < 6 ∧ B1.2.1 < z0 ∧ (c_T X) B1.2.1 = 44) := by
          intro q; rw [if_pos q.2] at h_63; omega
        have er : (r_tab (r_num (c_T X) z0) (c_T X) z0 6 0 w0 (fun _ => 0) (fun _ => 0)) = (1, B1.2.1, j + 1, (r_u L j A1.2.2), (r_u D j B1.2.2)) := by rw [he, ht6]; exact r_tab_D hA0 (by omega) hC35 hB0 (by omega) hcn
        rw [er]
        exact ⟨rfl, rfl, rfl, hZ, z1, ⟨by dsimp only; omega, by dsimp only; omega⟩, zj, ⟨by dsimp only; omega, by dsimp only; omega⟩, zrow⟩
      · have hC44 : B1.2.1 < z0 ∧ (c_T X) B1.2.1 = 44 := by by_cases q : B1.2.1 < z0 ∧ (c_T X) B1.2.1 = 44; exact q; rw [if_neg q] at h_63; omega
        refine x_aload_n B dX9_points_66 rfl ?_
        refine x_getI B (k := 2) 2 rfl rfl xc_9 (by decide) ka (Or.inr q508) (fun _ h => h) dX9_points_67 (fun r_67 => ?_)
        rw [zj] at r_67 ⊢
        refine x_bipush B dX9_points_70 (by decide) ?_
        refine x_icmp_lt B (tgt := 6) dX9_points_72 (by decide) ⟨by omega, by omega⟩ ⟨by decide, by decide⟩ (fun h_72 => ?_) (fun h_72 => ?_)
        · refine x_aload_n B dX9_points_6 rfl ?_
          refine x_getI B (k := 2) 2 rfl rfl xc_9 (by decide) ka (Or.inr q508) (fun _ h => h) dX9_points_7 (fun r_7 => ?_)
          rw [zj] at r_7 ⊢
          refine x_if_le B (tgt := 23) dX9_points_10 (by decide) ⟨by omega, by omega⟩ (fun h_10 => (by exfalso; omega)) (fun h_10 => ?_)
          refine x_aload_n B dX9_points_13 rfl ?_
          refine x_dup B dX9_points_14 (by first | rfl | exact x_cr _ _) ?_
          refine x_getI B (k := 1) 1 rfl rfl xc_10 (by decide) hk (Or.inl q479) (fun _ h => h) dX9_points_15 (fun r_15 => ?_)
          rw [z1] at r_15 ⊢
          refine x_iconst B dX9_points_18 ?_
          refine x_iadd B dX9_points_19 ?_
          refine x_putI B (k := 1) 1 rfl rfl rfl ⟨by omega, by omega⟩ xc_10 (by decide) rfl nn_10_1 (fun _ => rfl) hk (Or.inl q479) (fun _ h => h) dX9_points_20 ?_
          refine x_fg_4 ?_
          refine x_cs (cells' := 3 * (j + 1).toNat) (slots' := 21 * (j + 1).toNat) (by omega) (by omega) ?_
          refine ih (j + 1) (B1.2.1 + 1) (A1.2.2 + 1) B1.2.2 (r_u L j A1.2.2) (r_u D j B1.2.2) _ ⟨⟨by omega, by omega⟩, ⟨by omega, by omega⟩, ⟨?_, ?_, ⟨by omega, by omega⟩, ⟨by omega, by omega⟩⟩, ⟨hZ.at (by omega), x_up_s _ _ _ _, by rw [x_up_o _ (by omega)]; exact zj, fun i i1 i2 => by rw [x_up_o _ (by omega), x_up_o _ (by omega)]; exact zrow i i1 i2⟩, ?_⟩ (by omega)
          · rw [if_neg (by omega), show j + 1 - 1 = j by omega, r_u_s]
          · rw [if_neg (by omega), show j + 1 - 1 = j by omega, r_u_s]
          · rw [he, ht6]; exact r_tab_C hA0 (by omega) hC35 hB0 (by omega) ⟨by omega, hC44⟩
        · refine x_wide (cells' := 18) (slots' := 126) (by omega) (by omega) ?_
          refine x_vretX B ?_ dX9_points_75
          have hcn : ¬ (j + 1 < 6 ∧ B1.2.1 < z0 ∧ (c_T X) B1.2.1 = 44) := by
            intro q; omega
          have er : (r_tab (r_num (c_T X) z0) (c_T X) z0 6 0 w0 (fun _ => 0) (fun _ => 0)) = (1, B1.2.1, j + 1, (r_u L j A1.2.2), (r_u D j B1.2.2)) := by rw [he, ht6]; exact r_tab_D hA0 (by omega) hC35 hB0 (by omega) hcn
          rw [er]
          exact ⟨rfl, rfl, rfl, hZ, z1, ⟨by dsimp only; omega, by dsimp only; omega⟩, zj, ⟨by dsimp only; omega, by dsimp only; omega⟩, zrow⟩
  refine x_iconst B dX9_points_0 ?_
  refine x_ist_2 B dX9_points_1 (by first | rfl | exact x_cr _ _) ?_
  refine x_sipush B dX9_points_2 (by decide) ?_
  refine x_ist_3 B dX9_points_5 (by first | rfl | exact x_cr _ _) ?_
  refine x_aload_n B dX9_points_6 rfl ?_
  refine x_getI B (k := 2) 2 rfl rfl xc_9 (by decide) ka (Or.inr q508) (fun _ h => h) dX9_points_7 (fun r_7 => ?_)
  rw [hm0] at r_7 ⊢
  refine x_if_le B (tgt := 23) dX9_points_10 (by decide) ⟨by omega, by omega⟩ (fun h_10 => ?_) (fun h_10 => (by exfalso; omega))
  exact lp_23 _ 0 w0 1 1000 (fun _ => 0) (fun _ => 0) X ⟨⟨by omega, by omega⟩, hq, ⟨by rw [if_pos rfl], by rw [if_pos rfl], ⟨by omega, by omega⟩, ⟨by omega, by omega⟩⟩, ⟨p_q.rf X r a, ea, hm0, fun i i1 i2 => by omega⟩, rfl⟩ (Nat.lt_succ_self _)
