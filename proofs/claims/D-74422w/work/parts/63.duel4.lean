def q_dv (X : x_X) (i j : Int) : Int → Int → Int → Int → Int × Int := d_of (d_ed (c_li X) (c_M X 3) i j) (d_od (c_O X) (c_M X 3) i j) (d_ow (c_M X 3) i j) (d_fs (c_lot X) i j) 5
theorem v_eq.lot {X Y : x_X} (hv : v_eq X Y) : c_lot Y = c_lot X := by
  funext l
  unfold c_lot
  rw [hv.1 1 (by omega) (by omega), hv.1 2 (by omega) (by omega)]
  by_cases q : 0 ≤ l ∧ l < X 1 2
  · have := hv.2.1 l q.1 q.2 0 (by omega) (by omega)
    rw [Int.add_zero] at this
    rw [if_pos q, if_pos q, this]
  · rw [if_neg q, if_neg q]
theorem v_eq.dV {X Y : x_X} {i j : Int} (hv : v_eq X Y) (hn : X 1 2 ≤ 6) (h3 : Y 60 3 = i) (h4 : Y 60 4 = j) : d_V Y = q_dv X i j ∧ d_F Y = d_fs (c_lot X) i j := by
  unfold d_V d_E d_O d_W d_F q_dv
  rw [hv.li, hv.M hn, hv.O, hv.lot, h3, h4]
  exact ⟨rfl, rfl⟩
theorem d_H.mk {κ : x_Ka} {X Y : x_X} {i j : Int} (hC : n_C κ X) (hv : v_eq X Y) (hi : 0 ≤ i ∧ i < X 1 2) (hj : 0 ≤ j ∧ j < X 1 2) (hne : i ≠ j) (h3 : Y 60 3 = i) (h4 : Y 60 4 = j) : d_H κ Y := ⟨hv.C hC, by rw [h3, hv.1 1 (by omega) (by omega)]; exact hi, by rw [h4, hv.1 1 (by omega) (by omega)]; exact hj, by rw [h3, h4]; exact hne⟩
theorem d_I.cg {X Y : x_X} {V : Int → Int → Int → Int → Int × Int} (h : d_I X V) (he : ∀ a, 61 ≤ a → a ≤ 63 → Y a = X a) : d_I Y V := by
  have e1 : Y (60 + 1) = X (60 + 1) := he _ (by omega) (by omega)
  have e2 : Y (60 + 2) = X (60 + 2) := he _ (by omega) (by omega)
  have e3 : Y (60 + 3) = X (60 + 3) := he _ (by omega) (by omega)
  unfold d_I at *
  rw [e1, e2, e3]
  exact h
theorem q_dv_r {κ : x_Ka} {X : x_X} {i j : Int} (hC : n_C κ X) (hi : 0 ≤ i ∧ i < X 1 2) (hj : 0 ≤ j ∧ j < X 1 2) (x y m o : Int) : (0 ≤ (q_dv X i j x y m o).1 ∧ (q_dv X i j x y m o).1 ≤ 1000000) := by
  refine d_of_r ⟨fun sd z => ?_, fun a b => d_ed_r _ _ _ _ _ _⟩ 5 x y m o
  have hl : 0 ≤ d_l i j sd ∧ d_l i j sd < X 1 2 := by unfold d_l; split <;> assumption
  have w2 := hC.2.2.2.1.2.1 _ hl.1 hl.2
  unfold d_od c_O
  rw [if_pos ⟨hl.1, hl.2, by omega, by omega⟩]
  exact l_odds_r (hC.2.2.1.1 _ hl.1 hl.2) ⟨by omega, by omega⟩ w2.1.1 hC.2.2.1.2.1
def x_tl (Z : x_X) (a : Int) : x_X := x_up (x_up Z 32 (Z 0 7) a) 0 7 (Z 0 7 + 1)
theorem x_tl2 (Z : x_X) (a b : Int) (h : Z 0 7 = 0) : x_tl (x_tl Z a) b 0 7 = 2 ∧ x_tl (x_tl Z a) b 32 0 = a ∧ x_tl (x_tl Z a) b 32 1 = b := by
  refine ⟨?_, ?_, ?_⟩ <;> simp [x_tl, x_up, h]
theorem x_tl1 (Z : x_X) (a : Int) {n : Int} (h : Z 0 7 = n) : x_tl Z a 0 7 = n + 1 ∧ x_tl Z a 32 n = a ∧ ∀ k, k ≠ n → x_tl Z a 32 k = Z 32 k := by
  subst h
  refine ⟨by simp [x_tl, x_up], by simp [x_tl, x_up], fun k hk => by simp [x_tl, x_up, hk]⟩
def q_nd (M : x_X) (i j : Int) : Int := if M (-1) 1 ≠ 2 ∨ M (-1) 2 ≠ 2 then -2 else if (M i 3 > 0 ∧ M i 6 = 0) ∧ (M j 3 > 0 ∧ M j 6 = 0) then 0 else -3
theorem c_X1_noDuel {l : Launch} {E : x_E} {κ : x_Ka} {X : x_X} {i j : Int} (hC : n_C κ X) (hi : 0 ≤ i ∧ i < X 1 2) (hj : 0 ≤ j ∧ j < X 1 2) : x_Pu l yX1_noDuel cX1_noDuel 3 (some .int) 1 E κ X [x_rf E 0, vi i, vi j] (vi (q_nd (c_M X 3) i j)) := by
  refine x_Met.of [(false, x_rf E 0), (false, vi i), (false, vi j)] [some (x_rf E 0), some (vi i), some (vi j)] 0 (by decide) rfl rfl ⟨x_cr E (0), rfl, rfl, trivial⟩ rfl rfl ?_
  intro p e s m args below meth c hargs hin B
  obtain ⟨hI, hP, hO, hW, hJ⟩ := id hC
  obtain ⟨hT, h0, hn, hl, hla⟩ := id hI
  have g1 : c_M X 3 (-1) 1 = X 3 1 := c_M_g (by omega)
  have g2 : c_M X 3 (-1) 2 = X 3 2 := c_M_g (by omega)
  have i3 : c_M X 3 i 3 = X (3 + 1 + 1 + 2 * i) 3 := c_M_s hi (by omega)
  have i6 : c_M X 3 i 6 = X (3 + 1 + 1 + 2 * i) 6 := c_M_s hi (by omega)
  have j3 : c_M X 3 j 3 = X (3 + 1 + 1 + 2 * j) 3 := c_M_s hj (by omega)
  have j6 : c_M X 3 j 6 = X (3 + 1 + 1 + 2 * j) 6 := c_M_s hj (by omega)
  refine x_aload_n B dX1_noDuel_0 rfl ?_
  refine x_getC0 B (k := 2) hT rfl rfl xc_0 (by decide) h0 (Or.inl q400) (fun _ h => h) dX1_noDuel_1 (fun k_1 => ?_)
  refine x_getI B (k := 1) 1 rfl rfl xc_2 (by decide) k_1 (Or.inr q248) (fun _ h => h) dX1_noDuel_4 (fun r_4 => ?_)
  refine x_iconst B dX1_noDuel_7 ?_
  refine x_icmp_ne B (tgt := 22) dX1_noDuel_8 (by decide) ⟨by omega, by omega⟩ ⟨by omega, by omega⟩ (fun h_8 => ?_) (fun h_8 => ?_)
  · refine x_bipush B dX1_noDuel_22 (by decide) ?_
    refine x_iret B (fun _ _ h => h) ?_ dX1_noDuel_24
    exact ⟨congrArg (fun z => some (vi z)) (by unfold q_nd; rw [if_pos (by omega)]), rfl⟩
  · refine x_aload_n B dX1_noDuel_11 rfl ?_
    refine x_getC0 B (k := 2) hT rfl rfl xc_0 (by decide) h0 (Or.inl q400) (fun _ h => h) dX1_noDuel_12 (fun k_12 => ?_)
    refine x_getI B (k := 2) 2 rfl rfl xc_2 (by decide) k_12 (Or.inr q250) (fun _ h => h) dX1_noDuel_15 (fun r_15 => ?_)
    refine x_iconst B dX1_noDuel_18 ?_
    refine x_icmp_eq B (tgt := 25) dX1_noDuel_19 (by decide) ⟨by omega, by omega⟩ ⟨by omega, by omega⟩ (fun h_19 => ?_) (fun h_19 => ?_)
    · refine x_aload_n B dX1_noDuel_25 rfl ?_
      refine x_getC0 B (k := 2) hT rfl rfl xc_0 (by decide) h0 (Or.inl q400) (fun _ h => h) dX1_noDuel_26 (fun k_26 => ?_)
      refine x_getC1 B (k := 0) hT rfl rfl xc_2 (by decide) k_26 (Or.inr q244) (fun _ h => h) dX1_noDuel_29 (fun k_29 => ?_)
      refine x_iload_n B dX1_noDuel_32 rfl ?_
      refine x_aaldC B (t := 10) hT k_29 rfl rfl rfl rfl ⟨by omega, by omega⟩ dX1_noDuel_33 (fun k_33 => ?_)
      refine x_goP (x_rV B k_33 (show x_cl[3]? = some _ from rfl) (c_X3_isToTry hT (by assumption)) (lw_V q782 q783 q784 q115 q785) hv_X3_isToTry ⟨by decide, by decide⟩ ⟨by decide, by decide⟩ rfl rfl (by simp [x_cr, x_c1, x_c2]) dX1_noDuel_34) ?_
      refine x_if_eq B (tgt := 59) dX1_noDuel_37 (by decide) (x_01R (by unfold s_toTry; split <;> omega)) (fun h_37 => ?_) (fun h_37 => ?_)
      · refine x_bipush B dX1_noDuel_59 (by decide) ?_
        refine x_iret B (fun _ _ h => h) ?_ dX1_noDuel_61
        exact ⟨congrArg (fun z => some (vi z)) (by unfold q_nd; rw [if_neg (by omega), i3, i6, j3, j6]; unfold s_toTry at *; first | (rw [if_pos ⟨by split at h_37; assumption; exact absurd rfl h_37, by split at h_52; assumption; exact absurd rfl h_52⟩]) | (rw [if_neg (fun q => by rw [if_pos q.1] at h_37; omega)]) | (rw [if_neg (fun q => by rw [if_pos q.2] at h_52; omega)])), rfl⟩
      · refine x_aload_n B dX1_noDuel_40 rfl ?_
        refine x_getC0 B (k := 2) hT rfl rfl xc_0 (by decide) h0 (Or.inl q400) (fun _ h => h) dX1_noDuel_41 (fun k_41 => ?_)
        refine x_getC1 B (k := 0) hT rfl rfl xc_2 (by decide) k_41 (Or.inr q244) (fun _ h => h) dX1_noDuel_44 (fun k_44 => ?_)
        refine x_iload_n B dX1_noDuel_47 rfl ?_
        refine x_aaldC B (t := 10) hT k_44 rfl rfl rfl rfl ⟨by omega, by omega⟩ dX1_noDuel_48 (fun k_48 => ?_)
        refine x_goP (x_rV B k_48 (show x_cl[3]? = some _ from rfl) (c_X3_isToTry hT (by assumption)) (lw_V q782 q783 q784 q115 q785) hv_X3_isToTry ⟨by decide, by decide⟩ ⟨by decide, by decide⟩ rfl rfl (by simp [x_cr, x_c1, x_c2]) dX1_noDuel_49) ?_
        refine x_if_eq B (tgt := 59) dX1_noDuel_52 (by decide) (x_01R (by unfold s_toTry; split <;> omega)) (fun h_52 => ?_) (fun h_52 => ?_)
        · refine x_bipush B dX1_noDuel_59 (by decide) ?_
          refine x_iret B (fun _ _ h => h) ?_ dX1_noDuel_61
          exact ⟨congrArg (fun z => some (vi z)) (by unfold q_nd; rw [if_neg (by omega), i3, i6, j3, j6]; unfold s_toTry at *; first | (rw [if_pos ⟨by split at h_37; assumption; exact absurd rfl h_37, by split at h_52; assumption; exact absurd rfl h_52⟩]) | (rw [if_neg (fun q => by rw [if_pos q.1] at h_37; omega)]) | (rw [if_neg (fun q => by rw [if_pos q.2] at h_52; omega)])), rfl⟩
        · refine x_iconst B dX1_noDuel_55 ?_
          refine x_goto B (tgt := 61) dX1_noDuel_56 (by decide) ?_
          refine x_iret B (fun _ _ h => h) ?_ dX1_noDuel_61
          exact ⟨congrArg (fun z => some (vi z)) (by unfold q_nd; rw [if_neg (by omega), i3, i6, j3, j6]; unfold s_toTry at *; first | (rw [if_pos ⟨by split at h_37; assumption; exact absurd rfl h_37, by split at h_52; assumption; exact absurd rfl h_52⟩]) | (rw [if_neg (fun q => by rw [if_pos q.1] at h_37; omega)]) | (rw [if_neg (fun q => by rw [if_pos q.2] at h_52; omega)])), rfl⟩
    · refine x_bipush B dX1_noDuel_22 (by decide) ?_
      refine x_iret B (fun _ _ h => h) ?_ dX1_noDuel_24
      exact ⟨congrArg (fun z => some (vi z)) (by unfold q_nd; rw [if_pos (by omega)]), rfl⟩
theorem c_X1_tellsDuel {l : Launch} {E : x_E} {κ : x_Ka} {X : x_X} {i j x y : Int} (hC : n_C κ X) (k87 : κ 87 = some (.inr (1, 1))) (hi : 0 ≤ i ∧ i < X 1 2) (hj : 0 ≤ j ∧ j < X 1 2) (hne : i ≠ j) (hx : 0 ≤ x ∧ x ≤ 2) (hy : 0 ≤ y ∧ y ≤ 2) : x_Met l yX1_tellsDuel cX1_tellsDuel 8 (some .int) 13 0 0 E κ X [x_rf E 0, vi i, vi j, vi x, vi y] κ (fun v_ Y_ => v_ = some (vi (q_dv X i j (c_M X 3 i 3) (c_M X 3 j 3) x y).1) ∧ k_eq X Y_ ∧ f_eq X Y_ ∧ (Y_ 0 7 = 2 ∧ Y_ 32 0 = (if (d_fs (c_lot X) i j (c_M X 3 i 3) (c_M X 3 j 3)) = 0 then j else i) ∧ Y_ 32 1 = (q_dv X i j (c_M X 3 i 3) (c_M X 3 j 3) x y).2) ∧ d_I Y_ (q_dv X i j) ∧ (Y_ 60 3 = i ∧ Y_ 60 4 = j)) := by
  refine x_Met.of [(false, x_rf E 0), (false, vi i), (false, vi j), (false, vi x), (false, vi y)] [some (x_rf E 0), some (vi i), some (vi j), some (vi x), some (vi y), none, none, none] 3 (by decide) rfl rfl ⟨x_cr E (0), rfl, rfl, rfl, rfl, trivial⟩ rfl rfl ?_
  intro p e s m args below meth c hargs hin B
  obtain ⟨hI, hP, hO, hW, hJ⟩ := id hC
  obtain ⟨hT, h0, hn, hl, hla⟩ := id hI
  refine x_lows (fun hlow => ?_)
  have hlo := hI.lo k87 hlow
  have hlo0 := hlo.1
  have k60 : κ 60 = some (.inl (6, 1)) := hT.1 0 0 h0 16 (0, 60, .inl (6, 1)) rfl
  have wi := hW.2.1 i hi.1 hi.2
  have wj := hW.2.1 j hj.1 hj.2
  have si : c_M X 3 i 3 = X (3 + 1 + 1 + 2 * i) 3 := c_M_s hi (by omega)
  have sj : c_M X 3 j 3 = X (3 + 1 + 1 + 2 * j) 3 := c_M_s hj (by omega)
  have hcl := d_cl_r (x := (c_M X 3 i 3)) (y := (c_M X 3 j 3)) (m := x) (o := y) ⟨by omega, by omega⟩ ⟨by omega, by omega⟩ hx hy
  have hqr := q_dv_r hC hi hj (c_M X 3 i 3) (c_M X 3 j 3) x y
  have hfr : 0 ≤ (d_fs (c_lot X) i j (c_M X 3 i 3) (c_M X 3 j 3)) ∧ (d_fs (c_lot X) i j (c_M X 3 i 3) (c_M X 3 j 3)) ≤ 1 := by unfold d_fs; split <;> omega
  refine x_aload_n B dX1_tellsDuel_0 rfl ?_
  refine x_getC0 B (k := 16) hT rfl rfl xc_0 (by decide) h0 (Or.inl q417) (fun _ h => h) dX1_tellsDuel_1 (fun k_1 => ?_)
  refine x_iload_n B dX1_tellsDuel_4 rfl ?_
  refine x_iload_n B dX1_tellsDuel_5 rfl ?_
  refine x_go (x_rV B k_1 (show x_cl[6]? = some _ from rfl) (c_X7_begins hT k60 ⟨by omega, by omega⟩ ⟨by omega, by omega⟩) (lw_V q1222 q1223 q1224 q119 q1225) hv_X7_begins ⟨by decide, by decide⟩ ⟨by decide, by decide⟩ rfl rfl (by simp [x_cr, x_c1, x_c2]) dX1_tellsDuel_6) (fun v_6 X_6 p_6 => ?_)
  obtain ⟨rfl, f1, f2, f3, f4⟩ := p_6
  have hv : v_eq X X_6 := ⟨fun a a1 a2 => f1 a (by omega) (by omega), fun l l1 l2 t t1 t2 => f1 _ (by have := hla l l1 l2; omega) (by have := hla l l1 l2; omega), by rw [f1 0 (by omega) (by omega)]⟩
  have hH := d_H.mk hC hv hi hj hne f2 f3
  have hVe : q_dv X i j = d_V X_6 := (hv.dV hn.2 f2 f3).1.symm
  have hD0 : d_I X_6 (q_dv X i j) := fun x y m o q1 q2 q3 q4 q5 => by have := d_cl_r q1 q2 q3 q4; rw [f4 _ this.1 this.2] at q5; omega
  have ei : X_6 (3 + 1 + 1 + 2 * i) 3 = c_M X 3 i 3 := by rw [f1 _ (by omega) (by omega), si]
  have ej : X_6 (3 + 1 + 1 + 2 * j) 3 = c_M X 3 j 3 := by rw [f1 _ (by omega) (by omega), sj]
  refine x_aload_n B dX1_tellsDuel_9 rfl ?_
  refine x_getC0 B (k := 2) hT rfl rfl xc_0 (by decide) h0 (Or.inl q400) (fun _ h => h) dX1_tellsDuel_10 (fun k_10 => ?_)
  refine x_getC1 B (k := 0) hT rfl rfl xc_2 (by decide) k_10 (Or.inr q244) (fun _ h => h) dX1_tellsDuel_13 (fun k_13 => ?_)
  refine x_iload_n B dX1_tellsDuel_16 rfl ?_
  refine x_aaldC B (t := 10) hT k_13 rfl rfl rfl rfl ⟨by omega, by omega⟩ dX1_tellsDuel_17 (fun k_17 => ?_)
  refine x_getI B (k := 3) 3 rfl rfl xc_3 (by decide) k_17 (Or.inr q211) (fun _ h => h) dX1_tellsDuel_18 (fun r_18 => ?_)
  rw [ei]
  refine x_istw_5 B dX1_tellsDuel_21 (by first | rfl | exact x_cr _ _) ?_
  refine x_aload_n B dX1_tellsDuel_23 rfl ?_
  refine x_getC0 B (k := 2) hT rfl rfl xc_0 (by decide) h0 (Or.inl q400) (fun _ h => h) dX1_tellsDuel_24 (fun k_24 => ?_)
  refine x_getC1 B (k := 0) hT rfl rfl xc_2 (by decide) k_24 (Or.inr q244) (fun _ h => h) dX1_tellsDuel_27 (fun k_27 => ?_)
  refine x_iload_n B dX1_tellsDuel_30 rfl ?_
  refine x_aaldC B (t := 10) hT k_27 rfl rfl rfl rfl ⟨by omega, by omega⟩ dX1_tellsDuel_31 (fun k_31 => ?_)
  refine x_getI B (k := 3) 3 rfl rfl xc_3 (by decide) k_31 (Or.inr q211) (fun _ h => h) dX1_tellsDuel_32 (fun r_32 => ?_)
  rw [ej]
  refine x_istw_6 B dX1_tellsDuel_35 (by first | rfl | exact x_cr _ _) ?_
  refine x_aload_n B dX1_tellsDuel_37 rfl ?_
  refine x_getC0 B (k := 16) hT rfl rfl xc_0 (by decide) h0 (Or.inl q417) (fun _ h => h) dX1_tellsDuel_38 (fun k_38 => ?_)
  refine x_iload B dX1_tellsDuel_41 rfl ?_
  refine x_iload B dX1_tellsDuel_43 rfl ?_
  refine x_iload_n B dX1_tellsDuel_45 rfl ?_
  refine x_iload B dX1_tellsDuel_46 rfl ?_
  refine x_go (x_rV B k_38 (show x_cl[6]? = some _ from rfl) ((d_all 5 X_6 (c_M X 3 i 3) (c_M X 3 j 3) x y hH hVe hD0 ⟨by omega, by omega⟩ ⟨by omega, by omega⟩ hx hy (by omega)) ) (lw_V q1226 q1227 q1228 q119 q1229) hv_X7_of ⟨by decide, by decide⟩ ⟨by decide, by decide⟩ rfl rfl (by simp [x_cr, x_c1, x_c2]) dX1_tellsDuel_48) (fun v_48 X_48 p_48 => ?_)
  obtain ⟨rfl, hg, hJd, hkn⟩ := p_48
  have hkv : k_eq X X_48 := (show k_eq X X_6 from ⟨fun a a1 a2 a3 a4 => f1 a (by omega) (by omega), fun a a1 a2 => f1 a (by omega) (by omega), by rw [f1 0 (by omega) (by omega)]; exact ⟨rfl, rfl, rfl⟩, by rw [f1 (-1) (by omega) (by omega)]; exact Int.le_refl _⟩).trans hg.k
  have hfe : f_eq X X_48 := fun a a1 a2 => (hg a (by omega)).trans (f1 a (by omega) (by omega))
  have g3 : X_48 60 3 = i := by rw [hg 60 (by omega)]; exact f2
  have g4 : X_48 60 4 = j := by rw [hg 60 (by omega)]; exact f3
  refine x_istw_7 B dX1_tellsDuel_51 (by first | rfl | exact x_cr _ _) ?_
  refine x_aload_n B dX1_tellsDuel_53 rfl ?_
  refine x_iconst B dX1_tellsDuel_54 ?_
  refine x_putI B (k := 7) 7 rfl rfl rfl ⟨by omega, by omega⟩ xc_0 (by decide) rfl nn_0_7 (fun _ => rfl) h0 (Or.inl q408) (fun _ h => h) dX1_tellsDuel_55 ?_
  have hkz : k_eq X (x_up X_48 0 7 0) := hkv.up7 (Or.inl rfl)
  have hvz := hkz.v hI hlo
  have z3 : (x_up X_48 0 7 0) 60 3 = i := by rw [x_up_o _ (by omega)]; exact g3
  have z4 : (x_up X_48 0 7 0) 60 4 = j := by rw [x_up_o _ (by omega)]; exact g4
  have hHZ := d_H.mk hC hvz hi hj hne z3 z4
  have ez : (x_up X_48 0 7 0) 0 7 = 0 := x_up_s _ _ _ _
  have hFz : d_F (x_up X_48 0 7 0) (c_M X 3 i 3) (c_M X 3 j 3) = (d_fs (c_lot X) i j (c_M X 3 i 3) (c_M X 3 j 3)) := by rw [(hvz.dV hn.2 z3 z4).2]
  have hmm := hJd (c_M X 3 i 3) (c_M X 3 j 3) x y ⟨by omega, by omega⟩ ⟨by omega, by omega⟩ hx hy hkn
  refine x_aload_n B dX1_tellsDuel_58 rfl ?_
  refine x_aload_n B dX1_tellsDuel_59 rfl ?_
  refine x_getC0 B (k := 16) hT rfl rfl xc_0 (by decide) h0 (Or.inl q417) (fun _ h => h) dX1_tellsDuel_60 (fun k_60 => ?_)
  refine x_iload B dX1_tellsDuel_63 rfl ?_
  refine x_iload B dX1_tellsDuel_65 rfl ?_
  refine x_goP (x_rV B k_60 (show x_cl[6]? = some _ from rfl) (c_X7_isFirst hHZ ⟨by omega, by omega⟩ ⟨by omega, by omega⟩) (lw_V q1266 q1235 q1236 q119 q1237) hv_X7_isFirst ⟨by decide, by decide⟩ ⟨by decide, by decide⟩ rfl rfl (by simp [x_cr, x_c1, x_c2]) dX1_tellsDuel_67) ?_
  rw [hFz]
  refine x_if_eq B (tgt := 78) dX1_tellsDuel_70 (by decide) ⟨by omega, by omega⟩ (fun h_70 => ?_) (fun h_70 => ?_)
  · refine x_iload_n B dX1_tellsDuel_78 rfl ?_
    refine x_i2l B dX1_tellsDuel_79 ⟨by omega, by omega⟩ ?_
    refine x_goV (x_rV B h0 (show x_cl[0]? = some _ from rfl) (c_X1_tell hT h0 ⟨by omega, by omega⟩ ⟨by omega, by omega⟩) (lw_V q806 q808 qs16 q110 q809) hv_X1_tell ⟨by decide, by decide⟩ ⟨by decide, by decide⟩ rfl rfl (by simp [x_cr, x_c1, x_c2]) dX1_tellsDuel_80) ?_
    refine x_aload_n B dX1_tellsDuel_83 rfl ?_
    refine x_aload_n B dX1_tellsDuel_84 rfl ?_
    refine x_getC0 B (k := 16) hT rfl rfl xc_0 (by decide) h0 (Or.inl q417) (fun _ h => h) dX1_tellsDuel_85 (fun k_85 => ?_)
    refine x_getC1 B (k := 1) hT rfl rfl xc_6 (by decide) k_85 (Or.inr q337) (fun _ h => h) dX1_tellsDuel_88 (fun k_88 => ?_)
    refine x_aload_n B dX1_tellsDuel_91 rfl ?_
    refine x_getC0 B (k := 16) hT rfl rfl xc_0 (by decide) h0 (Or.inl q417) (fun _ h => h) dX1_tellsDuel_92 (fun k_92 => ?_)
    refine x_iload B dX1_tellsDuel_95 rfl ?_
    refine x_iload B dX1_tellsDuel_97 rfl ?_
    refine x_iload_n B dX1_tellsDuel_99 rfl ?_
    refine x_iload B dX1_tellsDuel_100 rfl ?_
    refine x_goP (x_rVN B k_92 (show x_cl[6]? = some _ from rfl) (c_X7_cell ) q1267 q1232 qs31 q119 q1233 hd_X7_cell ⟨by decide, by decide⟩ ⟨by decide, by decide⟩ rfl rfl (by simp [x_cr, x_c1, x_c2]) dX1_tellsDuel_102) ?_
    rw [show ((3 * x + y) * 41 + c_M X 3 i 3) * 41 + c_M X 3 j 3 = d_cl (c_M X 3 i 3) (c_M X 3 j 3) x y from rfl]
    refine x_iald B k_88 ⟨by omega, by omega⟩ dX1_tellsDuel_105 (fun r_105 => ?_)
    rw [x_up_o _ (by omega), x_up_o _ (by omega), x_up_o _ (by omega), hmm.2] at r_105 ⊢
    refine x_i2l B dX1_tellsDuel_106 ⟨by omega, by omega⟩ ?_
    refine x_goV (x_rV B h0 (show x_cl[0]? = some _ from rfl) (c_X1_tell hT h0 ⟨by rw [x_up_s, ez]; omega, by rw [x_up_s, ez]; omega⟩ ⟨by omega, by omega⟩) (lw_V q806 q808 qs16 q110 q809) hv_X1_tell ⟨by decide, by decide⟩ ⟨by decide, by decide⟩ rfl rfl (by simp [x_cr, x_c1, x_c2]) dX1_tellsDuel_107) ?_
    refine x_iload B dX1_tellsDuel_110 rfl ?_
    refine x_iret B (fun _ _ h => h) ?_ dX1_tellsDuel_112
    refine ⟨rfl, ((((hkz.up (Or.inr (Or.inl rfl)) hlo0).up7 (Or.inl rfl)).up (Or.inr (Or.inl rfl)) hlo0).up7 (Or.inl rfl)), (((((hfe.up (by omega)).up (by omega)).up (by omega)).up (by omega)).up (by omega)), ?_, ?_, ?_, ?_⟩
    · have q2 := fun a => x_tl2 (x_up X_48 0 7 0) a (q_dv X i j (c_M X 3 i 3) (c_M X 3 j 3) x y).2 ez
      first
      | exact ⟨(q2 i).1, (q2 i).2.1.trans (by rw [if_neg (by assumption)]), (q2 i).2.2⟩
      | exact ⟨(q2 j).1, (q2 j).2.1.trans (by rw [if_pos (by assumption)]), (q2 j).2.2⟩
    --  first | rw [if_neg (by assumption)] | rw [if_pos (by assumption)]
    · exact hJd.cg (fun a a1 a2 => by rw [x_up_o _ (by omega), x_up_o _ (by omega), x_up_o _ (by omega), x_up_o _ (by omega), x_up_o _ (by omega)])
    · rw [x_up_o _ (by omega), x_up_o _ (by omega), x_up_o _ (by omega), x_up_o _ (by omega)]; exact z3
    · rw [x_up_o _ (by omega), x_up_o _ (by omega), x_up_o _ (by omega), x_up_o _ (by omega)]; exact z4
  · refine x_iload_n B dX1_tellsDuel_73 rfl ?_
    refine x_i2l B dX1_tellsDuel_74 ⟨by omega, by omega⟩ ?_
    refine x_goto B (tgt := 80) dX1_tellsDuel_75 (by decide) ?_
    refine x_goV (x_rV B h0 (show x_cl[0]? = some _ from rfl) (c_X1_tell hT h0 ⟨by omega, by omega⟩ ⟨by omega, by omega⟩) (lw_V q806 q808 qs16 q110 q809) hv_X1_tell ⟨by decide, by decide⟩ ⟨by decide, by decide⟩ rfl rfl (by simp [x_cr, x_c1, x_c2]) dX1_tellsDuel_80) ?_
    refine x_aload_n B dX1_tellsDuel_83 rfl ?_
    refine x_aload_n B dX1_tellsDuel_84 rfl ?_
    refine x_getC0 B (k := 16) hT rfl rfl xc_0 (by decide) h0 (Or.inl q417) (fun _ h => h) dX1_tellsDuel_85 (fun k_85 => ?_)
    refine x_getC1 B (k := 1) hT rfl rfl xc_6 (by decide) k_85 (Or.inr q337) (fun _ h => h) dX1_tellsDuel_88 (fun k_88 => ?_)
    refine x_aload_n B dX1_tellsDuel_91 rfl ?_
    refine x_getC0 B (k := 16) hT rfl rfl xc_0 (by decide) h0 (Or.inl q417) (fun _ h => h) dX1_tellsDuel_92 (fun k_92 => ?_)
    refine x_iload B dX1_tellsDuel_95 rfl ?_
    refine x_iload B dX1_tellsDuel_97 rfl ?_
    refine x_iload_n B dX1_tellsDuel_99 rfl ?_
    refine x_iload B dX1_tellsDuel_100 rfl ?_
    refine x_goP (x_rVN B k_92 (show x_cl[6]? = some _ from rfl) (c_X7_cell ) q1267 q1232 qs31 q119 q1233 hd_X7_cell ⟨by decide, by decide⟩ ⟨by decide, by decide⟩ rfl rfl (by simp [x_cr, x_c1, x_c2]) dX1_tellsDuel_102) ?_
    rw [show ((3 * x + y) * 41 + c_M X 3 i 3) * 41 + c_M X 3 j 3 = d_cl (c_M X 3 i 3) (c_M X 3 j 3) x y from rfl]
    refine x_iald B k_88 ⟨by omega, by omega⟩ dX1_tellsDuel_105 (fun r_105 => ?_)
    rw [x_up_o _ (by omega), x_up_o _ (by omega), x_up_o _ (by omega), hmm.2] at r_105 ⊢
    refine x_i2l B dX1_tellsDuel_106 ⟨by omega, by omega⟩ ?_
    refine x_goV (x_rV B h0 (show x_cl[0]? = some _ from rfl) (c_X1_tell hT h0 ⟨by rw [x_up_s, ez]; omega, by rw [x_up_s, ez]; omega⟩ ⟨by omega, by omega⟩) (lw_V q806 q808 qs16 q110 q809) hv_X1_tell ⟨by decide, by decide⟩ ⟨by decide, by decide⟩ rfl rfl (by simp [x_cr, x_c1, x_c2]) dX1_tellsDuel_107) ?_
    refine x_iload B dX1_tellsDuel_110 rfl ?_
    refine x_iret B (fun _ _ h => h) ?_ dX1_tellsDuel_112
    refine ⟨rfl, ((((hkz.up (Or.inr (Or.inl rfl)) hlo0).up7 (Or.inl rfl)).up (Or.inr (Or.inl rfl)) hlo0).up7 (Or.inl rfl)), (((((hfe.up (by omega)).up (by omega)).up (by omega)).up (by omega)).up (by omega)), ?_, ?_, ?_, ?_⟩
    · have q2 := fun a => x_tl2 (x_up X_48 0 7 0) a (q_dv X i j (c_M X 3 i 3) (c_M X 3 j 3) x y).2 ez
      first
      | exact ⟨(q2 i).1, (q2 i).2.1.trans (by rw [if_neg (by assumption)]), (q2 i).2.2⟩
      | exact ⟨(q2 j).1, (q2 j).2.1.trans (by rw [if_pos (by assumption)]), (q2 j).2.2⟩
    --  first | rw [if_neg (by assumption)] | rw [if_pos (by assumption)]
    · exact hJd.cg (fun a a1 a2 => by rw [x_up_o _ (by omega), x_up_o _ (by omega), x_up_o _ (by omega), x_up_o _ (by omega), x_up_o _ (by omega)])
    · rw [x_up_o _ (by omega), x_up_o _ (by omega), x_up_o _ (by omega), x_up_o _ (by omega)]; exact z3
    · rw [x_up_o _ (by omega), x_up_o _ (by omega), x_up_o _ (by omega), x_up_o _ (by omega)]; exact z4
