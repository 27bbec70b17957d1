theorem c_X1_isDrawnGood {l : Launch} {E : x_E} {κ : x_Ka} {X : x_X} {o : Int} (hT : x_T κ) (h0 : κ 0 = some (.inl (0, 1))) (ho : 0 ≤ o ∧ o ≤ 1000) : x_De l yX1_isDrawnGood cX1_isDrawnGood 2 (some .boolean) 0 E κ X [x_rf E 0, vi o] (vi (if d_rl (d_nx (X 0 17)) < o then 1 else 0)) (x_up X 0 17 (d_nx (X 0 17))) := by
  refine x_Met.of [(false, x_rf E 0), (false, vi o)] [some (x_rf E 0), some (vi o)] 0 (by decide) rfl rfl ⟨x_cr E (0), rfl, trivial⟩ rfl rfl ?_
  intro p e s m args below meth c hargs hin B
  refine x_aload_n B dX1_isDrawnGood_0 rfl ?_
  refine x_aload_n B dX1_isDrawnGood_1 rfl ?_
  refine x_getI B (k := 17) 17 rfl rfl xc_0 (by decide) h0 (Or.inl q418) (fun _ h => h) dX1_isDrawnGood_2 (fun r_2 => ?_)
  refine x_ldcw B (1103515245) q1280 (by decide) dX1_isDrawnGood_5 ?_
  refine x_imul B dX1_isDrawnGood_8 ?_
  refine x_sipush B dX1_isDrawnGood_9 (by decide) ?_
  refine x_iadd B dX1_isDrawnGood_12 ?_
  rw [d_nx_v]
  refine x_putI B (k := 17) 17 rfl rfl rfl (d_nx_R _) xc_0 (by decide) rfl nn_0_17 (fun _ => rfl) h0 (Or.inl q418) (fun _ h => h) dX1_isDrawnGood_13 ?_
  refine x_aload_n B dX1_isDrawnGood_16 rfl ?_
  refine x_getI B (k := 17) 17 rfl rfl xc_0 (by decide) h0 (Or.inl q418) (fun _ h => h) dX1_isDrawnGood_17 (fun r_17 => ?_)
  rw [x_up_s] at r_17 ⊢
  refine x_bipush B dX1_isDrawnGood_20 (by decide) ?_
  refine x_iushr B dX1_isDrawnGood_22 ?_
  refine x_sipush B dX1_isDrawnGood_23 (by decide) ?_
  refine x_irem B dX1_isDrawnGood_26 (i_ushr_R _ _) ⟨by omega, by omega⟩ ?_
  have hdr := d_rl_r (d_nx (X 0 17))
  have e26 : (i_ushr (d_nx (X 0 17)) 16).tmod 1000 = d_rl (d_nx (X 0 17)) := rfl
  rw [e26]
  refine x_iload_n B dX1_isDrawnGood_27 rfl ?_
  refine x_icmp_ge B (tgt := 35) dX1_isDrawnGood_28 (by decide) ⟨by omega, by omega⟩ ⟨by omega, by omega⟩ (fun h_28 => ?_) (fun h_28 => ?_)
  · refine x_iconst B dX1_isDrawnGood_35 ?_
    refine x_zret B (fun _ _ h => h) ⟨by omega, by omega⟩ ?_ dX1_isDrawnGood_36
    first | exact ⟨by rw [if_pos (by omega)], rfl⟩ | exact ⟨by rw [if_neg (by omega)], rfl⟩
  · refine x_iconst B dX1_isDrawnGood_31 ?_
    refine x_goto B (tgt := 36) dX1_isDrawnGood_32 (by decide) ?_
    refine x_zret B (fun _ _ h => h) ⟨by omega, by omega⟩ ?_ dX1_isDrawnGood_36
    first | exact ⟨by rw [if_pos (by omega)], rfl⟩ | exact ⟨by rw [if_neg (by omega)], rfl⟩
/-- a try is told: the four rows, the number -/
def c_lg (X : x_X) (l t x g : Int) : x_X := x_up (x_up (x_up (x_up (x_up X 33 (X 0 12) l) 34 (X 0 12) t) 35 (X 0 12) x) 36 (X 0 12) g) 0 12 (X 0 12 + 1)
theorem c_lg_o {X : x_X} {l t x g a : Int} (h : a ≠ 0 ∧ (a < 33 ∨ 36 < a)) : c_lg X l t x g a = X a := by
  unfold c_lg
  rw [x_up_o _ (by omega), x_up_o _ (by omega), x_up_o _ (by omega), x_up_o _ (by omega), x_up_o _ (by omega)]
theorem c_lg_0 {X : x_X} {l t x g i : Int} (h : i ≠ 12) : c_lg X l t x g 0 i = X 0 i := by
  unfold c_lg
  rw [x_up_n _ (Or.inr h), x_up_o _ (by omega), x_up_o _ (by omega), x_up_o _ (by omega), x_up_o _ (by omega)]
theorem c_lg_v {κ : x_Ka} {X : x_X} (hI : n_I κ X) {l t x g : Int} : v_eq X (c_lg X l t x g) := ⟨fun a a1 a2 => c_lg_o (by omega), fun q q1 q2 j j1 j2 => c_lg_o (by have := hI.2.2.2.2 q q1 q2; omega), c_lg_0 (by omega)⟩
theorem c_G_lg {X Y : x_X} {l t x g : Int} (h : c_fr 3 (c_lg X l t x g) Y) (h12 : 0 ≤ X 0 12) : c_G Y = y_log (c_G X) (X 0 12) l t x g ∧ Y 0 12 = X 0 12 + 1 := by
  have e0 : Y 0 12 = X 0 12 + 1 := by rw [h 0 (by omega)]; unfold c_lg; rw [x_up_s]
  have e3 : ∀ k, Y 33 k = if k = X 0 12 then l else X 33 k := fun k => by
    rw [h 33 (by omega)]; unfold c_lg
    rw [x_up_o _ (by omega), x_up_o _ (by omega), x_up_o _ (by omega), x_up_o _ (by omega)]
    by_cases q : k = X 0 12
    · rw [if_pos q, q, x_up_s]
    · rw [if_neg q, x_up_n _ (Or.inr q)]
  have e4 : ∀ k, Y 34 k = if k = X 0 12 then t else X 34 k := fun k => by
    rw [h 34 (by omega)]; unfold c_lg
    rw [x_up_o _ (by omega), x_up_o _ (by omega), x_up_o _ (by omega)]
    by_cases q : k = X 0 12
    · rw [if_pos q, q, x_up_s]
    · rw [if_neg q, x_up_n _ (Or.inr q), x_up_o _ (by omega)]
  have e5 : ∀ k, Y 35 k = if k = X 0 12 then x else X 35 k := fun k => by
    rw [h 35 (by omega)]; unfold c_lg
    rw [x_up_o _ (by omega), x_up_o _ (by omega)]
    by_cases q : k = X 0 12
    · rw [if_pos q, q, x_up_s]
    · rw [if_neg q, x_up_n _ (Or.inr q), x_up_o _ (by omega), x_up_o _ (by omega)]
  have e6 : ∀ k, Y 36 k = if k = X 0 12 then g else X 36 k := fun k => by
    rw [h 36 (by omega)]; unfold c_lg
    rw [x_up_o _ (by omega)]
    by_cases q : k = X 0 12
    · rw [if_pos q, q, x_up_s]
    · rw [if_neg q, x_up_n _ (Or.inr q), x_up_o _ (by omega), x_up_o _ (by omega), x_up_o _ (by omega)]
  refine ⟨?_, e0⟩
  funext k w
  dsimp only [c_G, y_log]
  rw [e0, e3, e4, e5, e6]
  by_cases q : k = X 0 12
  · rw [if_pos q, if_pos q, if_pos q, if_pos q, if_pos (by omega), if_pos q]
  · rw [if_neg q, if_neg q, if_neg q, if_neg q, if_neg q]
    by_cases q2 : 0 ≤ k ∧ k < X 0 12
    · rw [if_pos q2, if_pos (by omega)]
    · rw [if_neg q2, if_neg (by omega)]
theorem c_X1_triesNow {l : Launch} {E : x_E} {κ : x_Ka} {X : x_X} {g : Int} (hC : n_C κ X) (h12 : 0 ≤ X 0 12 ∧ X 0 12 < 54) (hg : 0 ≤ g ∧ g ≤ 1) (hc : m_cal (X 1 2) (c_lot X) (c_M X 3) ≠ -1) : x_Met l yX1_triesNow cX1_triesNow 3 (some .int) 7 0 0 E κ X [x_rf E 0, vi g] κ (fun v_ Y_ => v_ = some (vi (y_v (X 1 2) (c_lot X) (c_p3 X) (c_M X 3) g)) ∧ c_fr 3 (c_lg X (m_cal (X 1 2) (c_lot X) (c_M X 3)) (c_M X 3 (-1) 1) (c_M X 3 (m_cal (X 1 2) (c_lot X) (c_M X 3)) 3) g) Y_ ∧ c_M Y_ 3 = y_M (X 1 2) (c_lot X) (c_p3 X) (c_M X 3) g ∧ c_J Y_ 3) := by
  refine x_Met.of [(false, x_rf E 0), (false, vi g)] [some (x_rf E 0), some (vi g), none] 1 (by decide) rfl rfl ⟨x_cr E (0), rfl, trivial⟩ rfl rfl ?_
  intro p e s m args below meth c hargs hin B
  obtain ⟨hI, hP, hO, hW, hJ⟩ := id hC
  obtain ⟨hT, h0, hn, hl, hla⟩ := id hI
  have hcr := m_cb_r (c_lot X) (c_M X 3) (X 1 2).toNat
  generalize hle : m_cal (X 1 2) (c_lot X) (c_M X 3) = l0
  have hle2 : m_cb (c_lot X) (c_M X 3) (X 1 2).toNat = l0 := hle
  rw [hle2] at hcr
  rw [hle] at hc
  have hco := m_cb_ok (c_lot X) (c_M X 3) (X 1 2).toNat (by omega)
  rw [hle2] at hco
  have hl0 : 0 ≤ l0 ∧ l0 < X 1 2 := by omega
  have w1 := hW.1
  have w2 := hW.2.1 l0 hl0.1 hl0.2
  have w3 := hW.2.2 l0 hl0.1 hl0.2
  have g1 : c_M X 3 (-1) 1 = X 3 1 := c_M_g (by omega)
  have s3 : c_M X 3 l0 3 = X (3 + 1 + 1 + 2 * l0) 3 := c_M_s hl0 (by omega)
  have s2 : c_M X 3 l0 2 = X (3 + 1 + 1 + 2 * l0) 2 := c_M_s hl0 (by omega)
  have hlt : X 3 1 < 3 := by rcases Int.lt_or_le (X 3 1) 3 with q | q; exact q; exfalso; have := w3.2.1 (by omega); omega
  have ul : ∀ (Z : x_X) (a i z b : Int), b ≠ a → x_up Z a i z b = Z b := fun Z a i z b h => x_up_o Z h
  refine x_aload_n B dX1_triesNow_0 rfl ?_
  refine x_getC0 B (k := 2) hT rfl rfl xc_0 (by decide) h0 (Or.inl q400) (fun _ h => h) dX1_triesNow_1 (fun k_1 => ?_)
  refine x_goP (x_rV B k_1 (show x_cl[2]? = some _ from rfl) (c_X2_called hI (show κ 3 = some (.inl (2, 1)) from hT.1 0 0 h0 2 (0, 3, .inl (2, 1)) rfl) (by omega)) (lw_V q797 q798 q799 q114 q800) hv_X2_called ⟨by decide, by decide⟩ ⟨by decide, by decide⟩ rfl rfl (by simp [x_cr, x_c1, x_c2]) dX1_triesNow_4) ?_
  rw [hle]
  refine x_ist_2 B dX1_triesNow_7 (by first | rfl | exact x_cr _ _) ?_
  refine x_aload_n B dX1_triesNow_8 rfl ?_
  refine x_getC0 B (k := 8) hT rfl rfl xc_0 (by decide) h0 (Or.inl q409) (fun _ h => h) dX1_triesNow_9 (fun k_9 => ?_)
  refine x_aload_n B dX1_triesNow_12 rfl ?_
  refine x_getI B (k := 12) 12 rfl rfl xc_0 (by decide) h0 (Or.inl q413) (fun _ h => h) dX1_triesNow_13 (fun r_13 => ?_)
  refine x_iload_n B dX1_triesNow_16 rfl ?_
  refine x_iast B k_9 ⟨by omega, by omega⟩ ⟨by omega, by omega⟩ dX1_triesNow_17 ?_
  refine x_aload_n B dX1_triesNow_18 rfl ?_
  refine x_getC0 B (k := 9) hT rfl rfl xc_0 (by decide) h0 (Or.inl q410) (fun _ h => h) dX1_triesNow_19 (fun k_19 => ?_)
  refine x_aload_n B dX1_triesNow_22 rfl ?_
  refine x_getI B (k := 12) 12 rfl rfl xc_0 (by decide) h0 (Or.inl q413) (fun _ h => h) dX1_triesNow_23 (fun r_23 => ?_)
  rw [ul _ _ _ _ 0 (by omega)] at r_23 ⊢
  refine x_aload_n B dX1_triesNow_26 rfl ?_
  refine x_getC0 B (k := 2) hT rfl rfl xc_0 (by decide) h0 (Or.inl q400) (fun _ h => h) dX1_triesNow_27 (fun k_27 => ?_)
  refine x_getI B (k := 1) 1 rfl rfl xc_2 (by decide) k_27 (Or.inr q248) (fun _ h => h) dX1_triesNow_30 (fun r_30 => ?_)
  rw [ul _ _ _ _ 3 (by omega)] at r_30 ⊢
  refine x_iast B k_19 ⟨by omega, by omega⟩ ⟨by omega, by omega⟩ dX1_triesNow_33 ?_
  refine x_aload_n B dX1_triesNow_34 rfl ?_
  refine x_getC0 B (k := 10) hT rfl rfl xc_0 (by decide) h0 (Or.inl q411) (fun _ h => h) dX1_triesNow_35 (fun k_35 => ?_)
  refine x_aload_n B dX1_triesNow_38 rfl ?_
  refine x_getI B (k := 12) 12 rfl rfl xc_0 (by decide) h0 (Or.inl q413) (fun _ h => h) dX1_triesNow_39 (fun r_39 => ?_)
  rw [ul _ _ _ _ 0 (by omega), ul _ _ _ _ 0 (by omega)] at r_39 ⊢
  refine x_aload_n B dX1_triesNow_42 rfl ?_
  refine x_getC0 B (k := 2) hT rfl rfl xc_0 (by decide) h0 (Or.inl q400) (fun _ h => h) dX1_triesNow_43 (fun k_43 => ?_)
  refine x_getC1 B (k := 0) hT rfl rfl xc_2 (by decide) k_43 (Or.inr q244) (fun _ h => h) dX1_triesNow_46 (fun k_46 => ?_)
  refine x_iload_n B dX1_triesNow_49 rfl ?_
  refine x_aaldC B (t := 10) hT k_46 rfl rfl rfl rfl ⟨by omega, by omega⟩ dX1_triesNow_50 (fun k_50 => ?_)
  refine x_getI B (k := 3) 3 rfl rfl xc_3 (by decide) k_50 (Or.inr q211) (fun _ h => h) dX1_triesNow_51 (fun r_51 => ?_)
  rw [ul _ _ _ _ (3 + 1 + 1 + 2 * l0) (by omega), ul _ _ _ _ (3 + 1 + 1 + 2 * l0) (by omega)] at r_51 ⊢
  refine x_iast B k_35 ⟨by omega, by omega⟩ ⟨by omega, by omega⟩ dX1_triesNow_54 ?_
  refine x_aload_n B dX1_triesNow_55 rfl ?_
  refine x_getC0 B (k := 11) hT rfl rfl xc_0 (by decide) h0 (Or.inl q412) (fun _ h => h) dX1_triesNow_56 (fun k_56 => ?_)
  refine x_aload_n B dX1_triesNow_59 rfl ?_
  refine x_getI B (k := 12) 12 rfl rfl xc_0 (by decide) h0 (Or.inl q413) (fun _ h => h) dX1_triesNow_60 (fun r_60 => ?_)
  rw [ul _ _ _ _ 0 (by omega), ul _ _ _ _ 0 (by omega), ul _ _ _ _ 0 (by omega)] at r_60 ⊢
  refine x_iload_n B dX1_triesNow_63 rfl ?_
  refine x_zast B k_56 ⟨by omega, by omega⟩ hg dX1_triesNow_64 ?_
  refine x_aload_n B dX1_triesNow_65 rfl ?_
  refine x_dup B dX1_triesNow_66 (by first | rfl | exact x_cr _ _) ?_
  refine x_getI B (k := 12) 12 rfl rfl xc_0 (by decide) h0 (Or.inl q413) (fun _ h => h) dX1_triesNow_67 (fun r_67 => ?_)
  rw [ul _ _ _ _ 0 (by omega), ul _ _ _ _ 0 (by omega), ul _ _ _ _ 0 (by omega), ul _ _ _ _ 0 (by omega)] at r_67 ⊢
  refine x_iconst B dX1_triesNow_70 ?_
  refine x_iadd B dX1_triesNow_71 ?_
  refine x_putI B (k := 12) 12 rfl rfl rfl ⟨by omega, by omega⟩ xc_0 (by decide) rfl nn_0_12 (fun _ => rfl) h0 (Or.inl q413) (fun _ h => h) dX1_triesNow_72 ?_
  have hZ : x_up (x_up (x_up (x_up (x_up X 33 (X 0 12) l0) 34 (X 0 12) (X 3 1)) 35 (X 0 12) (X (3 + 1 + 1 + 2 * l0) 3)) 36 (X 0 12) g) 0 12 (X 0 12 + 1) = c_lg X l0 (c_M X 3 (-1) 1) (c_M X 3 l0 3) g := by rw [g1, s3]; rfl
  rw [hZ]
  have hvz := c_lg_v hI (l := l0) (t := c_M X 3 (-1) 1) (x := c_M X 3 l0 3) (g := g)
  generalize hZe : c_lg X l0 (c_M X 3 (-1) 1) (c_M X 3 l0 3) g = Z at hvz ⊢
  have hCz := hvz.C hC
  obtain ⟨hIz, hPz, hOz, hWz, hJz⟩ := id hCz
  have z1 : Z 1 2 = X 1 2 := congrFun (hvz.1 1 (by omega) (by omega)) 2
  have zM := hvz.M hn.2
  have z3 : Z 3 1 = X 3 1 := congrFun (hvz.1 3 (by omega) (by omega)) 1
  refine x_aload_n B dX1_triesNow_75 rfl ?_
  refine x_getC0 B (k := 2) hT rfl rfl xc_0 (by decide) h0 (Or.inl q400) (fun _ h => h) dX1_triesNow_76 (fun k_76 => ?_)
  refine x_iload_n B dX1_triesNow_79 rfl ?_
  refine x_goP (x_rS B (c_X13_of hg) (lw_S q840 q841 q134 q842) hd_X13_of ⟨by decide, by decide⟩ ⟨by decide, by decide⟩ rfl rfl (by simp [x_cr, x_c1, x_c2]) dX1_triesNow_80) ?_
  refine x_go (x_rV B k_76 (show x_cl[2]? = some _ from rfl) (c_X2_tries hIz (show κ 3 = some (.inl (2, 1)) from hT.1 0 0 h0 2 (0, 3, .inl (2, 1)) rfl) (by omega) (by omega) hWz hJz hPz (by omega) (by rw [z1, hvz.lot, zM, hle]; exact hc)) (lw_V q847 q848 q849 q114 q850) hv_X2_tries ⟨by decide, by decide⟩ ⟨by decide, by decide⟩ rfl rfl (by simp [x_cr, x_c1, x_c2]) dX1_triesNow_83) (fun v_83 X_83 p_83 => ?_)
  obtain ⟨rfl, hf2, hM2, hJ2⟩ := p_83
  refine x_iret B (fun _ _ h => h) ?_ dX1_triesNow_86
  have eg : g - 3 + 3 = g := by omega
  have hp1 := c_p3_pl (X := X) (l := l0) (t := X 3 1) (w := 1) ⟨by omega, hlt⟩ (by omega)
  have hp2 := c_p3_pl (X := X) (l := l0) (t := X 3 1) (w := 2) ⟨by omega, hlt⟩ (by omega)
  have ew : (if g - 3 = -2 then c_pl Z l0 (Z 3 1) 1 else c_pl Z l0 (Z 3 1) 2) = c_p3 X l0 (c_M X 3 (-1) 1) (if g = 1 then 1 else 2) := by
    rw [hvz.pl (by omega), hvz.pl (by omega), z3, g1, hp1, hp2]
    by_cases e : g = 1
    · rw [if_pos (by omega), if_pos e]
    · rw [if_neg (by omega), if_neg e]
  rw [z1, hvz.lot, zM, hle, eg, ew] at hM2
  refine ⟨?_, ?_, ?_, hJ2⟩
  · rw [z1, hvz.lot, zM, hle, eg, ew]; unfold y_v; rw [hle]
  · exact hf2
  · rw [hM2, hvz.l.op3]; unfold y_M; rw [hle]; refine m_go_c (fun a t a1 a2 t1 t2 => c_p3_op ⟨t1, t2⟩) 20 _ ?_
    rw [(m_tr_v hl0.1).1.1]; omega
theorem c_X1_tries {l : Launch} {E : x_E} {κ : x_Ka} {X : x_X} {g : Int} (hC : n_C κ X) (k87 : κ 87 = some (.inr (1, 1))) (h12 : m_cal (X 1 2) (c_lot X) (c_M X 3) ≠ -1 → 0 ≤ X 0 12 ∧ X 0 12 < 54) (hg : 0 ≤ g ∧ g ≤ 1) : x_Met l yX1_tries cX1_tries 4 (some .int) 8 0 0 E κ X [x_rf E 0, vi g] κ (fun v_ Y_ => if (m_cal (X 1 2) (c_lot X) (c_M X 3)) = -1 then (v_ = some (vi (-2)) ∧ Y_ = X) else (v_ = some (vi (m_cal (X 1 2) (c_lot X) (c_M X 3))) ∧ ∃ Y1, c_fr 3 (c_lg X (m_cal (X 1 2) (c_lot X) (c_M X 3)) (c_M X 3 (-1) 1) (c_M X 3 (m_cal (X 1 2) (c_lot X) (c_M X 3)) 3) g) Y1 ∧ c_M Y1 3 = y_M (X 1 2) (c_lot X) (c_p3 X) (c_M X 3) g ∧ c_J Y1 3 ∧ Y_ = x_tl (x_tl (x_up Y1 0 7 0) (c_M X 3 (m_cal (X 1 2) (c_lot X) (c_M X 3)) 3)) (y_v (X 1 2) (c_lot X) (c_p3 X) (c_M X 3) g))) := by
  refine x_Met.of [(false, x_rf E 0), (false, vi g)] [some (x_rf E 0), some (vi g), none, none] 2 (by decide) rfl rfl ⟨x_cr E (0), rfl, trivial⟩ rfl rfl ?_
  intro p e s m args below meth c hargs hin B
  obtain ⟨hI, hP, hO, hW, hJ⟩ := id hC
  obtain ⟨hT, h0, hn, hl, hla⟩ := id hI
  refine x_lows (fun hlow => ?_)
  have hlo := hI.lo k87 hlow
  have hlo0 := hlo.1
  have hcr := m_cb_r (c_lot X) (c_M X 3) (X 1 2).toNat
  have hcr2 : -1 ≤ (m_cal (X 1 2) (c_lot X) (c_M X 3)) ∧ (m_cal (X 1 2) (c_lot X) (c_M X 3)) < X 1 2 := by unfold m_cal; omega
  refine x_aload_n B dX1_tries_0 rfl ?_
  refine x_getC0 B (k := 2) hT rfl rfl xc_0 (by decide) h0 (Or.inl q400) (fun _ h => h) dX1_tries_1 (fun k_1 => ?_)
  refine x_goP (x_rV B k_1 (show x_cl[2]? = some _ from rfl) (c_X2_called hI (show κ 3 = some (.inl (2, 1)) from hT.1 0 0 h0 2 (0, 3, .inl (2, 1)) rfl) (by omega)) (lw_V q797 q798 q799 q114 q800) hv_X2_called ⟨by decide, by decide⟩ ⟨by decide, by decide⟩ rfl rfl (by simp [x_cr, x_c1, x_c2]) dX1_tries_4) ?_
  refine x_ist_2 B dX1_tries_7 (by first | rfl | exact x_cr _ _) ?_
  refine x_iload_n B dX1_tries_8 rfl ?_
  refine x_iconst B dX1_tries_9 ?_
  refine x_icmp_ne B (tgt := 16) dX1_tries_10 (by decide) ⟨by omega, by omega⟩ ⟨by omega, by omega⟩ (fun h_10 => ?_) (fun h_10 => ?_)
  · have h12b := h12 h_10
    have hyv := (y_M_W (g := g) hn.1 (c_p3_r hP) hW hg h_10).2
    have w2 := hW.2.1 (m_cal (X 1 2) (c_lot X) (c_M X 3)) (by omega) (by omega)
    refine x_aload_n B dX1_tries_16 rfl ?_
    refine x_iload_n B dX1_tries_17 rfl ?_
    refine x_go (x_rV B h0 (show x_cl[0]? = some _ from rfl) (c_X1_triesNow hC h12b hg h_10) (lw_V q836 q838 qs17 q110 q839) hv_X1_triesNow ⟨by decide, by decide⟩ ⟨by decide, by decide⟩ rfl rfl (by simp [x_cr, x_c1, x_c2]) dX1_tries_18) (fun v_18 X_18 p_18 => ?_)
    obtain ⟨rfl, hf, hM, hJ⟩ := p_18
    have hgl := c_G_lg hf h12b.1
    have e35 : X_18 35 (X 0 12) = c_M X 3 (m_cal (X 1 2) (c_lot X) (c_M X 3)) 3 := by rw [hf 35 (by omega)]; unfold c_lg; rw [x_up_o _ (by omega), x_up_o _ (by omega), x_up_s]
    refine x_ist_3 B dX1_tries_21 (by first | rfl | exact x_cr _ _) ?_
    refine x_aload_n B dX1_tries_22 rfl ?_
    refine x_iconst B dX1_tries_23 ?_
    refine x_putI B (k := 7) 7 rfl rfl rfl ⟨by omega, by omega⟩ xc_0 (by decide) rfl nn_0_7 (fun _ => rfl) h0 (Or.inl q408) (fun _ h => h) dX1_tries_24 ?_
    refine x_aload_n B dX1_tries_27 rfl ?_
    refine x_aload_n B dX1_tries_28 rfl ?_
    refine x_getC0 B (k := 10) hT rfl rfl xc_0 (by decide) h0 (Or.inl q411) (fun _ h => h) dX1_tries_29 (fun k_29 => ?_)
    refine x_aload_n B dX1_tries_32 rfl ?_
    refine x_getI B (k := 12) 12 rfl rfl xc_0 (by decide) h0 (Or.inl q413) (fun _ h => h) dX1_tries_33 (fun r_33 => ?_)
    rw [x_up_n _ (Or.inr (by omega)), hgl.2] at r_33 ⊢
    refine x_iconst B dX1_tries_36 ?_
    refine x_isub B dX1_tries_37 ?_
    refine x_iald B k_29 ⟨by omega, by omega⟩ dX1_tries_38 (fun r_38 => ?_)
    rw [show X 0 12 + 1 - 1 = X 0 12 by omega, x_up_o _ (by omega), e35] at r_38 ⊢
    refine x_i2l B dX1_tries_39 ⟨by omega, by omega⟩ ?_
    refine x_goV (x_rV B h0 (show x_cl[0]? = some _ from rfl) (c_X1_tell hT h0 ⟨by rw [x_up_s]; omega, by rw [x_up_s]; omega⟩ ⟨by omega, by omega⟩) (lw_V q806 q808 qs16 q110 q809) hv_X1_tell ⟨by decide, by decide⟩ ⟨by decide, by decide⟩ rfl rfl (by simp [x_cr, x_c1, x_c2]) dX1_tries_40) ?_
    rw [x_up_s]
    refine x_aload_n B dX1_tries_43 rfl ?_
    refine x_iload_n B dX1_tries_44 rfl ?_
    refine x_i2l B dX1_tries_45 ⟨by omega, by omega⟩ ?_
    refine x_goV (x_rV B h0 (show x_cl[0]? = some _ from rfl) (c_X1_tell hT h0 ⟨by rw [x_up_s]; omega, by rw [x_up_s]; omega⟩ ⟨by omega, by omega⟩) (lw_V q806 q808 qs16 q110 q809) hv_X1_tell ⟨by decide, by decide⟩ ⟨by decide, by decide⟩ rfl rfl (by simp [x_cr, x_c1, x_c2]) dX1_tries_46) ?_
    refine x_iload_n B dX1_tries_49 rfl ?_
    refine x_iret B (fun _ _ h => h) ?_ dX1_tries_50
    rw [if_neg h_10]
    refine ⟨rfl, X_18, hf, hM, hJ, ?_⟩
    unfold x_tl
    simp only [x_up_s]
  · refine x_bipush B dX1_tries_13 (by decide) ?_
    refine x_iret B (fun _ _ h => h) ?_ dX1_tries_15
    rw [if_pos (by omega)]; exact ⟨rfl, rfl⟩
theorem m_fp_r (g : Int → Int) (k : Int) : ∀ (f : Nat) (l : Int), l ≤ m_fp g k f l ∧ m_fp g k f l ≤ l + f
  | 0, l => by unfold m_fp; omega
  | f + 1, l => by
    have := m_fp_r g k f (l + 1)
    unfold m_fp
    split <;> omega
/-- who has place k -/
def q_pl (n : Int) (li : Int → Int → Int) (M : x_X) (k : Int) : Int := m_fp (fun l => m_cnt li M l n.toNat) k 6 0
/-- every place is somebody's -/
def n_D (X : x_X) (M : x_X) : Prop := ∀ k, 0 ≤ k → k < X 1 2 → ∃ l, 0 ≤ l ∧ l < X 1 2 ∧ m_cnt (c_li X) M l (X 1 2).toNat = k
/-- rows alone are told -/
def o_fr (X Y : x_X) : Prop := (∀ a, a ≠ 0 → a ≠ 32 → Y a = X a) ∧ ∀ i, i ≠ 7 → Y 0 i = X 0 i
theorem o_fr.v {κ : x_Ka} {X Y : x_X} (h : o_fr X Y) (hI : n_I κ X) : v_eq X Y := ⟨fun a a1 a2 => h.1 a (by omega) (by omega), fun l l1 l2 j j1 j2 => h.1 _ (by have := hI.2.2.2.2 l l1 l2; omega) (by have := hI.2.2.2.2 l l1 l2; omega), h.2 1 (by omega)⟩
theorem o_fr.tl {X Y : x_X} (h : o_fr X Y) (z : Int) : o_fr X (x_tl Y z) := ⟨fun a a1 a2 => by unfold x_tl; rw [x_up_o _ a1, x_up_o _ a2]; exact h.1 a a1 a2, fun i hi => by unfold x_tl; rw [x_up_n _ (Or.inr hi), x_up_o _ (by omega)]; exact h.2 i hi⟩
theorem o_fr.z {X : x_X} (z : Int) : o_fr X (x_up X 0 7 z) := ⟨fun a a1 a2 => x_up_o _ a1, fun i hi => x_up_n _ (Or.inr hi)⟩
theorem c_X1_tellPlaces {l : Launch} {E : x_E} {κ : x_Ka} {X : x_X}  (hC : n_C κ X) (hD : n_D X (c_M X 3)) : x_Met l yX1_tellPlaces cX1_tellPlaces 3 none 7 0 0 E κ X [x_rf E 0, x_rf E 3] κ (fun v_ Y_ => v_ = none ∧ o_fr X Y_ ∧ Y_ 0 7 = X 1 2 ∧ ∀ k, 0 ≤ k → k < X 1 2 → Y_ 32 k = q_pl (X 1 2) (c_li X) (c_M X 3) k) := by
  refine x_Met.of [(false, x_rf E 0), (false, x_rf E 3)] [some (x_rf E 0), some (x_rf E 3), none] 1 (by decide) rfl rfl ⟨x_cr E (0), x_cr E (3), trivial⟩ rfl rfl ?_
  intro p e s m args below meth c hargs hin B
  obtain ⟨hI, hP, hO, hW, hJ⟩ := id hC
  obtain ⟨hT, h0, hn, hl, hla⟩ := id hI
  have lp_7 : ∀ (n : Nat) (k : Int) (Y : x_X), ((0 ≤ k ∧ k ≤ X 1 2) ∧ o_fr X Y ∧ Y 0 7 = k ∧ ∀ j, 0 ≤ j → j < k → Y 32 j = q_pl (X 1 2) (c_li X) (c_M X 3) j) → ((7 - k).toNat < n) → x_G p l e (x_rm 7 0 0) s m args below meth c 3 E 0 0 (MQ below (x_Q E κ (fun v_ Y_ => v_ = none ∧ o_fr X Y_ ∧ Y_ 0 7 = X 1 2 ∧ ∀ k, 0 ≤ k → k < X 1 2 → Y_ 32 k = q_pl (X 1 2) (c_li X) (c_M X 3) k)) args s 0 0 (fun q => E.1 ≤ q)) κ 7 [some (x_rf E 0), some (x_rf E 3), some (vi k)] [] Y := by
    intro n
    induction n with
    | zero => intro k Y hinv hme; exfalso; omega
    | succ n ih =>
      intro k Y hinv hme
      obtain ⟨hk, hf, h7, hr⟩ := hinv
      have hv := hf.v hI
      have hCY := hv.C hC
      have y1 : Y 1 2 = X 1 2 := congrFun (hv.1 1 (by omega) (by omega)) 2
      obtain ⟨hIY, hPY, hOY, hWY, hJY⟩ := id hCY
      have hq := m_fp_r (fun l => m_cnt (c_li X) (c_M X 3) l (X 1 2).toNat) k 6 0
      refine x_iload_n B dX1_tellPlaces_7 rfl ?_
      refine x_aload_n B dX1_tellPlaces_8 rfl ?_
      refine x_getC0 B (k := 0) hT rfl rfl xc_0 (by decide) h0 (Or.inl q394) (fun _ h => h) dX1_tellPlaces_9 (fun k_9 => ?_)
      refine x_goP (x_rV B k_9 (show x_cl[1]? = some _ from rfl) (c_J2_size hT (by assumption)) (lw_V q643 q364 q365 q113 q366) hv_J2_size ⟨by decide, by decide⟩ ⟨by decide, by decide⟩ rfl rfl (by simp [x_cr, x_c1, x_c2]) dX1_tellPlaces_12) ?_
      refine x_icmp_ge B (tgt := 34) dX1_tellPlaces_15 (by decide) ⟨by omega, by omega⟩ ⟨by omega, by omega⟩ (fun h_15 => ?_) (fun h_15 => ?_)
      · obtain rfl : k = X 1 2 := by omega
        refine x_vret B (fun _ _ h => h) ?_ dX1_tellPlaces_34
        exact ⟨rfl, hf, h7, hr⟩
      · refine x_aload_n B dX1_tellPlaces_18 rfl ?_
        refine x_aload_n B dX1_tellPlaces_19 rfl ?_
        refine x_iload_n B dX1_tellPlaces_20 rfl ?_
        refine x_goP (x_rV B (show κ 3 = some (.inl (2, 1)) from hT.1 0 0 h0 2 (0, 3, .inl (2, 1)) rfl) (show x_cl[2]? = some _ from rfl) (c_X2_atPlace hIY (show κ 3 = some (.inl (2, 1)) from hT.1 0 0 h0 2 (0, 3, .inl (2, 1)) rfl) hWY ⟨by omega, by omega⟩ (by rw [y1, hv.li, hv.M hn.2]; exact hD k hk.1 (by omega))) (lw_V q913 q914 q915 q114 q916) hv_X2_atPlace ⟨by decide, by decide⟩ ⟨by decide, by decide⟩ rfl rfl (by simp [x_cr, x_c1, x_c2]) dX1_tellPlaces_21) ?_
        have eq : m_fp (fun l => m_cnt (c_li Y) (c_M Y 3) l (Y 1 2).toNat) k 6 0 = q_pl (X 1 2) (c_li X) (c_M X 3) k := by rw [y1, hv.li, hv.M hn.2]; rfl
        have hq2 : 0 ≤ q_pl (X 1 2) (c_li X) (c_M X 3) k ∧ q_pl (X 1 2) (c_li X) (c_M X 3) k ≤ 6 := by unfold q_pl; omega
        rw [eq]
        refine x_i2l B dX1_tellPlaces_24 ⟨by omega, by omega⟩ ?_
        refine x_goV (x_rV B h0 (show x_cl[0]? = some _ from rfl) (c_X1_tell hT h0 ⟨by omega, by omega⟩ ⟨by omega, by omega⟩) (lw_V q806 q808 qs16 q110 q809) hv_X1_tell ⟨by decide, by decide⟩ ⟨by decide, by decide⟩ rfl rfl (by simp [x_cr, x_c1, x_c2]) dX1_tellPlaces_25) ?_
        refine x_iinc_2 B dX1_tellPlaces_28 (by first | rfl | exact x_cr _ _) ?_
        refine x_goto B (tgt := 7) dX1_tellPlaces_31 (by decide) ?_
        have et := x_tl1 Y (q_pl (X 1 2) (c_li X) (c_M X 3) k) h7
        refine ih _ _ ⟨⟨by omega, by omega⟩, hf.tl (q_pl (X 1 2) (c_li X) (c_M X 3) k), et.1, fun j j1 j2 => ?_⟩ (by omega)
        by_cases e : j = k
        · rw [e]; exact et.2.1
        · exact (et.2.2 j e).trans (hr j j1 (by omega))
  refine x_aload_n B dX1_tellPlaces_0 rfl ?_
  refine x_iconst B dX1_tellPlaces_1 ?_
  refine x_putI B (k := 7) 7 rfl rfl rfl ⟨by omega, by omega⟩ xc_0 (by decide) rfl nn_0_7 (fun _ => rfl) h0 (Or.inl q408) (fun _ h => h) dX1_tellPlaces_2 ?_
  refine x_iconst B dX1_tellPlaces_5 ?_
  refine x_ist_2 B dX1_tellPlaces_6 (by first | rfl | exact x_cr _ _) ?_
  exact lp_7 _ _ _ ⟨⟨by omega, by omega⟩, o_fr.z 0, x_up_s _ _ _ _, fun j j1 j2 => by omega⟩ (Nat.lt_succ_self _)
theorem c_X1_place {l : Launch} {E : x_E} {κ : x_Ka} {X : x_X} {i : Int} (hC : n_C κ X) (hD : n_D X (c_M X 3)) (hx : xR i) : x_Met l yX1_place cX1_place 2 (some .int) 8 0 0 E κ X [x_rf E 0, vi i] κ (fun v_ Y_ => if x_in i 0 (X 1 2 - 1) = 1 then (v_ = some (vi (m_cnt (c_li X) (c_M X 3) i (X 1 2).toNat)) ∧ o_fr X Y_ ∧ Y_ 0 7 = X 1 2 ∧ ∀ k, 0 ≤ k → k < X 1 2 → Y_ 32 k = q_pl (X 1 2) (c_li X) (c_M X 3) k) else (v_ = some (vi (-1)) ∧ Y_ = X)) := by
  refine x_Met.of [(false, x_rf E 0), (false, vi i)] [some (x_rf E 0), some (vi i)] 0 (by decide) rfl rfl ⟨x_cr E (0), rfl, trivial⟩ rfl rfl ?_
  intro p e s m args below meth c hargs hin B
  obtain ⟨hI, hP, hO, hW, hJ⟩ := id hC
  obtain ⟨hT, h0, hn, hl, hla⟩ := id hI
  have z1 := x_in_01 i 0 (X 1 2 - 1)
  refine x_aload_n B dX1_place_0 rfl ?_
  refine x_iload_n B dX1_place_1 rfl ?_
  refine x_goP (x_rV B h0 (show x_cl[0]? = some _ from rfl) (c_X1_isLifter hI ⟨by omega, by omega⟩) (lw_V q735 q737 qs13 q110 q738) hv_X1_isLifter ⟨by decide, by decide⟩ ⟨by decide, by decide⟩ rfl rfl (by simp [x_cr, x_c1, x_c2]) dX1_place_2) ?_
  refine x_if_ne B (tgt := 10) dX1_place_5 (by decide) ⟨by omega, by omega⟩ (fun h_5 => ?_) (fun h_5 => ?_)
  · have hi : 0 ≤ i ∧ i < X 1 2 := by unfold x_in at h_5; split at h_5 <;> omega
    refine x_aload_n B dX1_place_10 rfl ?_
    refine x_aload_n B dX1_place_11 rfl ?_
    refine x_getC0 B (k := 2) hT rfl rfl xc_0 (by decide) h0 (Or.inl q400) (fun _ h => h) dX1_place_12 (fun k_12 => ?_)
    refine x_go (x_rV B h0 (show x_cl[0]? = some _ from rfl) (c_X1_tellPlaces hC hD) (lw_V q909 q911 qs19 q110 q912) hv_X1_tellPlaces ⟨by decide, by decide⟩ ⟨by decide, by decide⟩ rfl rfl (by simp [x_cr, x_c1, x_c2]) dX1_place_15) (fun v_15 X_15 p_15 => ?_)
    obtain ⟨rfl, hf, h7, hr⟩ := p_15
    have hv := hf.v hI
    have hCY := hv.C hC
    have y1 : X_15 1 2 = X 1 2 := congrFun (hv.1 1 (by omega) (by omega)) 2
    obtain ⟨hIY, hPY, hOY, hWY, hJY⟩ := id hCY
    refine x_aload_n B dX1_place_18 rfl ?_
    refine x_getC0 B (k := 2) hT rfl rfl xc_0 (by decide) h0 (Or.inl q400) (fun _ h => h) dX1_place_19 (fun k_19 => ?_)
    refine x_iload_n B dX1_place_22 rfl ?_
    refine x_goP (x_rV B k_19 (show x_cl[2]? = some _ from rfl) (c_X2_aheadOf hIY (show κ 3 = some (.inl (2, 1)) from hT.1 0 0 h0 2 (0, 3, .inl (2, 1)) rfl) hWY ⟨by omega, by omega⟩) (lw_V q931 q918 q919 q114 q920) hv_X2_aheadOf ⟨by decide, by decide⟩ ⟨by decide, by decide⟩ rfl rfl (by simp [x_cr, x_c1, x_c2]) dX1_place_23) ?_
    rw [y1, hv.li, hv.M hn.2]
    refine x_iret B (fun _ _ h => h) ?_ dX1_place_26
    rw [if_pos (by omega)]; exact ⟨rfl, hf, h7, hr⟩
  · refine x_iconst B dX1_place_8 ?_
    refine x_iret B (fun _ _ h => h) ?_ dX1_place_9
    rw [if_neg (by omega)]; exact ⟨rfl, rfl⟩
