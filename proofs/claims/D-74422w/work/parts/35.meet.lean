theorem c_X2_goesOn {l : Launch} {E : x_E} {κ : x_Ka} {X : x_X} {mo : Int} (hI : n_I κ X) (hm : κ mo = some (.inl (2, 1))) (hmo : 3 ≤ mo) (hm2 : mo ≤ 17) (hlf : 0 ≤ X mo 1 ∧ X mo 1 ≤ 3) (hrd : 0 ≤ X mo 2 ∧ X mo 2 ≤ 2) (hJ : c_J X mo) : x_Met l yX2_goesOn cX2_goesOn 2 none 5 0 0 E κ X [x_rf E mo] κ (fun v Y => v = none ∧ c_fr mo X Y ∧ c_M Y mo = m_go (X 1 2) (c_op X) (c_lot X) 20 (c_M X mo) ∧ c_J Y mo ∧ (0 ≤ Y mo 1 ∧ Y mo 1 ≤ 3) ∧ (0 ≤ Y mo 2 ∧ Y mo 2 ≤ 2)) := by
  refine x_Met.of [(false, x_rf E mo)] [some (x_rf E mo), none] 1 (by decide) rfl rfl ⟨x_cr E (mo), trivial⟩ rfl rfl ?_
  intro p e s m args below meth c hargs hin B
  obtain ⟨hT, h0, hn, hl, hla⟩ := id hI
  have lp_0 : ∀ (n : Nat) (f : Nat) (Y : x_X), (c_fr mo X Y ∧ ((0 ≤ Y mo 1 ∧ Y mo 1 ≤ 3) ∧ (0 ≤ Y mo 2 ∧ Y mo 2 ≤ 2)) ∧ c_J Y mo ∧ 3 * (3 - Y mo 1) + (2 - Y mo 2) < f ∧ m_go (X 1 2) (c_op X) (c_lot X) 20 (c_M X mo) = m_go (X 1 2) (c_op X) (c_lot X) f (c_M Y mo)) → (f < n) → x_G p l e (x_rm 5 0 0) s m args below meth c 2 E 0 0 (MQ below (x_Q E κ (fun v Y => v = none ∧ c_fr mo X Y ∧ c_M Y mo = m_go (X 1 2) (c_op X) (c_lot X) 20 (c_M X mo) ∧ c_J Y mo ∧ (0 ≤ Y mo 1 ∧ Y mo 1 ≤ 3) ∧ (0 ≤ Y mo 2 ∧ Y mo 2 ≤ 2))) args s 0 0 (fun q => E.1 ≤ q)) κ 0 [some (x_rf E mo), none] [] Y := by
    intro n
    induction n with
    | zero => intro f Y hi hme; exfalso; omega
    | succ n ih =>
      intro f Y hi hme
      have ih0 := ih
      obtain ⟨hf, ⟨hlf, hrd⟩, hJ, hfu, hM⟩ := hi
      refine x_rgS hT hm (fun hr6 => ?_)
      have hIY := hI.fr hf hmo
      have hY : Y 1 2 = X 1 2 := congrFun (hf 1 (by omega)) 2
      have hop := hI.op hf hmo hm2
      have hcr := m_cb_r (c_lot Y) (c_M Y mo) (Y 1 2).toNat
      have g1 : c_M Y mo (-1) 1 = Y mo 1 := c_M_g (by omega)
      have g2 : c_M Y mo (-1) 2 = Y mo 2 := c_M_g (by omega)
      have lp_40 : ∀ (n : Nat) (k : Int) (Z : x_X), ((0 ≤ k ∧ k ≤ X 1 2) ∧ Y mo 1 ≠ 3 ∧ Y mo 2 = 2 ∧ m_cal (Y 1 2) (c_lot Y) (c_M Y mo) = -1 ∧ c_fr mo X Z ∧ c_M Z mo = m_ek (c_M Y mo) k) → ((7 - k).toNat < n) → x_G p l e (x_rm 5 0 0) s m args below meth c 2 E 0 0 (MQ below (x_Q E κ (fun v Y => v = none ∧ c_fr mo X Y ∧ c_M Y mo = m_go (X 1 2) (c_op X) (c_lot X) 20 (c_M X mo) ∧ c_J Y mo ∧ (0 ≤ Y mo 1 ∧ Y mo 1 ≤ 3) ∧ (0 ≤ Y mo 2 ∧ Y mo 2 ≤ 2))) args s 0 0 (fun q => E.1 ≤ q)) κ 40 [some (x_rf E mo), some (vi k)] [] Z := by
        intro n
        induction n with
        | zero => intro k Z hi hme; exfalso; omega
        | succ n ih =>
          intro k Z hi hme
          obtain ⟨hk, hn3, hr2, hc1, hfz, hMz⟩ := hi
          have hZ : Z 1 2 = X 1 2 := congrFun (hfz 1 (by omega)) 2
          have z1 : Z mo 1 = Y mo 1 := by rw [← c_M_g (X := Z) (by omega), hMz, ← g1]; simp [m_ek]
          refine x_iload_n B dX2_goesOn_40 rfl ?_
          refine x_aload_n B dX2_goesOn_41 rfl ?_
          refine x_getC0 B (k := 4) hT rfl rfl xc_2 (by decide) hm (Or.inl q254) (fun _ h => h) dX2_goesOn_42 (fun k_42 => ?_)
          refine x_getC0 B (k := 0) hT rfl rfl xc_0 (by decide) k_42 (Or.inr q395) (fun _ h => h) dX2_goesOn_45 (fun k_45 => ?_)
          refine x_goP (x_rV B k_45 (show x_cl[1]? = some _ from rfl) (c_J2_size hT (by assumption)) (lw_V q363 q364 q365 q113 q366) hv_J2_size ⟨by decide, by decide⟩ ⟨by decide, by decide⟩ rfl rfl (by simp [x_cr, x_c1, x_c2]) dX2_goesOn_48) ?_
          refine x_icmp_ge B (tgt := 87) dX2_goesOn_51 (by decide) ⟨by omega, by omega⟩ ⟨by omega, by omega⟩ (fun h_51 => ?_) (fun h_51 => ?_)
          · obtain rfl : k = X 1 2 := by omega
            refine x_aload_n B dX2_goesOn_87 rfl ?_
            refine x_dup B dX2_goesOn_88 (by first | rfl | exact x_cr _ _) ?_
            refine x_getI B (k := 1) 1 rfl rfl xc_2 (by decide) hm (Or.inl q245) (fun _ h => h) dX2_goesOn_89 (fun r_89 => ?_)
            refine x_iconst B dX2_goesOn_92 ?_
            refine x_iadd B dX2_goesOn_93 ?_
            refine x_putI B (k := 1) 1 rfl rfl rfl ⟨by first | omega | (simp only [x_up]; grind), by first | omega | (simp only [x_up]; grind)⟩ xc_2 (by decide) rfl nn_2_1 (fun _ => rfl) hm (Or.inl q245) (fun _ h => h) dX2_goesOn_94 ?_
            refine x_aload_n B dX2_goesOn_97 rfl ?_
            refine x_go (x_rV B hm (show x_cl[2]? = some _ from rfl) (c_X2_liftBegins (hIY.fr (mo := mo) (Y := x_up Z mo 1 (Z mo 1 + 1)) (fun a ha => by rw [x_up_o Z (by omega), hfz a ha, hf a ha]) hmo) hm hmo ⟨by rw [x_up_s]; omega, by rw [x_up_s]; omega⟩ hm2) (lw_V q359 q361 qs0 q114 q362) hv_X2_liftBegins ⟨by decide, by decide⟩ ⟨by decide, by decide⟩ rfl rfl (by simp [x_cr, x_c1, x_c2]) dX2_goesOn_98) (fun v_98 X_98 p_98 => ?_)
            refine x_goto B (tgt := 0) dX2_goesOn_101 (by decide) ?_
            obtain ⟨rfl, hf2, hM2, h2⟩ := p_98
            have g98 : Y mo 2 + 1 ≥ 3 := by omega
            have hMn : c_M X_98 mo = m_next (Y 1 2) (c_op Y) (c_M Y mo) := by
              rw [hM2, (hIY.op (mo := mo) (Y := x_up Z mo 1 (Z mo 1 + 1)) (fun a ha => by rw [x_up_o Z (by omega), hfz a ha, hf a ha]) hmo hm2).1, c_M_ug hmo (by omega), hMz, x_up_n Z (Or.inl (by omega)), hZ, z1]
              unfold m_next; rw [g2, if_neg (by omega), g1, hY]
            have w1 : X_98 mo 1 = Y mo 1 + 1 := by rw [← c_M_g (X := X_98) (by omega), hMn]; unfold m_next; rw [g2, if_neg (by omega)]; simp [m_lift, m_rk, m_lk, x_up, g1]
            have w2 : X_98 mo 2 = 0 := by rw [← c_M_g (X := X_98) (by omega), hMn]; unfold m_next; rw [g2, if_neg (by omega)]; simp [m_lift, m_rk]
            have hF : c_fr mo X X_98 := (hfz.up (by omega)).trans hf2
            have hX8 : X_98 1 2 = X 1 2 := congrFun (hF 1 (by omega)) 2
            obtain ⟨f, rfl⟩ : ∃ q, f = q + 1 := ⟨f - 1, by omega⟩
            refine x_fg_1 ?_
            refine ih0 f X_98 ⟨hF, ⟨by omega, by omega⟩, ?_, by omega, ?_⟩ (by omega)
            · intro l l1 l2 l3
              rw [w2, h2 l l1 (by rw [x_up_n Z (Or.inl (by omega))]; omega), ← c_M_s (X := X_98) (by omega) (by omega), hMn]; unfold m_next; rw [g2, if_neg (by omega)]; simp only [m_lift, m_rk]; rw [if_neg (by omega), if_pos (by omega)]; simp
            · rw [hM]; conv => lhs; unfold m_go
              rw [if_pos ⟨by rw [g1]; exact hn3, by rw [← hop.2, ← hY]; exact hc1⟩, hMn, hop.1, hY]
          · refine x_aload_n B dX2_goesOn_54 rfl ?_
            refine x_getC1 B (k := 0) hT rfl rfl xc_2 (by decide) hm (Or.inl q242) (fun _ h => h) dX2_goesOn_55 (fun k_55 => ?_)
            refine x_iload_n B dX2_goesOn_58 rfl ?_
            refine x_aaldC B (t := 10) hT k_55 rfl rfl rfl rfl ⟨by omega, by omega⟩ dX2_goesOn_59 (fun k_59 => ?_)
            refine x_getC1 B (k := 0) hT rfl rfl xc_3 (by decide) k_59 (Or.inr q192) (fun _ h => h) dX2_goesOn_60 (fun k_60 => ?_)
            refine x_aload_n B dX2_goesOn_63 rfl ?_
            refine x_getI B (k := 1) 1 rfl rfl xc_2 (by decide) hm (Or.inl q245) (fun _ h => h) dX2_goesOn_64 (fun r_64 => ?_)
            refine x_iald B k_60 ⟨by omega, by omega⟩ dX2_goesOn_67 (fun r_67 => ?_)
            refine x_if_ne B (tgt := 81) dX2_goesOn_68 (by decide) ⟨by omega, by omega⟩ (fun h_68 => ?_) (fun h_68 => ?_)
            · refine x_iinc_1 B dX2_goesOn_81 (by first | rfl | exact x_cr _ _) ?_
              refine x_goto B (tgt := 40) dX2_goesOn_84 (by decide) ?_
              refine ih _ _ ?_ (by omega)
              have sb : Z (mo + 1 + 1 + 2 * k + 1) (Z mo 1) = c_M Y mo k (10 + c_M Y mo (-1) 1) := by rw [g1, ← z1]; have := c_M_b (X := Z) (mo := mo) (l := k) (f := 10 + Z mo 1) (by omega) (by omega); rw [show 10 + Z mo 1 - 10 = Z mo 1 by omega] at this; rw [← this, hMz]; unfold m_ek; rw [if_neg (by omega)]
              first
              | exact ⟨⟨by omega, by omega⟩, hn3, hr2, hc1, hfz.up (by omega), by rw [c_M_us hmo (by omega) (by omega), hMz]; exact m_ek_s1 hk.1 (by rw [← sb]; exact h_68)⟩
              | exact ⟨⟨by omega, by omega⟩, hn3, hr2, hc1, hfz, by rw [hMz]; exact m_ek_s0 (by rw [← sb]; exact h_68)⟩
            · refine x_aload_n B dX2_goesOn_71 rfl ?_
              refine x_getC1 B (k := 0) hT rfl rfl xc_2 (by decide) hm (Or.inl q242) (fun _ h => h) dX2_goesOn_72 (fun k_72 => ?_)
              refine x_iload_n B dX2_goesOn_75 rfl ?_
              refine x_aaldC B (t := 10) hT k_72 rfl rfl rfl rfl ⟨by omega, by omega⟩ dX2_goesOn_76 (fun k_76 => ?_)
              refine x_iconst B dX2_goesOn_77 ?_
              refine x_putZ B (k := 7) 7 rfl rfl rfl ⟨by omega, by omega⟩ xc_3 (by decide) rfl nn_3_7 (fun _ => rfl) k_76 (Or.inr q219) (fun _ h => h) dX2_goesOn_78 ?_
              refine x_iinc_1 B dX2_goesOn_81 (by first | rfl | exact x_cr _ _) ?_
              refine x_goto B (tgt := 40) dX2_goesOn_84 (by decide) ?_
              refine ih _ _ ?_ (by omega)
              have sb : Z (mo + 1 + 1 + 2 * k + 1) (Z mo 1) = c_M Y mo k (10 + c_M Y mo (-1) 1) := by rw [g1, ← z1]; have := c_M_b (X := Z) (mo := mo) (l := k) (f := 10 + Z mo 1) (by omega) (by omega); rw [show 10 + Z mo 1 - 10 = Z mo 1 by omega] at this; rw [← this, hMz]; unfold m_ek; rw [if_neg (by omega)]
              first
              | exact ⟨⟨by omega, by omega⟩, hn3, hr2, hc1, hfz.up (by omega), by rw [c_M_us hmo (by omega) (by omega), hMz]; exact m_ek_s1 hk.1 (by rw [← sb]; exact h_68)⟩
              | exact ⟨⟨by omega, by omega⟩, hn3, hr2, hc1, hfz, by rw [hMz]; exact m_ek_s0 (by rw [← sb]; exact h_68)⟩
      refine x_aload_n B dX2_goesOn_0 rfl ?_
      refine x_goP (x_rV B hm (show x_cl[2]? = some _ from rfl) (c_X2_isOver hT (by assumption)) (lw_V q367 q368 q369 q114 q370) hv_X2_isOver ⟨by decide, by decide⟩ ⟨by decide, by decide⟩ rfl rfl (by simp [x_cr, x_c1, x_c2]) dX2_goesOn_1) ?_
      refine x_if_ne B (tgt := 104) dX2_goesOn_4 (by decide) ⟨by split <;> omega, by split <;> omega⟩ (fun h_4 => ?_) (fun h_4 => ?_)
      · refine x_vret B (fun _ _ h => h) ?_ dX2_goesOn_104
        refine ⟨rfl, hf, ?_, hJ, hlf, hrd⟩
        rw [hM, m_go_stop]
        rw [g1, ← hop.2, ← hY]; first | (intro q; exact h_12 q.2) | (intro q; rw [if_neg q.1] at h_4; omega)
      · have hn3 : Y mo 1 ≠ 3 := by intro q; rw [if_pos q] at h_4; omega
        refine x_aload_n B dX2_goesOn_7 rfl ?_
        refine x_goP (x_rV B hm (show x_cl[2]? = some _ from rfl) (c_X2_called hIY hm hmo) (lw_V q851 q798 q799 q114 q800) hv_X2_called ⟨by decide, by decide⟩ ⟨by decide, by decide⟩ rfl rfl (by simp [x_cr, x_c1, x_c2]) dX2_goesOn_8) ?_
        refine x_iconst B dX2_goesOn_11 ?_
        refine x_icmp_ne B (tgt := 104) dX2_goesOn_12 (by decide) ⟨by unfold m_cal; omega, by unfold m_cal; omega⟩ ⟨by omega, by omega⟩ (fun h_12 => ?_) (fun h_12 => ?_)
        · refine x_vret B (fun _ _ h => h) ?_ dX2_goesOn_104
          refine ⟨rfl, hf, ?_, hJ, hlf, hrd⟩
          rw [hM, m_go_stop]
          rw [g1, ← hop.2, ← hY]; first | (intro q; exact h_12 q.2) | (intro q; rw [if_neg q.1] at h_4; omega)
        · refine x_aload_n B dX2_goesOn_15 rfl ?_
          refine x_getI B (k := 2) 2 rfl rfl xc_2 (by decide) hm (Or.inl q249) (fun _ h => h) dX2_goesOn_16 (fun r_16 => ?_)
          refine x_iconst B dX2_goesOn_19 ?_
          refine x_iadd B dX2_goesOn_20 ?_
          refine x_iconst B dX2_goesOn_21 ?_
          refine x_icmp_ge B (tgt := 38) dX2_goesOn_22 (by decide) ⟨by omega, by omega⟩ ⟨by omega, by omega⟩ (fun h_22 => ?_) (fun h_22 => ?_)
          · refine x_iconst B dX2_goesOn_38 ?_
            refine x_ist_1 B dX2_goesOn_39 (by first | rfl | exact x_cr _ _) ?_
            refine lp_40 _ _ _ ⟨⟨by omega, by omega⟩, hn3, by omega, h_12, hf, m_ek_0 _⟩ (Nat.lt_succ_self _)
          · refine x_aload_n B dX2_goesOn_25 rfl ?_
            refine x_aload_n B dX2_goesOn_26 rfl ?_
            refine x_getI B (k := 2) 2 rfl rfl xc_2 (by decide) hm (Or.inl q249) (fun _ h => h) dX2_goesOn_27 (fun r_27 => ?_)
            refine x_iconst B dX2_goesOn_30 ?_
            refine x_iadd B dX2_goesOn_31 ?_
            refine x_go (x_rV B hm (show x_cl[2]? = some _ from rfl) (c_X2_roundBegins hIY hm hmo ⟨by omega, by omega⟩) (lw_V q390 q392 qs1 q114 q393) hv_X2_roundBegins ⟨by decide, by decide⟩ ⟨by decide, by decide⟩ rfl rfl (by simp [x_cr, x_c1, x_c2]) dX2_goesOn_32) (fun v_32 X_32 p_32 => ?_)
            refine x_goto B (tgt := 0) dX2_goesOn_35 (by decide) ?_
            obtain ⟨rfl, hf2, hM2, h2⟩ := p_32
            have hMn : c_M X_32 mo = m_next (Y 1 2) (c_op Y) (c_M Y mo) := by rw [hM2]; unfold m_next; rw [g2, if_pos (by omega)]
            have w1 : X_32 mo 1 = Y mo 1 := by rw [← c_M_g (X := X_32) (by omega), hM2, ← g1]; simp [m_rk]
            have w2 : X_32 mo 2 = Y mo 2 + 1 := by rw [← c_M_g (X := X_32) (by omega), hM2]; simp [m_rk]
            have hX8 : X_32 1 2 = X 1 2 := by rw [hf2 1 (by omega)]; exact hY
            obtain ⟨f, rfl⟩ : ∃ q, f = q + 1 := ⟨f - 1, by omega⟩
            refine ih0 f X_32 ⟨hf.trans hf2, ⟨by omega, by omega⟩, ?_, by omega, ?_⟩ (by omega)
            · intro l l1 l2 l3
              have c3 := c_M_s (X := X_32) (mo := mo) (l := l) (f := 3) (by omega) (by omega)
              have c6 := c_M_s (X := X_32) (mo := mo) (l := l) (f := 6) (by omega) (by omega)
              have d3 := c_M_s (X := Y) (mo := mo) (l := l) (f := 3) (by omega) (by omega)
              have d6 := c_M_s (X := Y) (mo := mo) (l := l) (f := 6) (by omega) (by omega)
              have hno := m_cb_none (c_lot Y) (c_M Y mo) (Y 1 2).toNat h_12 l l1 (by omega)
              have r6 := (hr6 l l1 (by omega)).1
              have hj := hJ l l1 (by omega)
              rw [hM2] at c3 c6; simp only [m_rk] at c3 c6; rw [if_neg (by omega), if_pos (by omega)] at c3 c6; simp at c3 c6; rw [w2, h2 l]; omega
            · rw [hM]; conv => lhs; unfold m_go
              rw [if_pos ⟨by rw [g1]; exact hn3, by rw [← hop.2, ← hY]; exact h_12⟩, hMn, hop.1, hY]
  refine lp_0 _ 20 X ⟨c_fr.rf mo X, ⟨hlf, hrd⟩, hJ, by omega, rfl⟩ (Nat.lt_succ_self _)
