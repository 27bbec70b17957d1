theorem c_X2_begins {l : Launch} {E : x_E} {κ : x_Ka} {X : x_X} {mo : Int} (hI : n_I κ X) (hm : κ mo = some (.inl (2, 1))) (hmo : 3 ≤ mo) (hm2 : mo ≤ 17) : x_Met l yX2_begins cX2_begins 3 none 4 0 0 E κ X [x_rf E mo] κ (fun v Y => v = none ∧ c_fr mo X Y ∧ c_M Y mo = m_beg (X 1 2) (c_op X) (c_M X mo) ∧ ∀ l, 0 ≤ l → l < X 1 2 → Y (mo + 1 + 1 + 2 * l) 1 = 0) := by
  refine x_Met.of [(false, x_rf E mo)] [some (x_rf E mo), none, none] 2 (by decide) rfl rfl ⟨x_cr E (mo), trivial⟩ rfl rfl ?_
  intro p e s m args below meth c hargs hin B
  obtain ⟨hT, h0, hn, hl, hla⟩ := id hI
  have lp_7 : ∀ (n : Nat) (k : Int) (Y : x_X), ((0 ≤ k ∧ k ≤ 6) ∧ c_fr mo X Y ∧ c_M Y mo = m_ck (c_M X mo) (min k (X 1 2))) → ((7 - k).toNat < n) → x_G p l e (x_rm 4 0 0) s m args below meth c 3 E 0 0 (MQ below (x_Q E κ (fun v Y => v = none ∧ c_fr mo X Y ∧ c_M Y mo = m_beg (X 1 2) (c_op X) (c_M X mo) ∧ ∀ l, 0 ≤ l → l < X 1 2 → Y (mo + 1 + 1 + 2 * l) 1 = 0)) args s 0 0 (fun q => E.1 ≤ q)) κ 7 [some (x_rf E mo), some (vi k), none] [] Y := by
    intro n
    induction n with
    | zero => intro k Y hi hme; exfalso; omega
    | succ n ih =>
      intro k Y hi hme
      have ih7 := ih
      obtain ⟨hk, hf, hM⟩ := hi
      have hIY := hI.fr hf hmo
      have hY : Y 1 2 = X 1 2 := congrFun (hf 1 (by omega)) 2
      have lp_25 : ∀ (n : Nat) (j : Int) (Z : x_X), ((0 ≤ j ∧ j ≤ 3) ∧ k < 6 ∧ c_fr mo X Z ∧ c_M Z mo = (if k < X 1 2 then m_cj (c_M Y mo) k j else c_M Y mo)) → ((4 - j).toNat < n) → x_G p l e (x_rm 4 0 0) s m args below meth c 3 E 0 0 (MQ below (x_Q E κ (fun v Y => v = none ∧ c_fr mo X Y ∧ c_M Y mo = m_beg (X 1 2) (c_op X) (c_M X mo) ∧ ∀ l, 0 ≤ l → l < X 1 2 → Y (mo + 1 + 1 + 2 * l) 1 = 0)) args s 0 0 (fun q => E.1 ≤ q)) κ 25 [some (x_rf E mo), some (vi k), some (vi j)] [] Z := by
        intro n
        induction n with
        | zero => intro j Z hi hme; exfalso; omega
        | succ n ih =>
          intro j Z hi hme
          obtain ⟨hj, hk6, hfz, hMz⟩ := hi
          have hZ : Z 1 2 = X 1 2 := congrFun (hfz 1 (by omega)) 2
          refine x_iload_n B dX2_begins_25 rfl ?_
          refine x_iconst B dX2_begins_26 ?_
          refine x_icmp_ge B (tgt := 48) dX2_begins_27 (by decide) ⟨by omega, by omega⟩ ⟨by omega, by omega⟩ (fun h_27 => ?_) (fun h_27 => ?_)
          · obtain rfl : j = 3 := by omega
            refine x_iinc_1 B dX2_begins_48 (by first | rfl | exact x_cr _ _) ?_
            refine x_goto B (tgt := 7) dX2_begins_51 (by decide) ?_
            refine x_fg_2 ?_
            refine ih7 _ _ ⟨⟨by omega, by omega⟩, hfz, ?_⟩ (by omega)
            rw [hMz]; split <;> (rw [hM]; funext l f; simp only [m_ck, m_cj]; grind)
          · refine x_aload_n B dX2_begins_30 rfl ?_
            refine x_getC1 B (k := 0) hT rfl rfl xc_2 (by decide) hm (Or.inl q242) (fun _ h => h) dX2_begins_31 (fun k_31 => ?_)
            refine x_iload_n B dX2_begins_34 rfl ?_
            refine x_aaldC B (t := 10) hT k_31 rfl rfl rfl rfl ⟨by omega, by omega⟩ dX2_begins_35 (fun k_35 => ?_)
            refine x_getC1 B (k := 0) hT rfl rfl xc_3 (by decide) k_35 (Or.inr q192) (fun _ h => h) dX2_begins_36 (fun k_36 => ?_)
            refine x_iload_n B dX2_begins_39 rfl ?_
            refine x_iconst B dX2_begins_40 ?_
            refine x_iast B k_36 ⟨by omega, by omega⟩ ⟨by omega, by omega⟩ dX2_begins_41 ?_
            refine x_iinc_2 B dX2_begins_42 (by first | rfl | exact x_cr _ _) ?_
            refine x_goto B (tgt := 25) dX2_begins_45 (by decide) ?_
            refine ih _ _ ?_ (by omega)
            refine ⟨⟨by omega, by omega⟩, hk6, hfz.up (by omega), ?_⟩
            by_cases q : k < X 1 2
            · rw [if_pos q] at hMz ⊢; rw [c_M_ub hmo (by omega) (by omega), hMz]; funext l f; simp only [m_cj, x_up]; grind
            · rw [if_neg q] at hMz ⊢; rw [(c_M_uo hmo (by omega) (by omega)).2]; exact hMz
      refine x_iload_n B dX2_begins_7 rfl ?_
      refine x_bipush B dX2_begins_8 (by decide) ?_
      refine x_icmp_ge B (tgt := 54) dX2_begins_10 (by decide) ⟨by omega, by omega⟩ ⟨by omega, by omega⟩ (fun h_10 => ?_) (fun h_10 => ?_)
      · obtain rfl : k = 6 := by omega
        rw [show min 6 (X 1 2) = X 1 2 by omega] at hM
        have hz1 : Y mo 1 = 0 := by rw [← c_M_g (X := Y) (by omega), hM]; simp [m_ck]
        refine x_aload_n B dX2_begins_54 rfl ?_
        refine x_go (x_rV B hm (show x_cl[2]? = some _ from rfl) (c_X2_liftBegins hIY hm hmo ⟨by omega, by omega⟩ hm2) (lw_V q359 q361 qs0 q114 q362) hv_X2_liftBegins ⟨by decide, by decide⟩ ⟨by decide, by decide⟩ rfl rfl (by simp [x_cr, x_c1, x_c2]) dX2_begins_55) (fun v_55 X_55 p_55 => ?_)
        obtain ⟨rfl, hf2, hM2, h2⟩ := p_55
        refine x_vret B (fun _ _ h => h) ?_ dX2_begins_58
        refine ⟨rfl, hf.trans hf2, ?_, fun l q1 q2 => h2 l q1 (by omega)⟩
        rw [hM2, hM, hY, (hI.op hf hmo hm2).1]; rfl
      · refine x_aload_n B dX2_begins_13 rfl ?_
        refine x_getC1 B (k := 0) hT rfl rfl xc_2 (by decide) hm (Or.inl q242) (fun _ h => h) dX2_begins_14 (fun k_14 => ?_)
        refine x_iload_n B dX2_begins_17 rfl ?_
        refine x_aaldC B (t := 10) hT k_14 rfl rfl rfl rfl ⟨by omega, by omega⟩ dX2_begins_18 (fun k_18 => ?_)
        refine x_iconst B dX2_begins_19 ?_
        refine x_putZ B (k := 7) 7 rfl rfl rfl ⟨by omega, by omega⟩ xc_3 (by decide) rfl nn_3_7 (fun _ => rfl) k_18 (Or.inr q219) (fun _ h => h) dX2_begins_20 ?_
        refine x_iconst B dX2_begins_23 ?_
        refine x_ist_2 B dX2_begins_24 (by first | rfl | exact x_cr _ _) ?_
        refine lp_25 _ _ _ ⟨⟨by omega, by omega⟩, by omega, hf.up (by omega), ?_⟩ (Nat.lt_succ_self _)
        by_cases q : k < X 1 2
        · rw [if_pos q, c_M_us hmo (by omega) (by omega)]; funext l f; simp only [m_cj, x_up]; grind
        · rw [if_neg q, (c_M_uo hmo (by omega) (by omega)).1]
  refine x_aload_n B dX2_begins_0 rfl ?_
  refine x_iconst B dX2_begins_1 ?_
  refine x_putI B (k := 1) 1 rfl rfl rfl ⟨by omega, by omega⟩ xc_2 (by decide) rfl nn_2_1 (fun _ => rfl) hm (Or.inl q245) (fun _ h => h) dX2_begins_2 ?_
  refine x_iconst B dX2_begins_5 ?_
  refine x_ist_1 B dX2_begins_6 (by first | rfl | exact x_cr _ _) ?_
  refine lp_7 _ _ _ ⟨⟨by omega, by omega⟩, (c_fr.rf mo X).up (by omega), ?_⟩ (Nat.lt_succ_self _)
  rw [c_M_ug hmo (by omega)]; funext l f; simp only [m_ck, x_up]; grind
theorem c_X2_isAheadAt {l : Launch} {E : x_E} {κ : x_Ka} {X : x_X} {mo i j x y : Int} (hI : n_I κ X) (hm : κ mo = some (.inl (2, 1))) (ha : 0 ≤ i ∧ i < X 1 2) (hb : 0 ≤ j ∧ j < X 1 2) (hx : xR x) (hy : xR y) : x_Pu l yX2_isAheadAt cX2_isAheadAt 5 (some .boolean) 3 E κ X [x_rf E mo, vi i, vi x, vi j, vi y] (vi (if x < y ∨ (x = y ∧ c_lot X i < c_lot X j) then 1 else 0)) := by
  refine x_Met.of [(false, x_rf E mo), (false, vi i), (false, vi x), (false, vi j), (false, vi y)] [some (x_rf E mo), some (vi i), some (vi x), some (vi j), some (vi y)] 0 (by decide) rfl rfl ⟨x_cr E (mo), rfl, rfl, rfl, rfl, trivial⟩ rfl rfl ?_
  intro p e s m args below meth c hargs hin B
  obtain ⟨hT, h0, hn, hl, hla⟩ := id hI
  refine x_iload_n B dX2_isAheadAt_0 rfl ?_
  refine x_iload B dX2_isAheadAt_1 rfl ?_
  refine x_icmp_lt B (tgt := 49) dX2_isAheadAt_3 (by decide) ⟨by omega, by omega⟩ ⟨by omega, by omega⟩ (fun h_3 => ?_) (fun h_3 => ?_)
  · refine x_iconst B dX2_isAheadAt_49 ?_
    refine x_goto B (tgt := 54) dX2_isAheadAt_50 (by decide) ?_
    refine x_zret B (fun _ _ h => h) ⟨by omega, by omega⟩ ?_ dX2_isAheadAt_54
    exact ⟨congrArg (fun z => some (vi z)) (by simp only [c_lot, if_pos ha, if_pos hb]; grind), rfl⟩
  · refine x_iload_n B dX2_isAheadAt_6 rfl ?_
    refine x_iload B dX2_isAheadAt_7 rfl ?_
    refine x_icmp_ne B (tgt := 53) dX2_isAheadAt_9 (by decide) ⟨by omega, by omega⟩ ⟨by omega, by omega⟩ (fun h_9 => ?_) (fun h_9 => ?_)
    · refine x_iconst B dX2_isAheadAt_53 ?_
      refine x_zret B (fun _ _ h => h) ⟨by omega, by omega⟩ ?_ dX2_isAheadAt_54
      exact ⟨congrArg (fun z => some (vi z)) (by simp only [c_lot, if_pos ha, if_pos hb]; grind), rfl⟩
    · refine x_aload_n B dX2_isAheadAt_12 rfl ?_
      refine x_getC0 B (k := 4) hT rfl rfl xc_2 (by decide) hm (Or.inl q254) (fun _ h => h) dX2_isAheadAt_13 (fun k_13 => ?_)
      refine x_getC0 B (k := 0) hT rfl rfl xc_0 (by decide) k_13 (Or.inr q395) (fun _ h => h) dX2_isAheadAt_16 (fun k_16 => ?_)
      refine x_iload_n B dX2_isAheadAt_19 rfl ?_
      refine x_goP (x_rV B k_16 (show x_cl[1]? = some _ from rfl) (c_J2_get hT (by assumption) (by omega) ⟨by omega, by omega⟩) (lw_V q371 q372 q373 q113 q374) hv_J2_get ⟨by decide, by decide⟩ ⟨by decide, by decide⟩ rfl rfl (by simp [x_cr, x_c1, x_c2]) dX2_isAheadAt_20) ?_
      refine x_cast B (hl _ (by omega) (by omega)) (show x_cl[8]? = some _ from rfl) q385 dX2_isAheadAt_23 ?_
      refine x_getI B (k := 1) 1 rfl rfl xc_8 (by decide) (hl _ (by omega) (by omega)) (Or.inr q519) (fun _ h => h) dX2_isAheadAt_26 (fun r_26 => ?_)
      refine x_aload_n B dX2_isAheadAt_29 rfl ?_
      refine x_getC0 B (k := 4) hT rfl rfl xc_2 (by decide) hm (Or.inl q254) (fun _ h => h) dX2_isAheadAt_30 (fun k_30 => ?_)
      refine x_getC0 B (k := 0) hT rfl rfl xc_0 (by decide) k_30 (Or.inr q395) (fun _ h => h) dX2_isAheadAt_33 (fun k_33 => ?_)
      refine x_iload_n B dX2_isAheadAt_36 rfl ?_
      refine x_goP (x_rV B k_33 (show x_cl[1]? = some _ from rfl) (c_J2_get hT (by assumption) (by omega) ⟨by omega, by omega⟩) (lw_V q371 q372 q373 q113 q374) hv_J2_get ⟨by decide, by decide⟩ ⟨by decide, by decide⟩ rfl rfl (by simp [x_cr, x_c1, x_c2]) dX2_isAheadAt_37) ?_
      refine x_cast B (hl _ (by omega) (by omega)) (show x_cl[8]? = some _ from rfl) q385 dX2_isAheadAt_40 ?_
      refine x_getI B (k := 1) 1 rfl rfl xc_8 (by decide) (hl _ (by omega) (by omega)) (Or.inr q519) (fun _ h => h) dX2_isAheadAt_43 (fun r_43 => ?_)
      refine x_icmp_ge B (tgt := 53) dX2_isAheadAt_46 (by decide) ⟨by omega, by omega⟩ ⟨by omega, by omega⟩ (fun h_46 => ?_) (fun h_46 => ?_)
      · refine x_iconst B dX2_isAheadAt_53 ?_
        refine x_zret B (fun _ _ h => h) ⟨by omega, by omega⟩ ?_ dX2_isAheadAt_54
        exact ⟨congrArg (fun z => some (vi z)) (by simp only [c_lot, if_pos ha, if_pos hb]; grind), rfl⟩
      · refine x_iconst B dX2_isAheadAt_49 ?_
        refine x_goto B (tgt := 54) dX2_isAheadAt_50 (by decide) ?_
        refine x_zret B (fun _ _ h => h) ⟨by omega, by omega⟩ ?_ dX2_isAheadAt_54
        exact ⟨congrArg (fun z => some (vi z)) (by simp only [c_lot, if_pos ha, if_pos hb]; grind), rfl⟩
theorem c_X2_called {l : Launch} {E : x_E} {κ : x_Ka} {X : x_X} {mo : Int} (hI : n_I κ X) (hm : κ mo = some (.inl (2, 1))) (hmo : 3 ≤ mo) : x_Pu l yX2_called cX2_called 3 (some .int) 4 E κ X [x_rf E mo] (vi (m_cal (X 1 2) (c_lot X) (c_M X mo))) := by
  refine x_Met.of [(false, x_rf E mo)] [some (x_rf E mo), none, none] 2 (by decide) rfl rfl ⟨x_cr E (mo), trivial⟩ rfl rfl ?_
  intro p e s m args below meth c hargs hin B
  obtain ⟨hT, h0, hn, hl, hla⟩ := id hI
  have lp_4 : ∀ (n : Nat) (k b : Int), ((0 ≤ k ∧ k ≤ X 1 2) ∧ b = m_cb (c_lot X) (c_M X mo) k.toNat) → ((7 - k).toNat < n) → x_G p l e (x_rm 4 0 0) s m args below meth c 3 E 0 0 (MQ below (x_Q E κ (fun v_ X_ => v_ = some (vi (m_cal (X 1 2) (c_lot X) (c_M X mo))) ∧ X_ = X)) args s 0 0 (fun q => E.1 ≤ q)) κ 4 [some (x_rf E mo), some (vi b), some (vi k)] [] X := by
    intro n
    induction n with
    | zero => intro k b hi hme; exfalso; omega
    | succ n ih =>
      intro k b hi hme
      obtain ⟨hk, hb⟩ := hi
      have hbr := m_cb_r (c_lot X) (c_M X mo) k.toNat
      have hs := m_cb_s (c_lot X) (c_M X mo) hk.1
      rw [← hb] at hs hbr
      refine x_iload_n B dX2_called_4 rfl ?_
      refine x_aload_n B dX2_called_5 rfl ?_
      refine x_getC0 B (k := 4) hT rfl rfl xc_2 (by decide) hm (Or.inl q254) (fun _ h => h) dX2_called_6 (fun k_6 => ?_)
      refine x_getC0 B (k := 0) hT rfl rfl xc_0 (by decide) k_6 (Or.inr q395) (fun _ h => h) dX2_called_9 (fun k_9 => ?_)
      refine x_goP (x_rV B k_9 (show x_cl[1]? = some _ from rfl) (c_J2_size hT (by assumption)) (lw_V q363 q364 q365 q113 q366) hv_J2_size ⟨by decide, by decide⟩ ⟨by decide, by decide⟩ rfl rfl (by simp [x_cr, x_c1, x_c2]) dX2_called_12) ?_
      refine x_icmp_ge B (tgt := 73) dX2_called_15 (by decide) ⟨by omega, by omega⟩ ⟨by omega, by omega⟩ (fun h_15 => ?_) (fun h_15 => ?_)
      · obtain rfl : k = X 1 2 := by omega
        refine x_iload_n B dX2_called_73 rfl ?_
        refine x_iret B (fun _ _ h => h) ?_ dX2_called_74
        exact ⟨congrArg (fun z => some (vi z)) (by exact hb), rfl⟩
      · refine x_aload_n B dX2_called_18 rfl ?_
        refine x_getC1 B (k := 0) hT rfl rfl xc_2 (by decide) hm (Or.inl q242) (fun _ h => h) dX2_called_19 (fun k_19 => ?_)
        refine x_iload_n B dX2_called_22 rfl ?_
        refine x_aaldC B (t := 10) hT k_19 rfl rfl rfl rfl ⟨by omega, by omega⟩ dX2_called_23 (fun k_23 => ?_)
        refine x_goP (x_rV B k_23 (show x_cl[3]? = some _ from rfl) (c_X3_isToTry hT (by assumption)) (lw_V q801 q783 q784 q115 q785) hv_X3_isToTry ⟨by decide, by decide⟩ ⟨by decide, by decide⟩ rfl rfl (by simp [x_cr, x_c1, x_c2]) dX2_called_24) ?_
        have ht27 : 0 ≤ s_toTry X (mo + 1 + 1 + 2 * k) ∧ s_toTry X (mo + 1 + 1 + 2 * k) ≤ 1 := by unfold s_toTry; split <;> omega
        refine x_if_ne B (tgt := 33) dX2_called_27 (by decide) ⟨by omega, by omega⟩ (fun h_27 => ?_) (fun h_27 => ?_)
        · refine x_iload_n B dX2_called_33 rfl ?_
          refine x_iconst B dX2_called_34 ?_
          refine x_icmp_eq B (tgt := 65) dX2_called_35 (by decide) ⟨by omega, by omega⟩ ⟨by omega, by omega⟩ (fun h_35 => ?_) (fun h_35 => ?_)
          · refine x_iload_n B dX2_called_65 rfl ?_
            refine x_ist_1 B dX2_called_66 (by first | rfl | exact x_cr _ _) ?_
            refine x_iinc_2 B dX2_called_67 (by first | rfl | exact x_cr _ _) ?_
            refine x_goto B (tgt := 4) dX2_called_70 (by decide) ?_
            refine ih _ _ ?_ (by omega)
            refine ⟨⟨by omega, by omega⟩, ?_⟩
            rw [hs]
            have e3 := c_M_s (X := X) (mo := mo) (l := k) (f := 3) (by omega) (by omega)
            have e6 := c_M_s (X := X) (mo := mo) (l := k) (f := 6) (by omega) (by omega)
            by_cases q : b = -1
            · simp only [s_toTry] at *; grind
            · have f3 := c_M_s (X := X) (mo := mo) (l := b) (f := 3) (by omega) (by omega)
              simp only [s_toTry] at *; grind
          · refine x_aload_n B dX2_called_38 rfl ?_
            refine x_iload_n B dX2_called_39 rfl ?_
            refine x_aload_n B dX2_called_40 rfl ?_
            refine x_getC1 B (k := 0) hT rfl rfl xc_2 (by decide) hm (Or.inl q242) (fun _ h => h) dX2_called_41 (fun k_41 => ?_)
            refine x_iload_n B dX2_called_44 rfl ?_
            refine x_aaldC B (t := 10) hT k_41 rfl rfl rfl rfl ⟨by omega, by omega⟩ dX2_called_45 (fun k_45 => ?_)
            refine x_getI B (k := 3) 3 rfl rfl xc_3 (by decide) k_45 (Or.inr q210) (fun _ h => h) dX2_called_46 (fun r_46 => ?_)
            refine x_iload_n B dX2_called_49 rfl ?_
            refine x_aload_n B dX2_called_50 rfl ?_
            refine x_getC1 B (k := 0) hT rfl rfl xc_2 (by decide) hm (Or.inl q242) (fun _ h => h) dX2_called_51 (fun k_51 => ?_)
            refine x_iload_n B dX2_called_54 rfl ?_
            refine x_aaldC B (t := 10) hT k_51 rfl rfl rfl rfl ⟨by omega, by omega⟩ dX2_called_55 (fun k_55 => ?_)
            refine x_getI B (k := 3) 3 rfl rfl xc_3 (by decide) k_55 (Or.inr q210) (fun _ h => h) dX2_called_56 (fun r_56 => ?_)
            refine x_goP (x_rV B hm (show x_cl[2]? = some _ from rfl) (c_X2_isAheadAt hI hm ⟨by omega, by omega⟩ ⟨by omega, by omega⟩ ⟨by omega, by omega⟩ ⟨by omega, by omega⟩) (lw_V q802 q804 qs15 q114 q805) hv_X2_isAheadAt ⟨by decide, by decide⟩ ⟨by decide, by decide⟩ rfl rfl (by simp [x_cr, x_c1, x_c2]) dX2_called_59) ?_
            refine x_if_eq B (tgt := 67) dX2_called_62 (by decide) ⟨by split <;> omega, by split <;> omega⟩ (fun h_62 => ?_) (fun h_62 => ?_)
            · refine x_iinc_2 B dX2_called_67 (by first | rfl | exact x_cr _ _) ?_
              refine x_goto B (tgt := 4) dX2_called_70 (by decide) ?_
              refine ih _ _ ?_ (by omega)
              refine ⟨⟨by omega, by omega⟩, ?_⟩
              rw [hs]
              have e3 := c_M_s (X := X) (mo := mo) (l := k) (f := 3) (by omega) (by omega)
              have e6 := c_M_s (X := X) (mo := mo) (l := k) (f := 6) (by omega) (by omega)
              by_cases q : b = -1
              · simp only [s_toTry] at *; grind
              · have f3 := c_M_s (X := X) (mo := mo) (l := b) (f := 3) (by omega) (by omega)
                simp only [s_toTry] at *; grind
            · refine x_iload_n B dX2_called_65 rfl ?_
              refine x_ist_1 B dX2_called_66 (by first | rfl | exact x_cr _ _) ?_
              refine x_iinc_2 B dX2_called_67 (by first | rfl | exact x_cr _ _) ?_
              refine x_goto B (tgt := 4) dX2_called_70 (by decide) ?_
              refine ih _ _ ?_ (by omega)
              refine ⟨⟨by omega, by omega⟩, ?_⟩
              rw [hs]
              have e3 := c_M_s (X := X) (mo := mo) (l := k) (f := 3) (by omega) (by omega)
              have e6 := c_M_s (X := X) (mo := mo) (l := k) (f := 6) (by omega) (by omega)
              by_cases q : b = -1
              · simp only [s_toTry] at *; grind
              · have f3 := c_M_s (X := X) (mo := mo) (l := b) (f := 3) (by omega) (by omega)
                simp only [s_toTry] at *; grind
        · refine x_goto B (tgt := 67) dX2_called_30 (by decide) ?_
          refine x_iinc_2 B dX2_called_67 (by first | rfl | exact x_cr _ _) ?_
          refine x_goto B (tgt := 4) dX2_called_70 (by decide) ?_
          refine ih _ _ ?_ (by omega)
          refine ⟨⟨by omega, by omega⟩, ?_⟩
          rw [hs]
          have e3 := c_M_s (X := X) (mo := mo) (l := k) (f := 3) (by omega) (by omega)
          have e6 := c_M_s (X := X) (mo := mo) (l := k) (f := 6) (by omega) (by omega)
          by_cases q : b = -1
          · simp only [s_toTry] at *; grind
          · have f3 := c_M_s (X := X) (mo := mo) (l := b) (f := 3) (by omega) (by omega)
            simp only [s_toTry] at *; grind
  refine x_iconst B dX2_called_0 ?_
  refine x_ist_1 B dX2_called_1 (by first | rfl | exact x_cr _ _) ?_
  refine x_iconst B dX2_called_2 ?_
  refine x_ist_2 B dX2_called_3 (by first | rfl | exact x_cr _ _) ?_
  refine lp_4 _ _ _ ?_ (Nat.lt_succ_self _)
  exact ⟨⟨by omega, by omega⟩, rfl⟩
/-- what oddsOf needs of the lifters and of the tiring -/
def n_O (X : x_X) : Prop := (∀ l, 0 ≤ l → l < X 1 2 → l_wf X (X 2 l)) ∧ 0 ≤ X 0 1 ∧ X 0 1 ≤ 300
def c_O (X : x_X) (l t x f : Int) : Int := if 0 ≤ l ∧ l < X 1 2 ∧ 0 ≤ t ∧ t < 3 then l_odds X (X 2 l) t x f else 0
theorem c_X2_odds {l : Launch} {E : x_E} {κ : x_Ka} {X : x_X} {mo i : Int} (hI : n_I κ X) (hm : κ mo = some (.inl (2, 1))) (hO : n_O X) (ha : 0 ≤ i ∧ i < X 1 2) (hlf : 0 ≤ X mo 1 ∧ X mo 1 < 3) (hff : 0 ≤ X (mo + 1 + 1 + 2 * i) 2 ∧ X (mo + 1 + 1 + 2 * i) 2 ≤ 3) : x_Pu l yX2_odds cX2_odds 2 (some .int) 3 E κ X [x_rf E mo, vi i] (vi (c_O X i (X mo 1) (X (mo + 1 + 1 + 2 * i) 3) (X (mo + 1 + 1 + 2 * i) 2))) := by
  refine x_Met.of [(false, x_rf E mo), (false, vi i)] [some (x_rf E mo), some (vi i)] 0 (by decide) rfl rfl ⟨x_cr E (mo), rfl, trivial⟩ rfl rfl ?_
  intro p e s m args below meth c hargs hin B
  obtain ⟨hT, h0, hn, hl, hla⟩ := id hI
  refine x_aload_n B dX2_odds_0 rfl ?_
  refine x_getC0 B (k := 4) hT rfl rfl xc_2 (by decide) hm (Or.inl q254) (fun _ h => h) dX2_odds_1 (fun k_1 => ?_)
  refine x_aload_n B dX2_odds_4 rfl ?_
  refine x_getC0 B (k := 4) hT rfl rfl xc_2 (by decide) hm (Or.inl q254) (fun _ h => h) dX2_odds_5 (fun k_5 => ?_)
  refine x_getC0 B (k := 0) hT rfl rfl xc_0 (by decide) k_5 (Or.inr q395) (fun _ h => h) dX2_odds_8 (fun k_8 => ?_)
  refine x_iload_n B dX2_odds_11 rfl ?_
  refine x_goP (x_rV B k_8 (show x_cl[1]? = some _ from rfl) (c_J2_get hT (by assumption) (by omega) ⟨by omega, by omega⟩) (lw_V q371 q372 q373 q113 q374) hv_J2_get ⟨by decide, by decide⟩ ⟨by decide, by decide⟩ rfl rfl (by simp [x_cr, x_c1, x_c2]) dX2_odds_12) ?_
  refine x_cast B (hl _ (by omega) (by omega)) (show x_cl[8]? = some _ from rfl) q385 dX2_odds_15 ?_
  refine x_aload_n B dX2_odds_18 rfl ?_
  refine x_getI B (k := 1) 1 rfl rfl xc_2 (by decide) hm (Or.inl q245) (fun _ h => h) dX2_odds_19 (fun r_19 => ?_)
  refine x_aload_n B dX2_odds_22 rfl ?_
  refine x_getC1 B (k := 0) hT rfl rfl xc_2 (by decide) hm (Or.inl q242) (fun _ h => h) dX2_odds_23 (fun k_23 => ?_)
  refine x_iload_n B dX2_odds_26 rfl ?_
  refine x_aaldC B (t := 10) hT k_23 rfl rfl rfl rfl ⟨by omega, by omega⟩ dX2_odds_27 (fun k_27 => ?_)
  refine x_getI B (k := 3) 3 rfl rfl xc_3 (by decide) k_27 (Or.inr q210) (fun _ h => h) dX2_odds_28 (fun r_28 => ?_)
  refine x_aload_n B dX2_odds_31 rfl ?_
  refine x_getC1 B (k := 0) hT rfl rfl xc_2 (by decide) hm (Or.inl q242) (fun _ h => h) dX2_odds_32 (fun k_32 => ?_)
  refine x_iload_n B dX2_odds_35 rfl ?_
  refine x_aaldC B (t := 10) hT k_32 rfl rfl rfl rfl ⟨by omega, by omega⟩ dX2_odds_36 (fun k_36 => ?_)
  refine x_getI B (k := 2) 2 rfl rfl xc_3 (by decide) k_36 (Or.inr q205) (fun _ h => h) dX2_odds_37 (fun r_37 => ?_)
  refine x_goP (x_rVN B k_1 (show x_cl[0]? = some _ from rfl) (c_X1_oddsOf hT h0 (hl _ (by omega) (by omega)) (hO.1 _ (by omega) (by omega)) ⟨by omega, by omega⟩ ⟨by omega, by omega⟩ ⟨by omega, by omega⟩ hO.2) q814 q766 qs14 q110 q767 hd_X1_oddsOf ⟨by decide, by decide⟩ ⟨by decide, by decide⟩ rfl rfl (by simp [x_cr, x_c1, x_c2]) dX2_odds_40) ?_
  refine x_iret B (fun _ _ h => h) ?_ dX2_odds_43
  exact ⟨congrArg (fun z => some (vi z)) (by unfold c_O; rw [if_pos ⟨ha.1, ha.2, hlf.1, hlf.2⟩]), rfl⟩
