theorem c_X2_isAhead_2 {l : Launch} {E : x_E} {κ : x_Ka} {X : x_X} {mo i j s1 o1 io oo : Int} (hI : n_I κ X) (hm : κ mo = some (.inl (2, 1))) (ha : 0 ≤ i ∧ i < X 1 2) (hb : 0 ≤ j ∧ j < X 1 2) (hs : xR s1) (ho : xR o1) (h3 : 0 ≤ io ∧ io ≤ 1) (h4 : 0 ≤ oo ∧ oo ≤ 1) : x_Pu l yX2_isAhead_2 cX2_isAhead_2 9 (some .boolean) 3 E κ X [x_rf E mo, vi i, vi s1, vi io, vi j, vi o1, vi oo] (vi (m_ah (c_li X i j) s1 io o1 oo)) := by
  refine x_Met.of [(false, x_rf E mo), (false, vi i), (false, vi s1), (false, vi io), (false, vi j), (false, vi o1), (false, vi oo)] [some (x_rf E mo), some (vi i), some (vi s1), some (vi io), some (vi j), some (vi o1), some (vi oo), none, none] 2 (by decide) rfl rfl ⟨x_cr E (mo), rfl, rfl, rfl, rfl, rfl, rfl, trivial⟩ rfl rfl ?_
  intro p e s m args below meth c hargs hin B
  obtain ⟨hT, h0, hn, hl, hla⟩ := id hI
  refine x_iload_n B dX2_isAhead_2_0 rfl ?_
  refine x_iload B dX2_isAhead_2_1 rfl ?_
  refine x_icmp_eq B (tgt := 9) dX2_isAhead_2_3 (by decide) ⟨by omega, by omega⟩ ⟨by omega, by omega⟩ (fun h_3 => ?_) (fun h_3 => ?_)
  · refine x_iload_n B dX2_isAhead_2_9 rfl ?_
    refine x_iload B dX2_isAhead_2_10 rfl ?_
    refine x_icmp_eq B (tgt := 27) dX2_isAhead_2_12 (by decide) ⟨by omega, by omega⟩ ⟨by omega, by omega⟩ (fun h_12 => ?_) (fun h_12 => ?_)
    · refine x_aload_n B dX2_isAhead_2_27 rfl ?_
      refine x_getC0 B (k := 4) hT rfl rfl xc_2 (by decide) hm (Or.inl q254) (fun _ h => h) dX2_isAhead_2_28 (fun k_28 => ?_)
      refine x_getC0 B (k := 0) hT rfl rfl xc_0 (by decide) k_28 (Or.inr q395) (fun _ h => h) dX2_isAhead_2_31 (fun k_31 => ?_)
      refine x_iload_n B dX2_isAhead_2_34 rfl ?_
      refine x_goP (x_rV B k_31 (show x_cl[1]? = some _ from rfl) (c_J2_get hT (by assumption) (by omega) ⟨by omega, by omega⟩) (lw_V q371 q372 q373 q113 q374) hv_J2_get ⟨by decide, by decide⟩ ⟨by decide, by decide⟩ rfl rfl (by simp [x_cr, x_c1, x_c2]) dX2_isAhead_2_35) ?_
      refine x_cast B (hl _ (by omega) (by omega)) (show x_cl[8]? = some _ from rfl) q385 dX2_isAhead_2_38 ?_
      refine x_astw_7 B dX2_isAhead_2_41 (by first | rfl | exact x_cr _ _) ?_
      refine x_aload_n B dX2_isAhead_2_43 rfl ?_
      refine x_getC0 B (k := 4) hT rfl rfl xc_2 (by decide) hm (Or.inl q254) (fun _ h => h) dX2_isAhead_2_44 (fun k_44 => ?_)
      refine x_getC0 B (k := 0) hT rfl rfl xc_0 (by decide) k_44 (Or.inr q395) (fun _ h => h) dX2_isAhead_2_47 (fun k_47 => ?_)
      refine x_iload B dX2_isAhead_2_50 rfl ?_
      refine x_goP (x_rV B k_47 (show x_cl[1]? = some _ from rfl) (c_J2_get hT (by assumption) (by omega) ⟨by omega, by omega⟩) (lw_V q371 q372 q373 q113 q374) hv_J2_get ⟨by decide, by decide⟩ ⟨by decide, by decide⟩ rfl rfl (by simp [x_cr, x_c1, x_c2]) dX2_isAhead_2_52) ?_
      refine x_cast B (hl _ (by omega) (by omega)) (show x_cl[8]? = some _ from rfl) q385 dX2_isAhead_2_55 ?_
      refine x_astw_8 B dX2_isAhead_2_58 (by first | rfl | exact x_cr _ _) ?_
      refine x_aload B dX2_isAhead_2_60 rfl ?_
      refine x_getI B (k := 0) 0 rfl rfl xc_8 (by decide) (hl _ (by omega) (by omega)) (Or.inr q517) (fun _ h => h) dX2_isAhead_2_62 (fun r_62 => ?_)
      refine x_aload B dX2_isAhead_2_65 rfl ?_
      refine x_getI B (k := 0) 0 rfl rfl xc_8 (by decide) (hl _ (by omega) (by omega)) (Or.inr q517) (fun _ h => h) dX2_isAhead_2_67 (fun r_67 => ?_)
      refine x_icmp_lt B (tgt := 99) dX2_isAhead_2_70 (by decide) ⟨by omega, by omega⟩ ⟨by omega, by omega⟩ (fun h_70 => ?_) (fun h_70 => ?_)
      · refine x_iconst B dX2_isAhead_2_99 ?_
        refine x_goto B (tgt := 104) dX2_isAhead_2_100 (by decide) ?_
        refine x_zret B (fun _ _ h => h) ⟨by omega, by omega⟩ ?_ dX2_isAhead_2_104
        exact ⟨congrArg (fun z => some (vi z)) (by simp only [m_ah, c_li, m_li, c_body, c_lot, if_pos ha, if_pos hb]; grind), rfl⟩
      · refine x_aload B dX2_isAhead_2_73 rfl ?_
        refine x_getI B (k := 0) 0 rfl rfl xc_8 (by decide) (hl _ (by omega) (by omega)) (Or.inr q517) (fun _ h => h) dX2_isAhead_2_75 (fun r_75 => ?_)
        refine x_aload B dX2_isAhead_2_78 rfl ?_
        refine x_getI B (k := 0) 0 rfl rfl xc_8 (by decide) (hl _ (by omega) (by omega)) (Or.inr q517) (fun _ h => h) dX2_isAhead_2_80 (fun r_80 => ?_)
        refine x_icmp_ne B (tgt := 103) dX2_isAhead_2_83 (by decide) ⟨by omega, by omega⟩ ⟨by omega, by omega⟩ (fun h_83 => ?_) (fun h_83 => ?_)
        · refine x_iconst B dX2_isAhead_2_103 ?_
          refine x_zret B (fun _ _ h => h) ⟨by omega, by omega⟩ ?_ dX2_isAhead_2_104
          exact ⟨congrArg (fun z => some (vi z)) (by simp only [m_ah, c_li, m_li, c_body, c_lot, if_pos ha, if_pos hb]; grind), rfl⟩
        · refine x_aload B dX2_isAhead_2_86 rfl ?_
          refine x_getI B (k := 1) 1 rfl rfl xc_8 (by decide) (hl _ (by omega) (by omega)) (Or.inr q519) (fun _ h => h) dX2_isAhead_2_88 (fun r_88 => ?_)
          refine x_aload B dX2_isAhead_2_91 rfl ?_
          refine x_getI B (k := 1) 1 rfl rfl xc_8 (by decide) (hl _ (by omega) (by omega)) (Or.inr q519) (fun _ h => h) dX2_isAhead_2_93 (fun r_93 => ?_)
          refine x_icmp_ge B (tgt := 103) dX2_isAhead_2_96 (by decide) ⟨by omega, by omega⟩ ⟨by omega, by omega⟩ (fun h_96 => ?_) (fun h_96 => ?_)
          · refine x_iconst B dX2_isAhead_2_103 ?_
            refine x_zret B (fun _ _ h => h) ⟨by omega, by omega⟩ ?_ dX2_isAhead_2_104
            exact ⟨congrArg (fun z => some (vi z)) (by simp only [m_ah, c_li, m_li, c_body, c_lot, if_pos ha, if_pos hb]; grind), rfl⟩
          · refine x_iconst B dX2_isAhead_2_99 ?_
            refine x_goto B (tgt := 104) dX2_isAhead_2_100 (by decide) ?_
            refine x_zret B (fun _ _ h => h) ⟨by omega, by omega⟩ ?_ dX2_isAhead_2_104
            exact ⟨congrArg (fun z => some (vi z)) (by simp only [m_ah, c_li, m_li, c_body, c_lot, if_pos ha, if_pos hb]; grind), rfl⟩
    · refine x_iload_n B dX2_isAhead_2_15 rfl ?_
      refine x_iload B dX2_isAhead_2_16 rfl ?_
      refine x_icmp_le B (tgt := 25) dX2_isAhead_2_18 (by decide) ⟨by omega, by omega⟩ ⟨by omega, by omega⟩ (fun h_18 => ?_) (fun h_18 => ?_)
      · refine x_iconst B dX2_isAhead_2_25 ?_
        refine x_zret B (fun _ _ h => h) ⟨by omega, by omega⟩ ?_ dX2_isAhead_2_26
        exact ⟨congrArg (fun z => some (vi z)) (by simp only [m_ah, c_li, m_li, c_body, c_lot, if_pos ha, if_pos hb]; grind), rfl⟩
      · refine x_iconst B dX2_isAhead_2_21 ?_
        refine x_goto B (tgt := 26) dX2_isAhead_2_22 (by decide) ?_
        refine x_zret B (fun _ _ h => h) ⟨by omega, by omega⟩ ?_ dX2_isAhead_2_26
        exact ⟨congrArg (fun z => some (vi z)) (by simp only [m_ah, c_li, m_li, c_body, c_lot, if_pos ha, if_pos hb]; grind), rfl⟩
  · refine x_iload B dX2_isAhead_2_6 rfl ?_
    refine x_zret B (fun _ _ h => h) ⟨by omega, by omega⟩ ?_ dX2_isAhead_2_8
    exact ⟨congrArg (fun z => some (vi z)) (by simp only [m_ah, c_li, m_li, c_body, c_lot, if_pos ha, if_pos hb]; grind), rfl⟩
theorem m_sum_r {n : Int} {M : x_X} (h : m_W n M) {l : Int} (h1 : 0 ≤ l) (h2 : l < n) : 0 ≤ m_sum M l ∧ m_sum M l ≤ 120 := by
  have := h.2.1 l h1 h2
  unfold m_sum
  split <;> omega
theorem c_sum {X : x_X} {mo l : Int} (hl : 0 ≤ l ∧ l < X 1 2) : s_sum X (mo + 1 + 1 + 2 * l) = m_sum (c_M X mo) l := by
  unfold s_sum m_sum
  rw [c_M_s hl (by omega), c_M_b hl (by omega), c_M_b hl (by omega), c_M_b hl (by omega)]
  rfl
theorem c_X2_isAhead {l : Launch} {E : x_E} {κ : x_Ka} {X : x_X} {mo i j : Int} (hI : n_I κ X) (hm : κ mo = some (.inl (2, 1))) (hW : m_W (X 1 2) (c_M X mo)) (ha : 0 ≤ i ∧ i < X 1 2) (hb : 0 ≤ j ∧ j < X 1 2) : x_Pu l yX2_isAhead cX2_isAhead 3 (some .boolean) 4 E κ X [x_rf E mo, vi i, vi j] (vi (m_ahd (c_li X) (c_M X mo) i j)) := by
  refine x_Met.of [(false, x_rf E mo), (false, vi i), (false, vi j)] [some (x_rf E mo), some (vi i), some (vi j)] 0 (by decide) rfl rfl ⟨x_cr E (mo), rfl, rfl, trivial⟩ rfl rfl ?_
  intro p e s m args below meth c hargs hin B
  obtain ⟨hT, h0, hn, hl, hla⟩ := id hI
  have q1 := m_sum_r hW ha.1 ha.2
  have q2 := m_sum_r hW hb.1 hb.2
  have e1 := c_sum (mo := mo) ha
  have e2 := c_sum (mo := mo) hb
  refine x_aload_n B dX2_isAhead_0 rfl ?_
  refine x_iload_n B dX2_isAhead_1 rfl ?_
  refine x_aload_n B dX2_isAhead_2 rfl ?_
  refine x_getC1 B (k := 0) hT rfl rfl xc_2 (by decide) hm (Or.inl q242) (fun _ h => h) dX2_isAhead_3 (fun k_3 => ?_)
  refine x_iload_n B dX2_isAhead_6 rfl ?_
  refine x_aaldC B (t := 10) hT k_3 rfl rfl rfl rfl ⟨by omega, by omega⟩ dX2_isAhead_7 (fun k_7 => ?_)
  refine x_goP (x_rV B k_7 (show x_cl[3]? = some _ from rfl) (c_X3_sum hT (by assumption)) (lw_V q925 q790 q791 q115 q792) hv_X3_sum ⟨by decide, by decide⟩ ⟨by decide, by decide⟩ rfl rfl (by simp [x_cr, x_c1, x_c2]) dX2_isAhead_8) ?_
  refine x_aload_n B dX2_isAhead_11 rfl ?_
  refine x_getC1 B (k := 0) hT rfl rfl xc_2 (by decide) hm (Or.inl q242) (fun _ h => h) dX2_isAhead_12 (fun k_12 => ?_)
  refine x_iload_n B dX2_isAhead_15 rfl ?_
  refine x_aaldC B (t := 10) hT k_12 rfl rfl rfl rfl ⟨by omega, by omega⟩ dX2_isAhead_16 (fun k_16 => ?_)
  refine x_getZ B (k := 7) 7 rfl rfl xc_3 (by decide) k_16 (Or.inr q219) (fun _ h => h) dX2_isAhead_17 (fun r_17 => ?_)
  refine x_iload_n B dX2_isAhead_20 rfl ?_
  refine x_aload_n B dX2_isAhead_21 rfl ?_
  refine x_getC1 B (k := 0) hT rfl rfl xc_2 (by decide) hm (Or.inl q242) (fun _ h => h) dX2_isAhead_22 (fun k_22 => ?_)
  refine x_iload_n B dX2_isAhead_25 rfl ?_
  refine x_aaldC B (t := 10) hT k_22 rfl rfl rfl rfl ⟨by omega, by omega⟩ dX2_isAhead_26 (fun k_26 => ?_)
  refine x_goP (x_rV B k_26 (show x_cl[3]? = some _ from rfl) (c_X3_sum hT (by assumption)) (lw_V q925 q790 q791 q115 q792) hv_X3_sum ⟨by decide, by decide⟩ ⟨by decide, by decide⟩ rfl rfl (by simp [x_cr, x_c1, x_c2]) dX2_isAhead_27) ?_
  refine x_aload_n B dX2_isAhead_30 rfl ?_
  refine x_getC1 B (k := 0) hT rfl rfl xc_2 (by decide) hm (Or.inl q242) (fun _ h => h) dX2_isAhead_31 (fun k_31 => ?_)
  refine x_iload_n B dX2_isAhead_34 rfl ?_
  refine x_aaldC B (t := 10) hT k_31 rfl rfl rfl rfl ⟨by omega, by omega⟩ dX2_isAhead_35 (fun k_35 => ?_)
  refine x_getZ B (k := 7) 7 rfl rfl xc_3 (by decide) k_35 (Or.inr q219) (fun _ h => h) dX2_isAhead_36 (fun r_36 => ?_)
  refine x_goP (x_rV B hm (show x_cl[2]? = some _ from rfl) (c_X2_isAhead_2 hI (by assumption) ⟨by omega, by omega⟩ ⟨by omega, by omega⟩ ⟨by omega, by omega⟩ ⟨by omega, by omega⟩ ⟨by omega, by omega⟩ ⟨by omega, by omega⟩) (lw_V q926 q927 q928 q114 q929) hv_X2_isAhead_2 ⟨by decide, by decide⟩ ⟨by decide, by decide⟩ rfl rfl (by simp [x_cr, x_c1, x_c2]) dX2_isAhead_39) ?_
  refine x_zret B (fun _ _ h => h) (m_ah_r (m_li_r _ _ _ _) r_36) ?_ dX2_isAhead_42
  exact ⟨congrArg (fun z => some (vi z)) (by unfold m_ahd; rw [c_M_s ha (by omega), c_M_s hb (by omega), ← e1, ← e2]), rfl⟩
theorem c_X2_aheadOf {l : Launch} {E : x_E} {κ : x_Ka} {X : x_X} {mo i : Int} (hI : n_I κ X) (hm : κ mo = some (.inl (2, 1))) (hW : m_W (X 1 2) (c_M X mo)) (ha : 0 ≤ i ∧ i < X 1 2) : x_Pu l yX2_aheadOf cX2_aheadOf 4 (some .int) 5 E κ X [x_rf E mo, vi i] (vi (m_cnt (c_li X) (c_M X mo) i (X 1 2).toNat)) := by
  refine x_Met.of [(false, x_rf E mo), (false, vi i)] [some (x_rf E mo), some (vi i), none, none] 2 (by decide) rfl rfl ⟨x_cr E (mo), rfl, trivial⟩ rfl rfl ?_
  intro p e s m args below meth c hargs hin B
  obtain ⟨hT, h0, hn, hl, hla⟩ := id hI
  have lp_4 : ∀ (n : Nat) (k : Int), (0 ≤ k ∧ k ≤ X 1 2) → ((7 - k).toNat < n) → x_G p l e (x_rm 5 0 0) s m args below meth c 4 E 0 0 (MQ below (x_Q E κ (fun v_ X_ => v_ = some (vi (m_cnt (c_li X) (c_M X mo) i (X 1 2).toNat)) ∧ X_ = X)) args s 0 0 (fun q => E.1 ≤ q)) κ 4 [some (x_rf E mo), some (vi i), some (vi (m_cnt (c_li X) (c_M X mo) i k.toNat)), some (vi k)] [] X := by
    intro n
    induction n with
    | zero => intro k hi hme; exfalso; omega
    | succ n ih =>
      intro k hi hme
      have hcs := m_cnt_s (c_li X) (c_M X mo) i hi.1
      have hcr := m_cnt_r (c_li X) (c_M X mo) i k.toNat
      refine x_iload_n B dX2_aheadOf_4 rfl ?_
      refine x_aload_n B dX2_aheadOf_5 rfl ?_
      refine x_getC0 B (k := 4) hT rfl rfl xc_2 (by decide) hm (Or.inl q254) (fun _ h => h) dX2_aheadOf_6 (fun k_6 => ?_)
      refine x_getC0 B (k := 0) hT rfl rfl xc_0 (by decide) k_6 (Or.inr q395) (fun _ h => h) dX2_aheadOf_9 (fun k_9 => ?_)
      refine x_goP (x_rV B k_9 (show x_cl[1]? = some _ from rfl) (c_J2_size hT (by assumption)) (lw_V q363 q364 q365 q113 q366) hv_J2_size ⟨by decide, by decide⟩ ⟨by decide, by decide⟩ rfl rfl (by simp [x_cr, x_c1, x_c2]) dX2_aheadOf_12) ?_
      refine x_icmp_ge B (tgt := 49) dX2_aheadOf_15 (by decide) ⟨by omega, by omega⟩ ⟨by omega, by omega⟩ (fun h_15 => ?_) (fun h_15 => ?_)
      · obtain rfl : k = X 1 2 := by omega
        refine x_iload_n B dX2_aheadOf_49 rfl ?_
        refine x_iret B (fun _ _ h => h) ?_ dX2_aheadOf_50
        exact ⟨rfl, rfl⟩
      · refine x_iload_n B dX2_aheadOf_18 rfl ?_
        refine x_iload_n B dX2_aheadOf_19 rfl ?_
        refine x_iload_n B dX2_aheadOf_20 rfl ?_
        refine x_icmp_eq B (tgt := 37) dX2_aheadOf_21 (by decide) ⟨by omega, by omega⟩ ⟨by omega, by omega⟩ (fun h_21 => ?_) (fun h_21 => ?_)
        · refine x_iconst B dX2_aheadOf_37 ?_
          refine x_goP (x_rSN B (c_X1_bit ⟨by omega, by omega⟩) q930 q787 q110 q788 hd_X1_bit ⟨by decide, by decide⟩ ⟨by decide, by decide⟩ rfl rfl (by simp [x_cr, x_c1, x_c2]) dX2_aheadOf_38) ?_
          refine x_iadd B dX2_aheadOf_41 ?_
          refine x_ist_2 B dX2_aheadOf_42 (by first | rfl | exact x_cr _ _) ?_
          refine x_iinc_3 B dX2_aheadOf_43 (by first | rfl | exact x_cr _ _) ?_
          refine x_goto B (tgt := 4) dX2_aheadOf_46 (by decide) ?_
          first
          | rw [show m_cnt (c_li X) (c_M X mo) i k.toNat + 1 = m_cnt (c_li X) (c_M X mo) i (k + 1).toNat by rw [hcs, if_pos ⟨by omega, by assumption⟩]]
          | rw [show m_cnt (c_li X) (c_M X mo) i k.toNat + 0 = m_cnt (c_li X) (c_M X mo) i (k + 1).toNat by rw [hcs, if_neg (fun q => by first | exact q.1 (by assumption) | exact q.2 (by assumption))]]
          exact ih _ ⟨by omega, by omega⟩ (by omega)
        · refine x_aload_n B dX2_aheadOf_24 rfl ?_
          refine x_iload_n B dX2_aheadOf_25 rfl ?_
          refine x_iload_n B dX2_aheadOf_26 rfl ?_
          refine x_goP (x_rV B hm (show x_cl[2]? = some _ from rfl) (c_X2_isAhead hI (by assumption) (by assumption) ⟨by omega, by omega⟩ ⟨by omega, by omega⟩) (lw_V q921 q922 q923 q114 q924) hv_X2_isAhead ⟨by decide, by decide⟩ ⟨by decide, by decide⟩ rfl rfl (by simp [x_cr, x_c1, x_c2]) dX2_aheadOf_27) ?_
          have z1 : 0 ≤ m_ahd (c_li X) (c_M X mo) k i ∧ m_ahd (c_li X) (c_M X mo) k i ≤ 1 := by unfold m_ahd; exact m_ah_r (m_li_r _ _ _ _) ((hW.2.1 i ha.1 ha.2).2.2.2.2.2.1)
          refine x_if_eq B (tgt := 37) dX2_aheadOf_30 (by decide) ⟨by omega, by omega⟩ (fun h_30 => ?_) (fun h_30 => ?_)
          · refine x_iconst B dX2_aheadOf_37 ?_
            refine x_goP (x_rSN B (c_X1_bit ⟨by omega, by omega⟩) q930 q787 q110 q788 hd_X1_bit ⟨by decide, by decide⟩ ⟨by decide, by decide⟩ rfl rfl (by simp [x_cr, x_c1, x_c2]) dX2_aheadOf_38) ?_
            refine x_iadd B dX2_aheadOf_41 ?_
            refine x_ist_2 B dX2_aheadOf_42 (by first | rfl | exact x_cr _ _) ?_
            refine x_iinc_3 B dX2_aheadOf_43 (by first | rfl | exact x_cr _ _) ?_
            refine x_goto B (tgt := 4) dX2_aheadOf_46 (by decide) ?_
            first
            | rw [show m_cnt (c_li X) (c_M X mo) i k.toNat + 1 = m_cnt (c_li X) (c_M X mo) i (k + 1).toNat by rw [hcs, if_pos ⟨by omega, by assumption⟩]]
            | rw [show m_cnt (c_li X) (c_M X mo) i k.toNat + 0 = m_cnt (c_li X) (c_M X mo) i (k + 1).toNat by rw [hcs, if_neg (fun q => by first | exact q.1 (by assumption) | exact q.2 (by assumption))]]
            exact ih _ ⟨by omega, by omega⟩ (by omega)
          · refine x_iconst B dX2_aheadOf_33 ?_
            refine x_goto B (tgt := 38) dX2_aheadOf_34 (by decide) ?_
            refine x_goP (x_rSN B (c_X1_bit ⟨by omega, by omega⟩) q930 q787 q110 q788 hd_X1_bit ⟨by decide, by decide⟩ ⟨by decide, by decide⟩ rfl rfl (by simp [x_cr, x_c1, x_c2]) dX2_aheadOf_38) ?_
            refine x_iadd B dX2_aheadOf_41 ?_
            refine x_ist_2 B dX2_aheadOf_42 (by first | rfl | exact x_cr _ _) ?_
            refine x_iinc_3 B dX2_aheadOf_43 (by first | rfl | exact x_cr _ _) ?_
            refine x_goto B (tgt := 4) dX2_aheadOf_46 (by decide) ?_
            first
            | rw [show m_cnt (c_li X) (c_M X mo) i k.toNat + 1 = m_cnt (c_li X) (c_M X mo) i (k + 1).toNat by rw [hcs, if_pos ⟨by omega, by assumption⟩]]
            | rw [show m_cnt (c_li X) (c_M X mo) i k.toNat + 0 = m_cnt (c_li X) (c_M X mo) i (k + 1).toNat by rw [hcs, if_neg (fun q => by first | exact q.1 (by assumption) | exact q.2 (by assumption))]]
            exact ih _ ⟨by omega, by omega⟩ (by omega)
  refine x_iconst B dX2_aheadOf_0 ?_
  refine x_ist_2 B dX2_aheadOf_1 (by first | rfl | exact x_cr _ _) ?_
  refine x_iconst B dX2_aheadOf_2 ?_
  refine x_ist_3 B dX2_aheadOf_3 (by first | rfl | exact x_cr _ _) ?_
  refine lp_4 _ _ ?_ (Nat.lt_succ_self _)
  exact ⟨by omega, by omega⟩
theorem m_fp_s {g : Int → Int} {k : Int} {f : Nat} {l : Int} (h : g l ≠ k) : m_fp g k (f + 1) l = m_fp g k f (l + 1) := by
  conv => lhs; unfold m_fp
  rw [if_neg h]
theorem m_fp_e {g : Int → Int} {k : Int} {f : Nat} {l : Int} (h : g l = k) : m_fp g k f l = l := by
  cases f with
  | zero => rfl
  | succ f => unfold m_fp; rw [if_pos h]
theorem c_X2_atPlace {l : Launch} {E : x_E} {κ : x_Ka} {X : x_X} {mo k : Int} (hI : n_I κ X) (hm : κ mo = some (.inl (2, 1))) (hW : m_W (X 1 2) (c_M X mo)) (hx : xR k) (he : ∃ l, 0 ≤ l ∧ l < X 1 2 ∧ m_cnt (c_li X) (c_M X mo) l (X 1 2).toNat = k) : x_Pu l yX2_atPlace cX2_atPlace 3 (some .int) 6 E κ X [x_rf E mo, vi k] (vi (m_fp (fun l => m_cnt (c_li X) (c_M X mo) l (X 1 2).toNat) k 6 0)) := by
  refine x_Met.of [(false, x_rf E mo), (false, vi k)] [some (x_rf E mo), some (vi k), none] 1 (by decide) rfl rfl ⟨x_cr E (mo), rfl, trivial⟩ rfl rfl ?_
  intro p e s m args below meth c hargs hin B
  obtain ⟨hT, h0, hn, hl, hla⟩ := id hI
  obtain ⟨w, w1, w2, w3⟩ := he
  have lp_2 : ∀ (n : Nat) (l0 : Int) (f : Nat), ((0 ≤ l0 ∧ l0 ≤ w ∧ (f : Int) = 6 - l0) ∧ m_fp (fun l => m_cnt (c_li X) (c_M X mo) l (X 1 2).toNat) k 6 0 = m_fp (fun l => m_cnt (c_li X) (c_M X mo) l (X 1 2).toNat) k f l0) → ((7 - l0).toNat < n) → x_G p l e (x_rm 6 0 0) s m args below meth c 3 E 0 0 (MQ below (x_Q E κ (fun v_ X_ => v_ = some (vi (m_fp (fun l => m_cnt (c_li X) (c_M X mo) l (X 1 2).toNat) k 6 0)) ∧ X_ = X)) args s 0 0 (fun q => E.1 ≤ q)) κ 2 [some (x_rf E mo), some (vi k), some (vi l0)] [] X := by
    intro n
    induction n with
    | zero => intro l0 f hi hme; exfalso; omega
    | succ n ih =>
      intro l0 f hi hme
      obtain ⟨h1, h2⟩ := hi
      have hcr := m_cnt_r (c_li X) (c_M X mo) l0 (X 1 2).toNat
      refine x_aload_n B dX2_atPlace_2 rfl ?_
      refine x_iload_n B dX2_atPlace_3 rfl ?_
      refine x_goP (x_rV B hm (show x_cl[2]? = some _ from rfl) (c_X2_aheadOf hI (by assumption) (by assumption) ⟨by omega, by omega⟩) (lw_V q917 q918 q919 q114 q920) hv_X2_aheadOf ⟨by decide, by decide⟩ ⟨by decide, by decide⟩ rfl rfl (by simp [x_cr, x_c1, x_c2]) dX2_atPlace_4) ?_
      refine x_iload_n B dX2_atPlace_7 rfl ?_
      refine x_icmp_eq B (tgt := 17) dX2_atPlace_8 (by decide) ⟨by omega, by omega⟩ ⟨by omega, by omega⟩ (fun h_8 => ?_) (fun h_8 => ?_)
      · refine x_iload_n B dX2_atPlace_17 rfl ?_
        refine x_iret B (fun _ _ h => h) ?_ dX2_atPlace_18
        exact ⟨congrArg (fun z => some (vi z)) (by rw [h2, m_fp_e h_8]), rfl⟩
      · refine x_iinc_2 B dX2_atPlace_11 (by first | rfl | exact x_cr _ _) ?_
        refine x_goto B (tgt := 2) dX2_atPlace_14 (by decide) ?_
        have hne : l0 ≠ w := fun q => by rw [q] at h_8; exact h_8 w3
        obtain ⟨f, rfl⟩ : ∃ g, f = g + 1 := ⟨f - 1, by omega⟩
        exact ih _ f ⟨⟨by omega, by omega, by omega⟩, by rw [h2, m_fp_s h_8]⟩ (by omega)
  refine x_iconst B dX2_atPlace_0 ?_
  refine x_ist_2 B dX2_atPlace_1 (by first | rfl | exact x_cr _ _) ?_
  exact lp_2 _ 0 6 ⟨⟨by omega, by omega, by omega⟩, rfl⟩ (Nat.lt_succ_self _)
