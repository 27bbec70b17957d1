/-! ===== the twin's duel ===== -/
def g8 (κ : x_Ka) (X M : x_X) (li : Int → Int → Int) (O : Int → Int → Int → Int → Int) (lot : Int → Int) (a b : Int) : Prop := t_C κ X ∧ (0 ≤ a ∧ a < X 64 3) ∧ (0 ≤ b ∧ b < X 64 3) ∧ a ≠ b ∧ (X 64 35 = a ∧ X 64 36 = b) ∧ (M (-1) 1 = 2 ∧ 0 < M a 3 ∧ 0 < M b 3) ∧ t_M X = M ∧ t_li X = li ∧ t_O X = O ∧ t_lot X = lot
theorem g8.fr {κ : x_Ka} {X Y M : x_X} {li : Int → Int → Int} {O : Int → Int → Int → Int → Int} {lot : Int → Int} {a b : Int} (h : g8 κ X M li O lot a b) (hh : h_eq X Y) (e1 : Y 64 35 = X 64 35) (e2 : Y 64 36 = X 64 36) : g8 κ Y M li O lot a b := by
  obtain ⟨h1, h2, h3, h4, h5, h6, h7, h8, h9, h10⟩ := h
  obtain ⟨e3, eM, el, eli, ep, eO, eG⟩ := hh.v
  exact ⟨hh.C h1, by rw [e3]; exact h2, by rw [e3]; exact h3, h4, by rw [e1, e2]; exact h5, h6, eM.trans h7, eli.trans h8, eO.trans h9, el.trans h10⟩
theorem g8.s {κ : x_Ka} {X M : x_X} {li : Int → Int → Int} {O : Int → Int → Int → Int → Int} {lot : Int → Int} {a b : Int} (h : g8 κ X M li O lot a b) {sd i : Int} (hl2 : (sd = 1 ∧ i = a) ∨ (sd = 0 ∧ i = b)) : (0 ≤ i ∧ i < X 64 3) ∧ d_l a b sd = i ∧ M i 7 = 0 ∧ (0 ≤ M i 12 ∧ M i 12 < M i 3) ∧ M i 3 ≤ 40 ∧ (0 ≤ M i 10 ∧ M i 10 ≤ 40) ∧ (0 ≤ M i 11 ∧ M i 11 ≤ 40) ∧ (0 ≤ M i 2 ∧ M i 2 ≤ 3) ∧ (0 ≤ M i 5 ∧ M i 5 ≤ 2) := by
  obtain ⟨h1, h2, h3, h4, h5, h6, h7, h8, h9, h10⟩ := h
  have hi : 0 ≤ i ∧ i < X 64 3 := by omega
  have h3i : 0 < M i 3 := by rcases hl2 with q | q <;> rw [q.2] <;> omega
  have hW := h1.2.2.2.1
  rw [h7] at hW
  have w1 := hW.1
  have w2 := hW.2.1 i hi.1 hi.2
  have w3 := hW.2.2 i hi.1 hi.2
  have w4 := w3.2.2.2.2 h3i
  rw [h6.1] at w4
  refine ⟨hi, by unfold d_l; split <;> omega, ?_, ⟨by omega, ?_⟩, by omega, by omega, by omega, by omega, by omega⟩
  · have := w3.1; omega
  · have e : M i (10 + 2) = M i 12 := rfl
    omega
theorem g8.R {κ : x_Ka} {X M : x_X} {li : Int → Int → Int} {O : Int → Int → Int → Int → Int} {lot : Int → Int} {a b : Int} (h : g8 κ X M li O lot a b) : d_R (d_od O M a b) (d_ed li M a b) := by
  refine ⟨fun sd x => ?_, fun x y => d_ed_r _ _ _ _ _ _⟩
  have hi : 0 ≤ d_l a b sd ∧ d_l a b sd < X 64 3 ∧ 0 ≤ M (d_l a b sd) 2 := by
    by_cases q : sd = 1
    · have := h.s (sd := 1) (i := a) (Or.inl ⟨rfl, rfl⟩); unfold d_l; rw [if_pos q]; omega
    · have := h.s (sd := 0) (i := b) (Or.inr ⟨rfl, rfl⟩); unfold d_l; rw [if_neg q]; omega
  obtain ⟨h1, h2, h3, h4, h5, h6, h7, h8, h9, h10⟩ := h
  unfold d_od
  rw [← h9]
  exact t_O_r (κ := κ) h1.2.2.1 ⟨hi.1, hi.2.1⟩ ⟨by omega, by omega⟩ hi.2.2
theorem c_X8_duelEnds {l : Launch} {E : x_E} {κ : x_Ka} {X : x_X} {M : x_X} {li : Int → Int → Int} {O : Int → Int → Int → Int → Int} {lot : Int → Int} {a b : Int} {x y : Int} (h : g8 κ X M li O lot a b) (hx : 0 ≤ x ∧ x ≤ 40) (hy : 0 ≤ y ∧ y ≤ 40) : x_Pu l yX8_duelEnds cX8_duelEnds 5 (some .int) 2 E κ X [x_rf E 64, vi x, vi y] (vi ((d_ed li M a b) x y)) := by
  refine x_Met.of [(false, x_rf E 64), (false, vi x), (false, vi y)] [some (x_rf E 64), some (vi x), some (vi y), none, none] 2 (by decide) rfl rfl ⟨x_cr E (64), rfl, rfl, trivial⟩ rfl rfl ?_
  intro p e s m args below meth c hargs hin B
  obtain ⟨hC, ha, hb, hne, ⟨e35, e36⟩, ⟨hL2, h3a, h3b⟩, eM, eli, eO, elo⟩ := id h
  obtain ⟨hK, hP, hO, hW, hLa⟩ := id hC
  obtain ⟨hT, h8, hn⟩ := id hK
  have fa := h.s (sd := 1) (i := a) (Or.inl ⟨rfl, rfl⟩)
  have fb := h.s (sd := 0) (i := b) (Or.inr ⟨rfl, rfl⟩)
  have sa : m_sum M a - M a (10 + M (-1) 1) = M a 10 + M a 11 := by unfold m_sum; rw [if_pos fa.2.2.1, hL2]; show M a 10 + M a 11 + M a 12 - M a 12 = _; omega
  have sb : m_sum M b - M b (10 + M (-1) 1) = M b 10 + M b 11 := by unfold m_sum; rw [if_pos fb.2.2.1, hL2]; show M b 10 + M b 11 + M b 12 - M b 12 = _; omega
  have hli : 0 ≤ li a b ∧ li a b ≤ 1 := by rw [← eli]; exact t_li_r X a b
  refine x_iload_n B dX8_duelEnds_0 rfl ?_
  refine x_if_eq B (tgt := 8) dX8_duelEnds_1 (by decide) ⟨by omega, by omega⟩ (fun h_1 => ?_) (fun h_1 => ?_)
  · refine x_iload_n B dX8_duelEnds_8 rfl ?_
    refine x_if_le B (tgt := 18) dX8_duelEnds_9 (by decide) ⟨by omega, by omega⟩ (fun h_9 => ?_) (fun h_9 => ?_)
    · refine x_iconst B dX8_duelEnds_18 ?_
      refine x_iret B (fun _ _ h => h) ?_ dX8_duelEnds_19
      exact ⟨congrArg (fun z => some (vi z)) (by unfold d_ed; first | (rw [if_pos (by omega)]; done) | (rw [if_neg (by omega), if_pos (by omega)]; unfold m_ah; rw [if_neg (by omega)]; done) | (rw [if_neg (show ¬ x = 0 by omega), if_pos (show y = 0 by omega), if_pos (show y = 0 by omega)]; unfold m_ah; rw [if_neg (show ¬ (0 : Int) = 1 by omega), if_pos (by omega)])), rfl⟩
    · refine x_ldcw B (1000000) q1733 (by decide) dX8_duelEnds_12 ?_
      refine x_goto B (tgt := 19) dX8_duelEnds_15 (by decide) ?_
      refine x_iret B (fun _ _ h => h) ?_ dX8_duelEnds_19
      exact ⟨congrArg (fun z => some (vi z)) (by unfold d_ed; first | (rw [if_pos (by omega)]; done) | (rw [if_neg (by omega), if_pos (by omega)]; unfold m_ah; rw [if_neg (by omega)]; done) | (rw [if_neg (show ¬ x = 0 by omega), if_pos (show y = 0 by omega), if_pos (show y = 0 by omega)]; unfold m_ah; rw [if_neg (show ¬ (0 : Int) = 1 by omega), if_pos (by omega)])), rfl⟩
  · refine x_iload_n B dX8_duelEnds_4 rfl ?_
    refine x_if_ne B (tgt := 20) dX8_duelEnds_5 (by decide) ⟨by omega, by omega⟩ (fun h_5 => ?_) (fun h_5 => ?_)
    · refine x_aload_n B dX8_duelEnds_20 rfl ?_
      refine x_aload_n B dX8_duelEnds_21 rfl ?_
      refine x_getI B (k := 35) 35 rfl rfl xc_7 (by decide) h8 (Or.inl q1370) (fun _ h => h) dX8_duelEnds_22 (fun r_22 => ?_)
      rw [e35] at r_22 ⊢
      refine x_goP (x_rV B h8 (show x_cl[7]? = some _ from rfl) (c_X8_sumAhead hK hW ha (by rw [eM]; exact fa.2.2.1) (by rw [eM, hL2]; omega)) (lw_V q1701 q1703 qs78 q122 q1704) hv_X8_sumAhead ⟨by decide, by decide⟩ ⟨by decide, by decide⟩ rfl rfl (by simp [x_cr, x_c1, x_c2]) dX8_duelEnds_25) ?_
      rw [eM, sa]
      refine x_iload_n B dX8_duelEnds_28 rfl ?_
      refine x_iadd B dX8_duelEnds_29 ?_
      refine x_ist_3 B dX8_duelEnds_30 (by first | rfl | exact x_cr _ _) ?_
      refine x_aload_n B dX8_duelEnds_31 rfl ?_
      refine x_aload_n B dX8_duelEnds_32 rfl ?_
      refine x_getI B (k := 36) 36 rfl rfl xc_7 (by decide) h8 (Or.inl q1371) (fun _ h => h) dX8_duelEnds_33 (fun r_33 => ?_)
      rw [e36] at r_33 ⊢
      refine x_goP (x_rV B h8 (show x_cl[7]? = some _ from rfl) (c_X8_sumAhead hK hW hb (by rw [eM]; exact fb.2.2.1) (by rw [eM, hL2]; omega)) (lw_V q1701 q1703 qs78 q122 q1704) hv_X8_sumAhead ⟨by decide, by decide⟩ ⟨by decide, by decide⟩ rfl rfl (by simp [x_cr, x_c1, x_c2]) dX8_duelEnds_36) ?_
      rw [eM, sb]
      refine x_iload_n B dX8_duelEnds_39 rfl ?_
      refine x_iadd B dX8_duelEnds_40 ?_
      refine x_istw_4 B dX8_duelEnds_41 (by first | rfl | exact x_cr _ _) ?_
      refine x_iload_n B dX8_duelEnds_43 rfl ?_
      refine x_iload B dX8_duelEnds_44 rfl ?_
      refine x_icmp_gt B (tgt := 70) dX8_duelEnds_46 (by decide) ⟨by omega, by omega⟩ ⟨by omega, by omega⟩ (fun h_46 => ?_) (fun h_46 => ?_)
      · refine x_ldcw B (1000000) q1733 (by decide) dX8_duelEnds_70 ?_
        refine x_goto B (tgt := 77) dX8_duelEnds_73 (by decide) ?_
        refine x_iret B (fun _ _ h => h) ?_ dX8_duelEnds_77
        exact ⟨congrArg (fun z => some (vi z)) (by unfold d_ed; rw [if_neg (show ¬ x = 0 by omega), if_neg (show ¬ y = 0 by omega), if_neg (show ¬ y = 0 by omega)]; unfold m_ah; rw [if_pos (show (0 : Int) = 0 from rfl)]; first | (exfalso; omega) | (rw [if_neg (show ¬ M a 10 + M a 11 + x = M b 10 + M b 11 + y by omega), if_pos (show M b 10 + M b 11 + y < M a 10 + M a 11 + x by omega), if_pos (show (1 : Int) ≠ 0 by omega)]; done) | (rw [if_neg (show ¬ M a 10 + M a 11 + x = M b 10 + M b 11 + y by omega), if_neg (show ¬ M b 10 + M b 11 + y < M a 10 + M a 11 + x by omega), if_neg (show ¬ (0 : Int) ≠ 0 by omega)]; done) | (rw [if_pos (show M a 10 + M a 11 + x = M b 10 + M b 11 + y by omega)]; first | (rw [if_pos (show li a b ≠ 0 by omega)]; done) | (rw [if_neg (show ¬ li a b ≠ 0 by omega)]; done))), rfl⟩
      · refine x_iload_n B dX8_duelEnds_49 rfl ?_
        refine x_iload B dX8_duelEnds_50 rfl ?_
        refine x_icmp_ne B (tgt := 76) dX8_duelEnds_52 (by decide) ⟨by omega, by omega⟩ ⟨by omega, by omega⟩ (fun h_52 => ?_) (fun h_52 => ?_)
        · refine x_iconst B dX8_duelEnds_76 ?_
          refine x_iret B (fun _ _ h => h) ?_ dX8_duelEnds_77
          exact ⟨congrArg (fun z => some (vi z)) (by unfold d_ed; rw [if_neg (show ¬ x = 0 by omega), if_neg (show ¬ y = 0 by omega), if_neg (show ¬ y = 0 by omega)]; unfold m_ah; rw [if_pos (show (0 : Int) = 0 from rfl)]; first | (exfalso; omega) | (rw [if_neg (show ¬ M a 10 + M a 11 + x = M b 10 + M b 11 + y by omega), if_pos (show M b 10 + M b 11 + y < M a 10 + M a 11 + x by omega), if_pos (show (1 : Int) ≠ 0 by omega)]; done) | (rw [if_neg (show ¬ M a 10 + M a 11 + x = M b 10 + M b 11 + y by omega), if_neg (show ¬ M b 10 + M b 11 + y < M a 10 + M a 11 + x by omega), if_neg (show ¬ (0 : Int) ≠ 0 by omega)]; done) | (rw [if_pos (show M a 10 + M a 11 + x = M b 10 + M b 11 + y by omega)]; first | (rw [if_pos (show li a b ≠ 0 by omega)]; done) | (rw [if_neg (show ¬ li a b ≠ 0 by omega)]; done))), rfl⟩
        · refine x_aload_n B dX8_duelEnds_55 rfl ?_
          refine x_aload_n B dX8_duelEnds_56 rfl ?_
          refine x_getI B (k := 35) 35 rfl rfl xc_7 (by decide) h8 (Or.inl q1370) (fun _ h => h) dX8_duelEnds_57 (fun r_57 => ?_)
          rw [e35] at r_57 ⊢
          refine x_aload_n B dX8_duelEnds_60 rfl ?_
          refine x_getI B (k := 36) 36 rfl rfl xc_7 (by decide) h8 (Or.inl q1371) (fun _ h => h) dX8_duelEnds_61 (fun r_61 => ?_)
          rw [e36] at r_61 ⊢
          refine x_goP (x_rV B h8 (show x_cl[7]? = some _ from rfl) (c_X8_isLighter hK ha hb) (lw_V q1673 q1675 qs74 q122 q1676) hv_X8_isLighter ⟨by decide, by decide⟩ ⟨by decide, by decide⟩ rfl rfl (by simp [x_cr, x_c1, x_c2]) dX8_duelEnds_64) ?_
          rw [eli]
          refine x_if_eq B (tgt := 76) dX8_duelEnds_67 (by decide) ⟨by omega, by omega⟩ (fun h_67 => ?_) (fun h_67 => ?_)
          · refine x_iconst B dX8_duelEnds_76 ?_
            refine x_iret B (fun _ _ h => h) ?_ dX8_duelEnds_77
            exact ⟨congrArg (fun z => some (vi z)) (by unfold d_ed; rw [if_neg (show ¬ x = 0 by omega), if_neg (show ¬ y = 0 by omega), if_neg (show ¬ y = 0 by omega)]; unfold m_ah; rw [if_pos (show (0 : Int) = 0 from rfl)]; first | (exfalso; omega) | (rw [if_neg (show ¬ M a 10 + M a 11 + x = M b 10 + M b 11 + y by omega), if_pos (show M b 10 + M b 11 + y < M a 10 + M a 11 + x by omega), if_pos (show (1 : Int) ≠ 0 by omega)]; done) | (rw [if_neg (show ¬ M a 10 + M a 11 + x = M b 10 + M b 11 + y by omega), if_neg (show ¬ M b 10 + M b 11 + y < M a 10 + M a 11 + x by omega), if_neg (show ¬ (0 : Int) ≠ 0 by omega)]; done) | (rw [if_pos (show M a 10 + M a 11 + x = M b 10 + M b 11 + y by omega)]; first | (rw [if_pos (show li a b ≠ 0 by omega)]; done) | (rw [if_neg (show ¬ li a b ≠ 0 by omega)]; done))), rfl⟩
          · refine x_ldcw B (1000000) q1733 (by decide) dX8_duelEnds_70 ?_
            refine x_goto B (tgt := 77) dX8_duelEnds_73 (by decide) ?_
            refine x_iret B (fun _ _ h => h) ?_ dX8_duelEnds_77
            exact ⟨congrArg (fun z => some (vi z)) (by unfold d_ed; rw [if_neg (show ¬ x = 0 by omega), if_neg (show ¬ y = 0 by omega), if_neg (show ¬ y = 0 by omega)]; unfold m_ah; rw [if_pos (show (0 : Int) = 0 from rfl)]; first | (exfalso; omega) | (rw [if_neg (show ¬ M a 10 + M a 11 + x = M b 10 + M b 11 + y by omega), if_pos (show M b 10 + M b 11 + y < M a 10 + M a 11 + x by omega), if_pos (show (1 : Int) ≠ 0 by omega)]; done) | (rw [if_neg (show ¬ M a 10 + M a 11 + x = M b 10 + M b 11 + y by omega), if_neg (show ¬ M b 10 + M b 11 + y < M a 10 + M a 11 + x by omega), if_neg (show ¬ (0 : Int) ≠ 0 by omega)]; done) | (rw [if_pos (show M a 10 + M a 11 + x = M b 10 + M b 11 + y by omega)]; first | (rw [if_pos (show li a b ≠ 0 by omega)]; done) | (rw [if_neg (show ¬ li a b ≠ 0 by omega)]; done))), rfl⟩
    · refine x_iload_n B dX8_duelEnds_8 rfl ?_
      refine x_if_le B (tgt := 18) dX8_duelEnds_9 (by decide) ⟨by omega, by omega⟩ (fun h_9 => ?_) (fun h_9 => ?_)
      · refine x_iconst B dX8_duelEnds_18 ?_
        refine x_iret B (fun _ _ h => h) ?_ dX8_duelEnds_19
        exact ⟨congrArg (fun z => some (vi z)) (by unfold d_ed; first | (rw [if_pos (by omega)]; done) | (rw [if_neg (by omega), if_pos (by omega)]; unfold m_ah; rw [if_neg (by omega)]; done) | (rw [if_neg (show ¬ x = 0 by omega), if_pos (show y = 0 by omega), if_pos (show y = 0 by omega)]; unfold m_ah; rw [if_neg (show ¬ (0 : Int) = 1 by omega), if_pos (by omega)])), rfl⟩
      · refine x_ldcw B (1000000) q1733 (by decide) dX8_duelEnds_12 ?_
        refine x_goto B (tgt := 19) dX8_duelEnds_15 (by decide) ?_
        refine x_iret B (fun _ _ h => h) ?_ dX8_duelEnds_19
        exact ⟨congrArg (fun z => some (vi z)) (by unfold d_ed; first | (rw [if_pos (by omega)]; done) | (rw [if_neg (by omega), if_pos (by omega)]; unfold m_ah; rw [if_neg (by omega)]; done) | (rw [if_neg (show ¬ x = 0 by omega), if_pos (show y = 0 by omega), if_pos (show y = 0 by omega)]; unfold m_ah; rw [if_neg (show ¬ (0 : Int) = 1 by omega), if_pos (by omega)])), rfl⟩
theorem c_X8_duelBest {l : Launch} {E : x_E} {κ : x_Ka} {X : x_X} {M : x_X} {li : Int → Int → Int} {O : Int → Int → Int → Int → Int} {lot : Int → Int} {a b : Int} {sd i load g : Int} (h : g8 κ X M li O lot a b) (hl2 : (sd = 1 ∧ i = a) ∨ (sd = 0 ∧ i = b)) (hx : M i 3 ≤ load ∧ load ≤ 40) (hg : 0 ≤ g ∧ g ≤ 1) : x_Pu l yX8_duelBest cX8_duelBest 5 (some .int) 1 E κ X [x_rf E 64, vi i, vi load, vi g] (vi (if g = 1 then load else (d_ow M a b) sd)) := by
  refine x_Met.of [(false, x_rf E 64), (false, vi i), (false, vi load), (false, vi g)] [some (x_rf E 64), some (vi i), some (vi load), some (vi g), none] 1 (by decide) rfl rfl ⟨x_cr E (64), rfl, rfl, rfl, trivial⟩ rfl rfl ?_
  intro p e s m args below meth c hargs hin B
  obtain ⟨hC, ha, hb, hne, ⟨e35, e36⟩, ⟨hL2, h3a, h3b⟩, eM, eli, eO, elo⟩ := id h
  obtain ⟨hK, hP, hO, hW, hLa⟩ := id hC
  obtain ⟨hT, h8, hn⟩ := id hK
  have fa := h.s (sd := 1) (i := a) (Or.inl ⟨rfl, rfl⟩)
  have fb := h.s (sd := 0) (i := b) (Or.inr ⟨rfl, rfl⟩)
  have fi := h.s hl2
  have hi := fi.1
  have s12 : t_M X i 12 = X 72 (3 + 10 * i + 9) := t_M_s hi (by decide) (by omega) (by omega)
  have s2 : t_M X i 2 = X 72 (3 + 10 * i + 4) := t_M_s hi (by decide) (by omega) (by omega)
  rw [eM] at s12 s2
  have ew : d_ow M a b sd = M i 12 := by unfold d_ow; rw [fi.2.1]
  refine x_aload_n B dX8_duelBest_0 rfl ?_
  refine x_iload_n B dX8_duelBest_1 rfl ?_
  refine x_bipush B dX8_duelBest_2 (by decide) ?_
  refine x_goP (x_rV B h8 (show x_cl[7]? = some _ from rfl) (c_X8_of hT h8 ⟨by omega, by omega⟩) (lw_V q1525 q1527 qs52 q122 q1528) hv_X8_of ⟨by decide, by decide⟩ ⟨by decide, by decide⟩ rfl rfl (by simp [x_cr, x_c1, x_c2]) dX8_duelBest_4) ?_
  rw [← s12]
  refine x_istw_4 B dX8_duelBest_7 (by first | rfl | exact x_cr _ _) ?_
  refine x_iload_n B dX8_duelBest_9 rfl ?_
  refine x_if_eq B (tgt := 22) dX8_duelBest_10 (by decide) ⟨by omega, by omega⟩ (fun h_10 => ?_) (fun h_10 => ?_)
  · refine x_iload B dX8_duelBest_22 rfl ?_
    refine x_iret B (fun _ _ h => h) ?_ dX8_duelBest_24
    exact ⟨congrArg (fun z => some (vi z)) (by first | (rw [if_pos (show g = 1 by omega)]; omega) | (rw [if_neg (show ¬ g = 1 by omega), ew])), rfl⟩
  · refine x_iload B dX8_duelBest_13 rfl ?_
    refine x_iload_n B dX8_duelBest_15 rfl ?_
    refine x_max B ⟨by omega, by omega⟩ ⟨by omega, by omega⟩ q1584 q666 q130 q667 (by decide) (by simp [x_cr, x_c1, x_c2]) ⟨by decide, by decide⟩ dX8_duelBest_16 ?_
    refine x_goto B (tgt := 24) dX8_duelBest_19 (by decide) ?_
    refine x_iret B (fun _ _ h => h) ?_ dX8_duelBest_24
    exact ⟨congrArg (fun z => some (vi z)) (by first | (rw [if_pos (show g = 1 by omega)]; omega) | (rw [if_neg (show ¬ g = 1 by omega), ew])), rfl⟩
theorem c_X8_duelTry {l : Launch} {E : x_E} {κ : x_Ka} {X : x_X} {M : x_X} {li : Int → Int → Int} {O : Int → Int → Int → Int → Int} {lot : Int → Int} {a b : Int} {sd i load gv fv : Int} (h : g8 κ X M li O lot a b) (hl2 : (sd = 1 ∧ i = a) ∨ (sd = 0 ∧ i = b)) (hx : xR load) (hg : 0 ≤ gv ∧ gv ≤ 1000000) (hv : 0 ≤ fv ∧ fv ≤ 1000000) : x_Pu l yX8_duelTry cX8_duelTry 5 (some .int) 2 E κ X [x_rf E 64, vi i, vi load, vi gv, vi fv] (vi (p_mix ((d_od O M a b) sd load) gv fv)) := by
  refine x_Met.of [(false, x_rf E 64), (false, vi i), (false, vi load), (false, vi gv), (false, vi fv)] [some (x_rf E 64), some (vi i), some (vi load), some (vi gv), some (vi fv)] 0 (by decide) rfl rfl ⟨x_cr E (64), rfl, rfl, rfl, rfl, trivial⟩ rfl rfl ?_
  intro p e s m args below meth c hargs hin B
  obtain ⟨hC, ha, hb, hne, ⟨e35, e36⟩, ⟨hL2, h3a, h3b⟩, eM, eli, eO, elo⟩ := id h
  obtain ⟨hK, hP, hO, hW, hLa⟩ := id hC
  obtain ⟨hT, h8, hn⟩ := id hK
  have fa := h.s (sd := 1) (i := a) (Or.inl ⟨rfl, rfl⟩)
  have fb := h.s (sd := 0) (i := b) (Or.inr ⟨rfl, rfl⟩)
  have fi := h.s hl2
  have hi := fi.1
  have s12 : t_M X i 12 = X 72 (3 + 10 * i + 9) := t_M_s hi (by decide) (by omega) (by omega)
  have s2 : t_M X i 2 = X 72 (3 + 10 * i + 4) := t_M_s hi (by decide) (by omega) (by omega)
  rw [eM] at s12 s2
  have ew : d_ow M a b sd = M i 12 := by unfold d_ow; rw [fi.2.1]
  have hR := h.R
  have ho := hR.1 sd load
  have eo : d_od O M a b sd load = O i 2 load (M i 2) := by unfold d_od; rw [fi.2.1]
  refine x_aload_n B dX8_duelTry_0 rfl ?_
  refine x_iload_n B dX8_duelTry_1 rfl ?_
  refine x_iconst B dX8_duelTry_2 ?_
  refine x_iload_n B dX8_duelTry_3 rfl ?_
  refine x_aload_n B dX8_duelTry_4 rfl ?_
  refine x_iload_n B dX8_duelTry_5 rfl ?_
  refine x_iconst B dX8_duelTry_6 ?_
  refine x_goP (x_rV B h8 (show x_cl[7]? = some _ from rfl) (c_X8_of hT h8 ⟨by omega, by omega⟩) (lw_V q1525 q1527 qs52 q122 q1528) hv_X8_of ⟨by decide, by decide⟩ ⟨by decide, by decide⟩ rfl rfl (by simp [x_cr, x_c1, x_c2]) dX8_duelTry_7) ?_
  rw [← s2]
  refine x_goP (x_rV B h8 (show x_cl[7]? = some _ from rfl) (c_X8_oddsOf hK hO hi ⟨by omega, by omega⟩ hx ⟨by omega, by omega⟩) (lw_V q1576 q1578 qs58 q122 q1579) hv_X8_oddsOf ⟨by decide, by decide⟩ ⟨by decide, by decide⟩ rfl rfl (by simp [x_cr, x_c1, x_c2]) dX8_duelTry_10) ?_
  rw [eO, ← eo]
  refine x_iload_n B dX8_duelTry_13 rfl ?_
  refine x_iload B dX8_duelTry_14 rfl ?_
  refine x_goP (x_rS B (c_X8_expected ho hg hv) (lw_S q1713 q1714 q122 q1715) hd_X8_expected ⟨by decide, by decide⟩ ⟨by decide, by decide⟩ rfl rfl (by simp [x_cr, x_c1, x_c2]) dX8_duelTry_16) ?_
  refine x_iret B (fun _ _ h => h) ?_ dX8_duelTry_19
  exact ⟨rfl, rfl⟩
theorem c_X8_duelLast {l : Launch} {E : x_E} {κ : x_Ka} {X : x_X} {M : x_X} {li : Int → Int → Int} {O : Int → Int → Int → Int → Int} {lot : Int → Int} {a b : Int} {sd i load has_ : Int} (h : g8 κ X M li O lot a b) (hl2 : (sd = 1 ∧ i = a) ∨ (sd = 0 ∧ i = b)) (hx : M i 3 ≤ load ∧ load ≤ 40) (hy : 0 ≤ has_ ∧ has_ ≤ 40) : x_Pu l yX8_duelLast cX8_duelLast 6 (some .int) 3 E κ X [x_rf E 64, vi i, vi load, vi has_] (vi (d_lst (d_ed li M a b) (d_od O M a b) (d_ow M a b) sd load has_)) := by
  refine x_Met.of [(false, x_rf E 64), (false, vi i), (false, vi load), (false, vi has_)] [some (x_rf E 64), some (vi i), some (vi load), some (vi has_), none, none] 2 (by decide) rfl rfl ⟨x_cr E (64), rfl, rfl, rfl, trivial⟩ rfl rfl ?_
  intro p e s m args below meth c hargs hin B
  obtain ⟨hC, ha, hb, hne, ⟨e35, e36⟩, ⟨hL2, h3a, h3b⟩, eM, eli, eO, elo⟩ := id h
  obtain ⟨hK, hP, hO, hW, hLa⟩ := id hC
  obtain ⟨hT, h8, hn⟩ := id hK
  have fa := h.s (sd := 1) (i := a) (Or.inl ⟨rfl, rfl⟩)
  have fb := h.s (sd := 0) (i := b) (Or.inr ⟨rfl, rfl⟩)
  have fi := h.s hl2
  have hi := fi.1
  have s12 : t_M X i 12 = X 72 (3 + 10 * i + 9) := t_M_s hi (by decide) (by omega) (by omega)
  have s2 : t_M X i 2 = X 72 (3 + 10 * i + 4) := t_M_s hi (by decide) (by omega) (by omega)
  rw [eM] at s12 s2
  have ew : d_ow M a b sd = M i 12 := by unfold d_ow; rw [fi.2.1]
  have hR := h.R
  have q1 := hR.2
  have e1 := q1 load has_
  have e2 := q1 has_ load
  have e3 := q1 ((d_ow M a b) sd) has_
  have e4 := q1 has_ ((d_ow M a b) sd)
  refine x_aload_n B dX8_duelLast_0 rfl ?_
  refine x_iload_n B dX8_duelLast_1 rfl ?_
  refine x_iload_n B dX8_duelLast_2 rfl ?_
  refine x_iconst B dX8_duelLast_3 ?_
  refine x_goP (x_rV B h8 (show x_cl[7]? = some _ from rfl) (c_X8_duelBest (sd := sd) h hl2 hx ⟨by omega, by omega⟩) (lw_V q1861 q1863 qs100 q122 q1864) hv_X8_duelBest ⟨by decide, by decide⟩ ⟨by decide, by decide⟩ rfl rfl (by simp [x_cr, x_c1, x_c2]) dX8_duelLast_4) ?_
  rw [if_pos rfl]
  refine x_istw_4 B dX8_duelLast_7 (by first | rfl | exact x_cr _ _) ?_
  refine x_aload_n B dX8_duelLast_9 rfl ?_
  refine x_iload_n B dX8_duelLast_10 rfl ?_
  refine x_iload_n B dX8_duelLast_11 rfl ?_
  refine x_iconst B dX8_duelLast_12 ?_
  refine x_goP (x_rV B h8 (show x_cl[7]? = some _ from rfl) (c_X8_duelBest (sd := sd) h hl2 hx ⟨by omega, by omega⟩) (lw_V q1861 q1863 qs100 q122 q1864) hv_X8_duelBest ⟨by decide, by decide⟩ ⟨by decide, by decide⟩ rfl rfl (by simp [x_cr, x_c1, x_c2]) dX8_duelLast_13) ?_
  rw [if_neg (show ¬ (0 : Int) = 1 by omega)]
  refine x_istw_5 B dX8_duelLast_16 (by first | rfl | exact x_cr _ _) ?_
  refine x_iload_n B dX8_duelLast_18 rfl ?_
  refine x_aload_n B dX8_duelLast_19 rfl ?_
  refine x_getI B (k := 35) 35 rfl rfl xc_7 (by decide) h8 (Or.inl q1370) (fun _ h => h) dX8_duelLast_20 (fun r_20 => ?_)
  rw [e35] at r_20 ⊢
  refine x_icmp_ne B (tgt := 49) dX8_duelLast_23 (by decide) ⟨by omega, by omega⟩ ⟨by omega, by omega⟩ (fun h_23 => ?_) (fun h_23 => ?_)
  · refine x_aload_n B dX8_duelLast_49 rfl ?_
    refine x_iload_n B dX8_duelLast_50 rfl ?_
    refine x_iload_n B dX8_duelLast_51 rfl ?_
    refine x_aload_n B dX8_duelLast_52 rfl ?_
    refine x_iload_n B dX8_duelLast_53 rfl ?_
    refine x_iload B dX8_duelLast_54 rfl ?_
    refine x_goP (x_rV B h8 (show x_cl[7]? = some _ from rfl) (c_X8_duelEnds h hy ⟨by omega, by omega⟩) (lw_V q1873 q1875 qs103 q122 q1876) hv_X8_duelEnds ⟨by decide, by decide⟩ ⟨by decide, by decide⟩ rfl rfl (by simp [x_cr, x_c1, x_c2]) dX8_duelLast_56) ?_
    refine x_aload_n B dX8_duelLast_59 rfl ?_
    refine x_iload_n B dX8_duelLast_60 rfl ?_
    refine x_iload B dX8_duelLast_61 rfl ?_
    refine x_goP (x_rV B h8 (show x_cl[7]? = some _ from rfl) (c_X8_duelEnds h hy ⟨by omega, by omega⟩) (lw_V q1873 q1875 qs103 q122 q1876) hv_X8_duelEnds ⟨by decide, by decide⟩ ⟨by decide, by decide⟩ rfl rfl (by simp [x_cr, x_c1, x_c2]) dX8_duelLast_63) ?_
    refine x_goP (x_rV B h8 (show x_cl[7]? = some _ from rfl) (c_X8_duelTry (sd := sd) h hl2 ⟨by omega, by omega⟩ e2 e4) (lw_V q1877 q1879 qs104 q122 q1880) hv_X8_duelTry ⟨by decide, by decide⟩ ⟨by decide, by decide⟩ rfl rfl (by simp [x_cr, x_c1, x_c2]) dX8_duelLast_66) ?_
    refine x_iret B (fun _ _ h => h) ?_ dX8_duelLast_69
    exact ⟨congrArg (fun z => some (vi z)) (by unfold d_lst; first | (rw [if_pos (by omega)]; done) | (rw [if_neg (by omega)]; done)), rfl⟩
  · refine x_aload_n B dX8_duelLast_26 rfl ?_
    refine x_iload_n B dX8_duelLast_27 rfl ?_
    refine x_iload_n B dX8_duelLast_28 rfl ?_
    refine x_aload_n B dX8_duelLast_29 rfl ?_
    refine x_iload B dX8_duelLast_30 rfl ?_
    refine x_iload_n B dX8_duelLast_32 rfl ?_
    refine x_goP (x_rV B h8 (show x_cl[7]? = some _ from rfl) (c_X8_duelEnds h ⟨by omega, by omega⟩ hy) (lw_V q1873 q1875 qs103 q122 q1876) hv_X8_duelEnds ⟨by decide, by decide⟩ ⟨by decide, by decide⟩ rfl rfl (by simp [x_cr, x_c1, x_c2]) dX8_duelLast_33) ?_
    refine x_aload_n B dX8_duelLast_36 rfl ?_
    refine x_iload B dX8_duelLast_37 rfl ?_
    refine x_iload_n B dX8_duelLast_39 rfl ?_
    refine x_goP (x_rV B h8 (show x_cl[7]? = some _ from rfl) (c_X8_duelEnds h ⟨by omega, by omega⟩ hy) (lw_V q1873 q1875 qs103 q122 q1876) hv_X8_duelEnds ⟨by decide, by decide⟩ ⟨by decide, by decide⟩ rfl rfl (by simp [x_cr, x_c1, x_c2]) dX8_duelLast_40) ?_
    refine x_goP (x_rV B h8 (show x_cl[7]? = some _ from rfl) (c_X8_duelTry (sd := sd) h hl2 ⟨by omega, by omega⟩ e1 e3) (lw_V q1877 q1879 qs104 q122 q1880) hv_X8_duelTry ⟨by decide, by decide⟩ ⟨by decide, by decide⟩ rfl rfl (by simp [x_cr, x_c1, x_c2]) dX8_duelLast_43) ?_
    refine x_goto B (tgt := 69) dX8_duelLast_46 (by decide) ?_
    refine x_iret B (fun _ _ h => h) ?_ dX8_duelLast_69
    exact ⟨congrArg (fun z => some (vi z)) (by unfold d_lst; first | (rw [if_pos (by omega)]; done) | (rw [if_neg (by omega)]; done)), rfl⟩
theorem c_X8_isBetter {l : Launch} {E : x_E} {κ : x_Ka} {X : x_X} {sd v z : Int} (hs : 0 ≤ sd ∧ sd ≤ 1) (hv : xR v) (hz : xR z) : x_Pu l yX8_isBetter cX8_isBetter 3 (some .boolean) 0 E κ X [vi sd, vi v, vi z] (vi (d_bt sd v z)) := by
  refine x_Met.of [(false, vi sd), (false, vi v), (false, vi z)] [some (vi sd), some (vi v), some (vi z)] 0 (by decide) rfl rfl ⟨rfl, rfl, rfl, trivial⟩ rfl rfl ?_
  intro p e s m args below meth c hargs hin B
  refine x_iload_n B dX8_isBetter_0 rfl ?_
  refine x_if_eq B (tgt := 17) dX8_isBetter_1 (by decide) ⟨by omega, by omega⟩ (fun h_1 => ?_) (fun h_1 => ?_)
  · refine x_iload_n B dX8_isBetter_17 rfl ?_
    refine x_iload_n B dX8_isBetter_18 rfl ?_
    refine x_icmp_ge B (tgt := 26) dX8_isBetter_19 (by decide) ⟨by omega, by omega⟩ ⟨by omega, by omega⟩ (fun h_19 => ?_) (fun h_19 => ?_)
    · refine x_iconst B dX8_isBetter_26 ?_
      refine x_zret B (fun _ _ h => h) ⟨by omega, by omega⟩ ?_ dX8_isBetter_27
      exact ⟨congrArg (fun z => some (vi z)) (by unfold d_bt; first | (rw [if_pos (show sd = 1 by omega)]; first | (rw [if_pos (by omega)]; done) | (rw [if_neg (by omega)]; done)) | (rw [if_neg (show ¬ sd = 1 by omega)]; first | (rw [if_pos (by omega)]; done) | (rw [if_neg (by omega)]; done))), rfl⟩
    · refine x_iconst B dX8_isBetter_22 ?_
      refine x_goto B (tgt := 27) dX8_isBetter_23 (by decide) ?_
      refine x_zret B (fun _ _ h => h) ⟨by omega, by omega⟩ ?_ dX8_isBetter_27
      exact ⟨congrArg (fun z => some (vi z)) (by unfold d_bt; first | (rw [if_pos (show sd = 1 by omega)]; first | (rw [if_pos (by omega)]; done) | (rw [if_neg (by omega)]; done)) | (rw [if_neg (show ¬ sd = 1 by omega)]; first | (rw [if_pos (by omega)]; done) | (rw [if_neg (by omega)]; done))), rfl⟩
  · refine x_iload_n B dX8_isBetter_4 rfl ?_
    refine x_iload_n B dX8_isBetter_5 rfl ?_
    refine x_icmp_le B (tgt := 13) dX8_isBetter_6 (by decide) ⟨by omega, by omega⟩ ⟨by omega, by omega⟩ (fun h_6 => ?_) (fun h_6 => ?_)
    · refine x_iconst B dX8_isBetter_13 ?_
      refine x_goto B (tgt := 27) dX8_isBetter_14 (by decide) ?_
      refine x_zret B (fun _ _ h => h) ⟨by omega, by omega⟩ ?_ dX8_isBetter_27
      exact ⟨congrArg (fun z => some (vi z)) (by unfold d_bt; first | (rw [if_pos (show sd = 1 by omega)]; first | (rw [if_pos (by omega)]; done) | (rw [if_neg (by omega)]; done)) | (rw [if_neg (show ¬ sd = 1 by omega)]; first | (rw [if_pos (by omega)]; done) | (rw [if_neg (by omega)]; done))), rfl⟩
    · refine x_iconst B dX8_isBetter_9 ?_
      refine x_goto B (tgt := 27) dX8_isBetter_10 (by decide) ?_
      refine x_zret B (fun _ _ h => h) ⟨by omega, by omega⟩ ?_ dX8_isBetter_27
      exact ⟨congrArg (fun z => some (vi z)) (by unfold d_bt; first | (rw [if_pos (show sd = 1 by omega)]; first | (rw [if_pos (by omega)]; done) | (rw [if_neg (by omega)]; done)) | (rw [if_neg (show ¬ sd = 1 by omega)]; first | (rw [if_pos (by omega)]; done) | (rw [if_neg (by omega)]; done))), rfl⟩
theorem c_X8_duelChoosesLast {l : Launch} {E : x_E} {κ : x_Ka} {X : x_X} {M : x_X} {li : Int → Int → Int} {O : Int → Int → Int → Int → Int} {lot : Int → Int} {a b : Int} {sd i load ch has_ : Int} (h : g8 κ X M li O lot a b) (hl2 : (sd = 1 ∧ i = a) ∨ (sd = 0 ∧ i = b)) (hx : M i 3 ≤ load ∧ load ≤ 40) (hc : 0 ≤ ch ∧ ch ≤ 2) (hy : 0 ≤ has_ ∧ has_ ≤ 40) : x_Pu l yX8_duelChoosesLast cX8_duelChoosesLast 8 (some .int) 4 E κ X [x_rf E 64, vi i, vi load, vi ch, vi has_] (vi (d_ans (d_ed li M a b) (d_od O M a b) (d_ow M a b) sd load ch has_)) := by
  refine x_Met.of [(false, x_rf E 64), (false, vi i), (false, vi load), (false, vi ch), (false, vi has_)] [some (x_rf E 64), some (vi i), some (vi load), some (vi ch), some (vi has_), none, none, none] 3 (by decide) rfl rfl ⟨x_cr E (64), rfl, rfl, rfl, rfl, trivial⟩ rfl rfl ?_
  intro p e s m args below meth c hargs hin B
  obtain ⟨hC, ha, hb, hne, ⟨e35, e36⟩, ⟨hL2, h3a, h3b⟩, eM, eli, eO, elo⟩ := id h
  obtain ⟨hK, hP, hO, hW, hLa⟩ := id hC
  obtain ⟨hT, h8, hn⟩ := id hK
  have fa := h.s (sd := 1) (i := a) (Or.inl ⟨rfl, rfl⟩)
  have fb := h.s (sd := 0) (i := b) (Or.inr ⟨rfl, rfl⟩)
  have fi := h.s hl2
  have hi := fi.1
  have s12 : t_M X i 12 = X 72 (3 + 10 * i + 9) := t_M_s hi (by decide) (by omega) (by omega)
  have s2 : t_M X i 2 = X 72 (3 + 10 * i + 4) := t_M_s hi (by decide) (by omega) (by omega)
  rw [eM] at s12 s2
  have ew : d_ow M a b sd = M i 12 := by unfold d_ow; rw [fi.2.1]
  have hR := h.R
  have lp_15 : ∀ (n : Nat) (q : Nat) (x best : Int), ((load + 1 ≤ x ∧ x ≤ 41) ∧ (0 ≤ best ∧ best ≤ 1000000) ∧ (q : Int) = (if ch > 0 then 41 - x else 0) ∧ d_ans (d_ed li M a b) (d_od O M a b) (d_ow M a b) sd load ch has_ = d_as (fun x => d_lst (d_ed li M a b) (d_od O M a b) (d_ow M a b) sd x has_) sd q x best) → ((42 - x).toNat < n) → x_G p l e (x_rm 4 0 0) s m args below meth c 8 E 0 0 (MQ below (x_Q E κ (fun v_ X_ => v_ = some (vi (d_ans (d_ed li M a b) (d_od O M a b) (d_ow M a b) sd load ch has_)) ∧ X_ = X)) args s 0 0 (fun q => E.1 ≤ q)) κ 15 [some (x_rf E 64), some (vi i), some (vi load), some (vi ch), some (vi has_), some (vi best), some (vi x), none] [] X := by
    intro n
    induction n with
    | zero => intro q x best hinv hme; exfalso; omega
    | succ n ih =>
      intro q x best hinv hme
      obtain ⟨hxr, hbr, hq, he⟩ := hinv
      have hlr := d_lst_r (ow := (d_ow M a b)) hR sd x has_
      have hbt := d_bt_r sd (d_lst (d_ed li M a b) (d_od O M a b) (d_ow M a b) sd x has_) best
      refine x_iload B dX8_duelChoosesLast_15 rfl ?_
      refine x_bipush B dX8_duelChoosesLast_17 (by decide) ?_
      refine x_icmp_gt B (tgt := 75) dX8_duelChoosesLast_19 (by decide) ⟨by omega, by omega⟩ ⟨by omega, by omega⟩ (fun h_19 => ?_) (fun h_19 => ?_)
      · refine x_iload B dX8_duelChoosesLast_75 rfl ?_
        refine x_iret B (fun _ _ h => h) ?_ dX8_duelChoosesLast_77
        exact ⟨congrArg (fun z => some (vi z)) (by rw [he]; obtain rfl : q = 0 := (by first | (rw [if_neg (by omega)] at hq; omega) | (split at hq <;> omega)); rfl), rfl⟩
      · refine x_iload_n B dX8_duelChoosesLast_22 rfl ?_
        refine x_if_le B (tgt := 75) dX8_duelChoosesLast_23 (by decide) ⟨by omega, by omega⟩ (fun h_23 => ?_) (fun h_23 => ?_)
        · refine x_iload B dX8_duelChoosesLast_75 rfl ?_
          refine x_iret B (fun _ _ h => h) ?_ dX8_duelChoosesLast_77
          exact ⟨congrArg (fun z => some (vi z)) (by rw [he]; obtain rfl : q = 0 := (by first | (rw [if_neg (by omega)] at hq; omega) | (split at hq <;> omega)); rfl), rfl⟩
        · refine x_aload_n B dX8_duelChoosesLast_26 rfl ?_
          refine x_iload_n B dX8_duelChoosesLast_27 rfl ?_
          refine x_iload B dX8_duelChoosesLast_28 rfl ?_
          refine x_iload B dX8_duelChoosesLast_30 rfl ?_
          refine x_goP (x_rV B h8 (show x_cl[7]? = some _ from rfl) (c_X8_duelLast (sd := sd) h hl2 ⟨by omega, by omega⟩ hy) (lw_V q1869 q1871 qs102 q122 q1872) hv_X8_duelLast ⟨by decide, by decide⟩ ⟨by decide, by decide⟩ rfl rfl (by simp [x_cr, x_c1, x_c2]) dX8_duelChoosesLast_32) ?_
          refine x_istw_7 B dX8_duelChoosesLast_35 (by first | rfl | exact x_cr _ _) ?_
          refine x_iload_n B dX8_duelChoosesLast_37 rfl ?_
          refine x_aload_n B dX8_duelChoosesLast_38 rfl ?_
          refine x_getI B (k := 35) 35 rfl rfl xc_7 (by decide) h8 (Or.inl q1370) (fun _ h => h) dX8_duelChoosesLast_39 (fun r_39 => ?_)
          rw [e35] at r_39 ⊢
          refine x_icmp_ne B (tgt := 49) dX8_duelChoosesLast_42 (by decide) ⟨by omega, by omega⟩ ⟨by omega, by omega⟩ (fun h_42 => ?_) (fun h_42 => ?_)
          · obtain rfl : sd = 0 := by omega
            refine x_iconst B dX8_duelChoosesLast_49 ?_
            refine x_iload B dX8_duelChoosesLast_50 rfl ?_
            refine x_iload B dX8_duelChoosesLast_52 rfl ?_
            refine x_goP (x_rS B (c_X8_isBetter ⟨by omega, by omega⟩ ⟨by omega, by omega⟩ ⟨by omega, by omega⟩) (lw_S q1881 q1882 q122 q1883) hd_X8_isBetter ⟨by decide, by decide⟩ ⟨by decide, by decide⟩ rfl rfl (by simp [x_cr, x_c1, x_c2]) dX8_duelChoosesLast_54) ?_
            refine x_if_eq B (tgt := 65) dX8_duelChoosesLast_57 (by decide) ⟨by omega, by omega⟩ (fun h_57 => ?_) (fun h_57 => ?_)
            · refine x_iload B dX8_duelChoosesLast_65 rfl ?_
              refine x_istw_5 B dX8_duelChoosesLast_67 (by first | rfl | exact x_cr _ _) ?_
              refine x_iinc_6 B dX8_duelChoosesLast_69 (by first | rfl | exact x_cr _ _) ?_
              refine x_goto B (tgt := 15) dX8_duelChoosesLast_72 (by decide) ?_
              refine x_fg_7 ?_
              rw [if_pos (show ch > 0 by omega)] at hq
              obtain ⟨q, rfl⟩ : ∃ g, q = g + 1 := ⟨q - 1, by omega⟩
              unfold d_as at he
              first
              | (refine ih q _ _ ⟨⟨by omega, by omega⟩, hlr, by rw [if_pos (by omega)]; omega, ?_⟩ (by omega); rw [he, if_neg h_57]; done)
              | (refine ih q _ _ ⟨⟨by omega, by omega⟩, hbr, by rw [if_pos (by omega)]; omega, ?_⟩ (by omega); rw [he, if_pos (by omega)])
            · refine x_iload B dX8_duelChoosesLast_60 rfl ?_
              refine x_goto B (tgt := 67) dX8_duelChoosesLast_62 (by decide) ?_
              refine x_istw_5 B dX8_duelChoosesLast_67 (by first | rfl | exact x_cr _ _) ?_
              refine x_iinc_6 B dX8_duelChoosesLast_69 (by first | rfl | exact x_cr _ _) ?_
              refine x_goto B (tgt := 15) dX8_duelChoosesLast_72 (by decide) ?_
              refine x_fg_7 ?_
              rw [if_pos (show ch > 0 by omega)] at hq
              obtain ⟨q, rfl⟩ : ∃ g, q = g + 1 := ⟨q - 1, by omega⟩
              unfold d_as at he
              first
              | (refine ih q _ _ ⟨⟨by omega, by omega⟩, hlr, by rw [if_pos (by omega)]; omega, ?_⟩ (by omega); rw [he, if_neg h_57]; done)
              | (refine ih q _ _ ⟨⟨by omega, by omega⟩, hbr, by rw [if_pos (by omega)]; omega, ?_⟩ (by omega); rw [he, if_pos (by omega)])
          · obtain rfl : sd = 1 := by omega
            refine x_iconst B dX8_duelChoosesLast_45 ?_
            refine x_goto B (tgt := 50) dX8_duelChoosesLast_46 (by decide) ?_
            refine x_iload B dX8_duelChoosesLast_50 rfl ?_
            refine x_iload B dX8_duelChoosesLast_52 rfl ?_
            refine x_goP (x_rS B (c_X8_isBetter ⟨by omega, by omega⟩ ⟨by omega, by omega⟩ ⟨by omega, by omega⟩) (lw_S q1881 q1882 q122 q1883) hd_X8_isBetter ⟨by decide, by decide⟩ ⟨by decide, by decide⟩ rfl rfl (by simp [x_cr, x_c1, x_c2]) dX8_duelChoosesLast_54) ?_
            refine x_if_eq B (tgt := 65) dX8_duelChoosesLast_57 (by decide) ⟨by omega, by omega⟩ (fun h_57 => ?_) (fun h_57 => ?_)
            · refine x_iload B dX8_duelChoosesLast_65 rfl ?_
              refine x_istw_5 B dX8_duelChoosesLast_67 (by first | rfl | exact x_cr _ _) ?_
              refine x_iinc_6 B dX8_duelChoosesLast_69 (by first | rfl | exact x_cr _ _) ?_
              refine x_goto B (tgt := 15) dX8_duelChoosesLast_72 (by decide) ?_
              refine x_fg_7 ?_
              rw [if_pos (show ch > 0 by omega)] at hq
              obtain ⟨q, rfl⟩ : ∃ g, q = g + 1 := ⟨q - 1, by omega⟩
              unfold d_as at he
              first
              | (refine ih q _ _ ⟨⟨by omega, by omega⟩, hlr, by rw [if_pos (by omega)]; omega, ?_⟩ (by omega); rw [he, if_neg h_57]; done)
              | (refine ih q _ _ ⟨⟨by omega, by omega⟩, hbr, by rw [if_pos (by omega)]; omega, ?_⟩ (by omega); rw [he, if_pos (by omega)])
            · refine x_iload B dX8_duelChoosesLast_60 rfl ?_
              refine x_goto B (tgt := 67) dX8_duelChoosesLast_62 (by decide) ?_
              refine x_istw_5 B dX8_duelChoosesLast_67 (by first | rfl | exact x_cr _ _) ?_
              refine x_iinc_6 B dX8_duelChoosesLast_69 (by first | rfl | exact x_cr _ _) ?_
              refine x_goto B (tgt := 15) dX8_duelChoosesLast_72 (by decide) ?_
              refine x_fg_7 ?_
              rw [if_pos (show ch > 0 by omega)] at hq
              obtain ⟨q, rfl⟩ : ∃ g, q = g + 1 := ⟨q - 1, by omega⟩
              unfold d_as at he
              first
              | (refine ih q _ _ ⟨⟨by omega, by omega⟩, hlr, by rw [if_pos (by omega)]; omega, ?_⟩ (by omega); rw [he, if_neg h_57]; done)
              | (refine ih q _ _ ⟨⟨by omega, by omega⟩, hbr, by rw [if_pos (by omega)]; omega, ?_⟩ (by omega); rw [he, if_pos (by omega)])
  refine x_aload_n B dX8_duelChoosesLast_0 rfl ?_
  refine x_iload_n B dX8_duelChoosesLast_1 rfl ?_
  refine x_iload_n B dX8_duelChoosesLast_2 rfl ?_
  refine x_iload B dX8_duelChoosesLast_3 rfl ?_
  refine x_goP (x_rV B h8 (show x_cl[7]? = some _ from rfl) (c_X8_duelLast (sd := sd) h hl2 hx hy) (lw_V q1869 q1871 qs102 q122 q1872) hv_X8_duelLast ⟨by decide, by decide⟩ ⟨by decide, by decide⟩ rfl rfl (by simp [x_cr, x_c1, x_c2]) dX8_duelChoosesLast_5) ?_
  refine x_istw_5 B dX8_duelChoosesLast_8 (by first | rfl | exact x_cr _ _) ?_
  refine x_iload_n B dX8_duelChoosesLast_10 rfl ?_
  refine x_iconst B dX8_duelChoosesLast_11 ?_
  refine x_iadd B dX8_duelChoosesLast_12 ?_
  refine x_istw_6 B dX8_duelChoosesLast_13 (by first | rfl | exact x_cr _ _) ?_
  refine lp_15 _ (if ch > 0 then (40 - load).toNat else 0) _ _ ⟨⟨by omega, by omega⟩, d_lst_r hR sd load has_, by (split <;> omega), rfl⟩ (Nat.lt_succ_self _)
theorem c_X8_duelCell {l : Launch} {E : x_E} {κ : x_Ka} {X : x_X} {x y m o : Int} (hx : 0 ≤ x ∧ x ≤ 40) (hy : 0 ≤ y ∧ y ≤ 40) (hm : 0 ≤ m ∧ m ≤ 2) (ho : 0 ≤ o ∧ o ≤ 2) : x_Pu l yX8_duelCell cX8_duelCell 4 (some .int) 0 E κ X [vi x, vi y, vi m, vi o] (vi (d_cl x y m o)) := by
  refine x_Met.of [(false, vi x), (false, vi y), (false, vi m), (false, vi o)] [some (vi x), some (vi y), some (vi m), some (vi o)] 0 (by decide) rfl rfl ⟨rfl, rfl, rfl, rfl, trivial⟩ rfl rfl ?_
  intro p e s m args below meth c hargs hin B
  refine x_bipush B dX8_duelCell_0 (by decide) ?_
  refine x_bipush B dX8_duelCell_2 (by decide) ?_
  refine x_iconst B dX8_duelCell_4 ?_
  refine x_iload_n B dX8_duelCell_5 rfl ?_
  refine x_imul B dX8_duelCell_6 ?_
  refine x_iload_n B dX8_duelCell_7 rfl ?_
  refine x_iadd B dX8_duelCell_8 ?_
  refine x_imul B dX8_duelCell_9 ?_
  refine x_iload_n B dX8_duelCell_10 rfl ?_
  refine x_iadd B dX8_duelCell_11 ?_
  refine x_imul B dX8_duelCell_12 ?_
  refine x_iload_n B dX8_duelCell_13 rfl ?_
  refine x_iadd B dX8_duelCell_14 ?_
  refine x_iret B (fun _ _ h => h) ?_ dX8_duelCell_15
  exact ⟨congrArg (fun z => some (vi z)) (by unfold d_cl; omega), rfl⟩
theorem c_X8_isOneCalled {l : Launch} {E : x_E} {κ : x_Ka} {X : x_X} {M : x_X} {li : Int → Int → Int} {O : Int → Int → Int → Int → Int} {lot : Int → Int} {a b : Int} {x y : Int} (h : g8 κ X M li O lot a b) (hx : xR x) (hy : xR y) : x_Pu l yX8_isOneCalled cX8_isOneCalled 3 (some .boolean) 0 E κ X [x_rf E 64, vi x, vi y] (vi ((d_fs lot a b) x y)) := by
  refine x_Met.of [(false, x_rf E 64), (false, vi x), (false, vi y)] [some (x_rf E 64), some (vi x), some (vi y)] 0 (by decide) rfl rfl ⟨x_cr E (64), rfl, rfl, trivial⟩ rfl rfl ?_
  intro p e s m args below meth c hargs hin B
  obtain ⟨hC, ha, hb, hne, ⟨e35, e36⟩, ⟨hL2, h3a, h3b⟩, eM, eli, eO, elo⟩ := id h
  obtain ⟨hK, hP, hO, hW, hLa⟩ := id hC
  obtain ⟨hT, h8, hn⟩ := id hK
  have fa := h.s (sd := 1) (i := a) (Or.inl ⟨rfl, rfl⟩)
  have fb := h.s (sd := 0) (i := b) (Or.inr ⟨rfl, rfl⟩)
  have la : lot a = X 67 a := by rw [← elo]; unfold t_lot; rw [if_pos ha]
  have lb : lot b = X 67 b := by rw [← elo]; unfold t_lot; rw [if_pos hb]
  refine x_iload_n B dX8_isOneCalled_0 rfl ?_
  refine x_iload_n B dX8_isOneCalled_1 rfl ?_
  refine x_icmp_lt B (tgt := 31) dX8_isOneCalled_2 (by decide) ⟨by omega, by omega⟩ ⟨by omega, by omega⟩ (fun h_2 => ?_) (fun h_2 => ?_)
  · refine x_iconst B dX8_isOneCalled_31 ?_
    refine x_goto B (tgt := 36) dX8_isOneCalled_32 (by decide) ?_
    refine x_zret B (fun _ _ h => h) ⟨by omega, by omega⟩ ?_ dX8_isOneCalled_36
    exact ⟨congrArg (fun z => some (vi z)) (by unfold d_fs; rw [la, lb]; first | (rw [if_pos (by omega)]; done) | (rw [if_neg (by omega)]; done)), rfl⟩
  · refine x_iload_n B dX8_isOneCalled_5 rfl ?_
    refine x_iload_n B dX8_isOneCalled_6 rfl ?_
    refine x_icmp_ne B (tgt := 35) dX8_isOneCalled_7 (by decide) ⟨by omega, by omega⟩ ⟨by omega, by omega⟩ (fun h_7 => ?_) (fun h_7 => ?_)
    · refine x_iconst B dX8_isOneCalled_35 ?_
      refine x_zret B (fun _ _ h => h) ⟨by omega, by omega⟩ ?_ dX8_isOneCalled_36
      exact ⟨congrArg (fun z => some (vi z)) (by unfold d_fs; rw [la, lb]; first | (rw [if_pos (by omega)]; done) | (rw [if_neg (by omega)]; done)), rfl⟩
    · refine x_aload_n B dX8_isOneCalled_10 rfl ?_
      refine x_getC0 B (k := 5) hT rfl rfl xc_7 (by decide) h8 (Or.inl q1340) (fun _ h => h) dX8_isOneCalled_11 (fun k_11 => ?_)
      refine x_aload_n B dX8_isOneCalled_14 rfl ?_
      refine x_getI B (k := 35) 35 rfl rfl xc_7 (by decide) h8 (Or.inl q1370) (fun _ h => h) dX8_isOneCalled_15 (fun r_15 => ?_)
      rw [e35] at r_15 ⊢
      refine x_iald B k_11 ⟨by omega, by omega⟩ dX8_isOneCalled_18 (fun r_18 => ?_)
      refine x_aload_n B dX8_isOneCalled_19 rfl ?_
      refine x_getC0 B (k := 5) hT rfl rfl xc_7 (by decide) h8 (Or.inl q1340) (fun _ h => h) dX8_isOneCalled_20 (fun k_20 => ?_)
      refine x_aload_n B dX8_isOneCalled_23 rfl ?_
      refine x_getI B (k := 36) 36 rfl rfl xc_7 (by decide) h8 (Or.inl q1371) (fun _ h => h) dX8_isOneCalled_24 (fun r_24 => ?_)
      rw [e36] at r_24 ⊢
      refine x_iald B k_20 ⟨by omega, by omega⟩ dX8_isOneCalled_27 (fun r_27 => ?_)
      refine x_icmp_ge B (tgt := 35) dX8_isOneCalled_28 (by decide) ⟨by omega, by omega⟩ ⟨by omega, by omega⟩ (fun h_28 => ?_) (fun h_28 => ?_)
      · refine x_iconst B dX8_isOneCalled_35 ?_
        refine x_zret B (fun _ _ h => h) ⟨by omega, by omega⟩ ?_ dX8_isOneCalled_36
        exact ⟨congrArg (fun z => some (vi z)) (by unfold d_fs; rw [la, lb]; first | (rw [if_pos (by omega)]; done) | (rw [if_neg (by omega)]; done)), rfl⟩
      · refine x_iconst B dX8_isOneCalled_31 ?_
        refine x_goto B (tgt := 36) dX8_isOneCalled_32 (by decide) ?_
        refine x_zret B (fun _ _ h => h) ⟨by omega, by omega⟩ ?_ dX8_isOneCalled_36
        exact ⟨congrArg (fun z => some (vi z)) (by unfold d_fs; rw [la, lb]; first | (rw [if_pos (by omega)]; done) | (rw [if_neg (by omega)]; done)), rfl⟩
