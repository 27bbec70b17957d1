theorem c_X8_entersDuel {l : Launch} {E : x_E} {κ : x_Ka} {X : x_X} {M : x_X} {li : Int → Int → Int} {O : Int → Int → Int → Int → Int} {lot : Int → Int} {a b : Int} {mi o : Int} (h : g8 κ X M li O lot a b) (hm : 0 ≤ mi ∧ mi ≤ 2) (ho : 0 ≤ o ∧ o ≤ 2) (hz : xR (X 86 (d_cl (M a 3) (M b 3) mi o))) : x_Vo l yX8_entersDuel cX8_entersDuel 5 1 E κ X [x_rf E 64, vi mi, vi o] (t_tl (t_tl (x_up X 64 1 0) (if (d_fs lot a b) (M a 3) (M b 3) = 0 then b else a)) (X 86 (d_cl (M a 3) (M b 3) mi o))) := by
  refine x_Met.of [(false, x_rf E 64), (false, vi mi), (false, vi o)] [some (x_rf E 64), some (vi mi), some (vi o), none, none] 2 (by decide) rfl rfl ⟨x_cr E (64), rfl, rfl, trivial⟩ rfl rfl ?_
  intro p e s m args below meth c hargs hin B
  obtain ⟨hC, ha, hb, hne, ⟨e35, e36⟩, ⟨hL2, h3a, h3b⟩, eM, eli, eO, elo⟩ := id h
  obtain ⟨hK, hP, hO, hW, hLa⟩ := id hC
  obtain ⟨hT, h8, hn⟩ := id hK
  have fa := h.s (sd := 1) (i := a) (Or.inl ⟨rfl, rfl⟩)
  have fb := h.s (sd := 0) (i := b) (Or.inr ⟨rfl, rfl⟩)
  have sA : t_M X a 3 = X 72 (3 + 10 * a + 0) := t_M_s ha (by decide) (by omega) (by omega)
  have sB : t_M X b 3 = X 72 (3 + 10 * b + 0) := t_M_s hb (by decide) (by omega) (by omega)
  rw [eM] at sA sB
  have hcl := d_cl_r (x := (M a 3)) (y := (M b 3)) (m := mi) (o := o) ⟨by omega, by omega⟩ ⟨by omega, by omega⟩ hm ho
  have hfr : 0 ≤ (d_fs lot a b) (M a 3) (M b 3) ∧ (d_fs lot a b) (M a 3) (M b 3) ≤ 1 := by unfold d_fs; split <;> omega
  refine x_aload_n B dX8_entersDuel_0 rfl ?_
  refine x_aload_n B dX8_entersDuel_1 rfl ?_
  refine x_getI B (k := 35) 35 rfl rfl xc_7 (by decide) h8 (Or.inl q1370) (fun _ h => h) dX8_entersDuel_2 (fun r_2 => ?_)
  rw [e35] at r_2 ⊢
  refine x_iconst B dX8_entersDuel_5 ?_
  refine x_goP (x_rV B h8 (show x_cl[7]? = some _ from rfl) (c_X8_of hT h8 ⟨by omega, by omega⟩) (lw_V q1525 q1527 qs52 q122 q1528) hv_X8_of ⟨by decide, by decide⟩ ⟨by decide, by decide⟩ rfl rfl (by simp [x_cr, x_c1, x_c2]) dX8_entersDuel_6) ?_
  rw [← sA]
  refine x_ist_3 B dX8_entersDuel_9 (by first | rfl | exact x_cr _ _) ?_
  refine x_aload_n B dX8_entersDuel_10 rfl ?_
  refine x_aload_n B dX8_entersDuel_11 rfl ?_
  refine x_getI B (k := 36) 36 rfl rfl xc_7 (by decide) h8 (Or.inl q1371) (fun _ h => h) dX8_entersDuel_12 (fun r_12 => ?_)
  rw [e36] at r_12 ⊢
  refine x_iconst B dX8_entersDuel_15 ?_
  refine x_goP (x_rV B h8 (show x_cl[7]? = some _ from rfl) (c_X8_of hT h8 ⟨by omega, by omega⟩) (lw_V q1525 q1527 qs52 q122 q1528) hv_X8_of ⟨by decide, by decide⟩ ⟨by decide, by decide⟩ rfl rfl (by simp [x_cr, x_c1, x_c2]) dX8_entersDuel_16) ?_
  rw [← sB]
  refine x_istw_4 B dX8_entersDuel_19 (by first | rfl | exact x_cr _ _) ?_
  refine x_aload_n B dX8_entersDuel_21 rfl ?_
  refine x_iconst B dX8_entersDuel_22 ?_
  refine x_putI B (k := 1) 1 rfl rfl rfl ⟨by omega, by omega⟩ xc_7 (by decide) rfl nn_7_1 (fun _ => rfl) h8 (Or.inl q1336) (fun _ h => h) dX8_entersDuel_23 ?_
  have hh : h_eq X (x_up X 64 1 0) := (h_eq.rf X).u64 (Or.inr (Or.inl rfl))
  have hZ := h.fr hh (x_up_n _ (Or.inr (by omega))) (x_up_n _ (Or.inr (by omega)))
  have z1 : x_up X 64 1 0 64 1 = 0 := x_up_s _ _ _ _
  have z86 : x_up X 64 1 0 86 = X 86 := x_up_o _ (by omega)
  obtain ⟨-, -, -, -, ⟨z35, z36⟩, -⟩ := id hZ
  generalize hZZ : x_up X 64 1 0 = ZZ at hh hZ z1 z86 z35 z36 ⊢
  have tt := fun v => t_tl1 ZZ v z1
  have e86 : ∀ v, t_tl ZZ v 86 = X 86 := fun v => by unfold t_tl; rw [x_up_o _ (by omega), x_up_o _ (by omega), z86]
  refine x_aload_n B dX8_entersDuel_26 rfl ?_
  refine x_aload_n B dX8_entersDuel_27 rfl ?_
  refine x_iload_n B dX8_entersDuel_28 rfl ?_
  refine x_iload B dX8_entersDuel_29 rfl ?_
  refine x_goP (x_rV B h8 (show x_cl[7]? = some _ from rfl) (c_X8_isOneCalled hZ ⟨by omega, by omega⟩ ⟨by omega, by omega⟩) (lw_V q1857 q1859 qs99 q122 q1860) hv_X8_isOneCalled ⟨by decide, by decide⟩ ⟨by decide, by decide⟩ rfl rfl (by simp [x_cr, x_c1, x_c2]) dX8_entersDuel_31) ?_
  refine x_if_eq B (tgt := 45) dX8_entersDuel_34 (by decide) ⟨by omega, by omega⟩ (fun h_34 => ?_) (fun h_34 => ?_)
  · refine x_aload_n B dX8_entersDuel_45 rfl ?_
    refine x_getI B (k := 36) 36 rfl rfl xc_7 (by decide) h8 (Or.inl q1371) (fun _ h => h) dX8_entersDuel_46 (fun r_46 => ?_)
    rw [z36] at r_46 ⊢
    refine x_i2l B dX8_entersDuel_49 ⟨by omega, by omega⟩ ?_
    refine x_goV (x_rV B h8 (show x_cl[7]? = some _ from rfl) (c_X8_notes hT h8 ⟨by rw [z1]; omega, by rw [z1]; omega⟩ ⟨by omega, by omega⟩) (lw_V q1616 q1618 qs65 q122 q1619) hv_X8_notes ⟨by decide, by decide⟩ ⟨by decide, by decide⟩ rfl rfl (by simp [x_cr, x_c1, x_c2]) dX8_entersDuel_50) ?_
    rw [show x_up (x_up ZZ 65 (ZZ 64 1) _) 64 1 (ZZ 64 1 + 1) = t_tl ZZ (if (d_fs lot a b) (M a 3) (M b 3) = 0 then b else a) from by first | (rw [if_neg (by assumption)]; rfl) | (rw [if_pos (by assumption)]; rfl)]
    have t1 := tt (if (d_fs lot a b) (M a 3) (M b 3) = 0 then b else a)
    refine x_aload_n B dX8_entersDuel_53 rfl ?_
    refine x_aload_n B dX8_entersDuel_54 rfl ?_
    refine x_getC0 B (k := 38) hT rfl rfl xc_7 (by decide) h8 (Or.inl q1373) (fun _ h => h) dX8_entersDuel_55 (fun k_55 => ?_)
    refine x_iload_n B dX8_entersDuel_58 rfl ?_
    refine x_iload B dX8_entersDuel_59 rfl ?_
    refine x_iload_n B dX8_entersDuel_61 rfl ?_
    refine x_iload_n B dX8_entersDuel_62 rfl ?_
    refine x_goP (x_rS B (c_X8_duelCell ⟨by omega, by omega⟩ ⟨by omega, by omega⟩ ⟨by omega, by omega⟩ ⟨by omega, by omega⟩) (lw_S q1884 q1885 q122 q1886) hd_X8_duelCell ⟨by decide, by decide⟩ ⟨by decide, by decide⟩ rfl rfl (by simp [x_cr, x_c1, x_c2]) dX8_entersDuel_63) ?_
    refine x_iald B k_55 ⟨by omega, by omega⟩ dX8_entersDuel_66 (fun r_66 => ?_)
    rw [e86] at r_66 ⊢
    refine x_i2l B dX8_entersDuel_67 hz ?_
    refine x_goV (x_rV B h8 (show x_cl[7]? = some _ from rfl) (c_X8_notes hT h8 ⟨by rw [t1.1]; omega, by rw [t1.1]; omega⟩ hz) (lw_V q1616 q1618 qs65 q122 q1619) hv_X8_notes ⟨by decide, by decide⟩ ⟨by decide, by decide⟩ rfl rfl (by simp [x_cr, x_c1, x_c2]) dX8_entersDuel_68) ?_
    refine x_vret B (fun _ _ h => h) ?_ dX8_entersDuel_71
    exact ⟨rfl, rfl⟩
  · refine x_aload_n B dX8_entersDuel_37 rfl ?_
    refine x_getI B (k := 35) 35 rfl rfl xc_7 (by decide) h8 (Or.inl q1370) (fun _ h => h) dX8_entersDuel_38 (fun r_38 => ?_)
    rw [z35] at r_38 ⊢
    refine x_i2l B dX8_entersDuel_41 ⟨by omega, by omega⟩ ?_
    refine x_goto B (tgt := 50) dX8_entersDuel_42 (by decide) ?_
    refine x_goV (x_rV B h8 (show x_cl[7]? = some _ from rfl) (c_X8_notes hT h8 ⟨by rw [z1]; omega, by rw [z1]; omega⟩ ⟨by omega, by omega⟩) (lw_V q1616 q1618 qs65 q122 q1619) hv_X8_notes ⟨by decide, by decide⟩ ⟨by decide, by decide⟩ rfl rfl (by simp [x_cr, x_c1, x_c2]) dX8_entersDuel_50) ?_
    rw [show x_up (x_up ZZ 65 (ZZ 64 1) _) 64 1 (ZZ 64 1 + 1) = t_tl ZZ (if (d_fs lot a b) (M a 3) (M b 3) = 0 then b else a) from by first | (rw [if_neg (by assumption)]; rfl) | (rw [if_pos (by assumption)]; rfl)]
    have t1 := tt (if (d_fs lot a b) (M a 3) (M b 3) = 0 then b else a)
    refine x_aload_n B dX8_entersDuel_53 rfl ?_
    refine x_aload_n B dX8_entersDuel_54 rfl ?_
    refine x_getC0 B (k := 38) hT rfl rfl xc_7 (by decide) h8 (Or.inl q1373) (fun _ h => h) dX8_entersDuel_55 (fun k_55 => ?_)
    refine x_iload_n B dX8_entersDuel_58 rfl ?_
    refine x_iload B dX8_entersDuel_59 rfl ?_
    refine x_iload_n B dX8_entersDuel_61 rfl ?_
    refine x_iload_n B dX8_entersDuel_62 rfl ?_
    refine x_goP (x_rS B (c_X8_duelCell ⟨by omega, by omega⟩ ⟨by omega, by omega⟩ ⟨by omega, by omega⟩ ⟨by omega, by omega⟩) (lw_S q1884 q1885 q122 q1886) hd_X8_duelCell ⟨by decide, by decide⟩ ⟨by decide, by decide⟩ rfl rfl (by simp [x_cr, x_c1, x_c2]) dX8_entersDuel_63) ?_
    refine x_iald B k_55 ⟨by omega, by omega⟩ dX8_entersDuel_66 (fun r_66 => ?_)
    rw [e86] at r_66 ⊢
    refine x_i2l B dX8_entersDuel_67 hz ?_
    refine x_goV (x_rV B h8 (show x_cl[7]? = some _ from rfl) (c_X8_notes hT h8 ⟨by rw [t1.1]; omega, by rw [t1.1]; omega⟩ hz) (lw_V q1616 q1618 qs65 q122 q1619) hv_X8_notes ⟨by decide, by decide⟩ ⟨by decide, by decide⟩ rfl rfl (by simp [x_cr, x_c1, x_c2]) dX8_entersDuel_68) ?_
    refine x_vret B (fun _ _ h => h) ?_ dX8_entersDuel_71
    exact ⟨rfl, rfl⟩
def q8_dv (X : x_X) (i j : Int) : Int → Int → Int → Int → Int × Int := d_of (d_ed (t_li X) (t_M X) i j) (d_od (t_O X) (t_M X) i j) (d_ow (t_M X) i j) (d_fs (t_lot X) i j) 5
theorem q_nd_0 {n : Int} {M : x_X} {i j : Int} (h : q_nd M i j = 0) : M (-1) 1 = 2 ∧ 0 < M i 3 ∧ 0 < M j 3 := by
  unfold q_nd at h
  by_cases q : M (-1) 1 ≠ 2 ∨ M (-1) 2 ≠ 2
  · rw [if_pos q] at h; omega
  · rw [if_neg q] at h
    by_cases q2 : (M i 3 > 0 ∧ M i 6 = 0) ∧ (M j 3 > 0 ∧ M j 6 = 0)
    · exact ⟨by omega, by omega, by omega⟩
    · rw [if_neg q2] at h; omega
theorem q_nd_r (M : x_X) (i j : Int) : -3 ≤ q_nd M i j ∧ q_nd M i j ≤ 0 := by unfold q_nd; split; omega; split <;> omega
theorem g8.mk {κ : x_Ka} {X Y : x_X} {i j : Int} (hC : t_C κ X) (hh : h_eq X Y) (hi : 0 ≤ i ∧ i < X 64 3) (hj : 0 ≤ j ∧ j < X 64 3) (hne : i ≠ j) (h1 : Y 64 35 = i) (h2 : Y 64 36 = j) (h : q_nd (t_M X) i j = 0) : g8 κ Y (t_M X) (t_li X) (t_O X) (t_lot X) i j := by
  obtain ⟨e3, eM, el, eli, ep, eO, eG⟩ := hh.v
  exact ⟨hh.C hC, by rw [e3]; exact hi, by rw [e3]; exact hj, hne, ⟨h1, h2⟩, q_nd_0 (n := 0) h, eM, eli, eO, el⟩
theorem c_X8_bluff {l : Launch} {E : x_E} {κ : x_Ka} {X : x_X} {i j x y : Int} (hC : t_C κ X) (hi0 : xR i) (hj0 : xR j) (hx0 : xR x) (hy0 : xR y) : x_Met l yX8_bluff cX8_bluff 7 (some .int) 8 0 0 E κ X [x_rf E 64, vi i, vi j, vi x, vi y] κ (fun v_ Y_ => h_eq X Y_ ∧ (if (x_in i 0 (X 64 3 - 1) = 1 ∧ x_in j 0 (X 64 3 - 1) = 1 ∧ i ≠ j) ∧ x_in x 0 2 = 1 ∧ x_in y 0 2 = 1 then (if q_nd (t_M X) i j ≠ 0 then (v_ = some (vi (q_nd (t_M X) i j)) ∧ hr8 X Y_) else (v_ = some (vi (q8_dv X i j (t_M X i 3) (t_M X j 3) x y).1) ∧ Y_ 64 1 = 2 ∧ Y_ 65 0 = (if (d_fs (t_lot X) i j (t_M X i 3) (t_M X j 3)) = 0 then j else i) ∧ Y_ 65 1 = (q8_dv X i j (t_M X i 3) (t_M X j 3) x y).2)) else (v_ = some (vi (-1)) ∧ hr8 X Y_))) := by
  refine x_Met.of [(false, x_rf E 64), (false, vi i), (false, vi j), (false, vi x), (false, vi y)] [some (x_rf E 64), some (vi i), some (vi j), some (vi x), some (vi y), none, none] 2 (by decide) rfl rfl ⟨x_cr E (64), rfl, rfl, rfl, rfl, trivial⟩ rfl rfl ?_
  intro p e s m args below meth c hargs hin B
  obtain ⟨hK, hP, hO, hW, hLa⟩ := id hC
  obtain ⟨hT, h8, hn⟩ := id hK
  have z1 := x_in_01 i 0 (X 64 3 - 1)
  have z2 := x_in_01 j 0 (X 64 3 - 1)
  have z3 := x_in_01 x 0 2
  have z4 := x_in_01 y 0 2
  refine x_aload_n B dX8_bluff_0 rfl ?_
  refine x_iconst B dX8_bluff_1 ?_
  refine x_putI B (k := 0) 0 rfl rfl rfl ⟨by omega, by omega⟩ xc_7 (by decide) rfl nn_7_0 (fun _ => rfl) h8 (Or.inl q1335) (fun _ h => h) dX8_bluff_2 ?_
  have hz : h_eq X (x_up X 64 0 0) := h_eq.z
  have hrz : hr8 X (x_up X 64 0 0) := hr8.z
  have C0 := hz.C hC
  obtain ⟨e3, eM, el, eli, ep, eO, eG⟩ := hz.v
  generalize hX0 : x_up X 64 0 0 = X0 at hz hrz C0 e3 eM el eli ep eO eG ⊢
  obtain ⟨hK0, hP0, hO0, hW0, hL0⟩ := id C0
  refine x_aload_n B dX8_bluff_5 rfl ?_
  refine x_iload_n B dX8_bluff_6 rfl ?_
  refine x_goP (x_rV B h8 (show x_cl[7]? = some _ from rfl) (c_X8_isLifter hK0 hi0) (lw_V q1553 q1555 qs57 q122 q1556) hv_X8_isLifter ⟨by decide, by decide⟩ ⟨by decide, by decide⟩ rfl rfl (by simp [x_cr, x_c1, x_c2]) dX8_bluff_7) ?_
  rw [e3]
  refine x_if_eq B (tgt := 51) dX8_bluff_10 (by decide) ⟨by omega, by omega⟩ (fun h_10 => ?_) (fun h_10 => ?_)
  · refine x_iconst B dX8_bluff_51 ?_
    refine x_iret B (fun _ _ h => h) ?_ dX8_bluff_52
    exact ⟨hz, by rw [if_neg (by omega)]; exact ⟨rfl, hrz⟩⟩
  · refine x_aload_n B dX8_bluff_13 rfl ?_
    refine x_iload_n B dX8_bluff_14 rfl ?_
    refine x_goP (x_rV B h8 (show x_cl[7]? = some _ from rfl) (c_X8_isLifter hK0 hj0) (lw_V q1553 q1555 qs57 q122 q1556) hv_X8_isLifter ⟨by decide, by decide⟩ ⟨by decide, by decide⟩ rfl rfl (by simp [x_cr, x_c1, x_c2]) dX8_bluff_15) ?_
    rw [e3]
    refine x_if_eq B (tgt := 51) dX8_bluff_18 (by decide) ⟨by omega, by omega⟩ (fun h_18 => ?_) (fun h_18 => ?_)
    · refine x_iconst B dX8_bluff_51 ?_
      refine x_iret B (fun _ _ h => h) ?_ dX8_bluff_52
      exact ⟨hz, by rw [if_neg (by omega)]; exact ⟨rfl, hrz⟩⟩
    · refine x_iload_n B dX8_bluff_21 rfl ?_
      refine x_iload_n B dX8_bluff_22 rfl ?_
      refine x_icmp_eq B (tgt := 51) dX8_bluff_23 (by decide) ⟨by omega, by omega⟩ ⟨by omega, by omega⟩ (fun h_23 => ?_) (fun h_23 => ?_)
      · refine x_iconst B dX8_bluff_51 ?_
        refine x_iret B (fun _ _ h => h) ?_ dX8_bluff_52
        exact ⟨hz, by rw [if_neg (by omega)]; exact ⟨rfl, hrz⟩⟩
      · refine x_iload_n B dX8_bluff_26 rfl ?_
        refine x_i2l B dX8_bluff_27 ⟨by omega, by omega⟩ ?_
        refine x_lconst B 0 dX8_bluff_28 (by decide) ?_
        refine x_ldc2 B (2) q1560 (by decide) dX8_bluff_29 ?_
        refine x_goP (x_rS B (c_X8_in ⟨by omega, by omega⟩ ⟨by omega, by omega⟩ ⟨by omega, by omega⟩) (lw_S q1468 q1469 q122 q1470) hd_X8_in ⟨by decide, by decide⟩ ⟨by decide, by decide⟩ rfl rfl (by simp [x_cr, x_c1, x_c2]) dX8_bluff_32) ?_
        refine x_if_eq B (tgt := 51) dX8_bluff_35 (by decide) ⟨by omega, by omega⟩ (fun h_35 => ?_) (fun h_35 => ?_)
        · refine x_iconst B dX8_bluff_51 ?_
          refine x_iret B (fun _ _ h => h) ?_ dX8_bluff_52
          exact ⟨hz, by rw [if_neg (by omega)]; exact ⟨rfl, hrz⟩⟩
        · refine x_iload B dX8_bluff_38 rfl ?_
          refine x_i2l B dX8_bluff_40 ⟨by omega, by omega⟩ ?_
          refine x_lconst B 0 dX8_bluff_41 (by decide) ?_
          refine x_ldc2 B (2) q1560 (by decide) dX8_bluff_42 ?_
          refine x_goP (x_rS B (c_X8_in ⟨by omega, by omega⟩ ⟨by omega, by omega⟩ ⟨by omega, by omega⟩) (lw_S q1468 q1469 q122 q1470) hd_X8_in ⟨by decide, by decide⟩ ⟨by decide, by decide⟩ rfl rfl (by simp [x_cr, x_c1, x_c2]) dX8_bluff_45) ?_
          refine x_if_ne B (tgt := 53) dX8_bluff_48 (by decide) ⟨by omega, by omega⟩ (fun h_48 => ?_) (fun h_48 => ?_)
          · have hi : 0 ≤ i ∧ i < X 64 3 := by unfold x_in at h_10; split at h_10 <;> omega
            have hj : 0 ≤ j ∧ j < X 64 3 := by unfold x_in at h_18; split at h_18 <;> omega
            have hnd := q_nd_r (t_M X) i j
            have hne9 : i ≠ j := by omega
            have hx : 0 ≤ x ∧ x ≤ 2 := by unfold x_in at h_35; split at h_35 <;> omega
            have hy : 0 ≤ y ∧ y ≤ 2 := by unfold x_in at h_48; split at h_48 <;> omega
            refine x_aload_n B dX8_bluff_53 rfl ?_
            refine x_iload_n B dX8_bluff_54 rfl ?_
            refine x_iload_n B dX8_bluff_55 rfl ?_
            refine x_goP (x_rV B h8 (show x_cl[7]? = some _ from rfl) (c_X8_whyNoDuel C0 (by rw [e3]; exact hi) (by rw [e3]; exact hj)) (lw_V q1845 q1847 qs96 q122 q1848) hv_X8_whyNoDuel ⟨by decide, by decide⟩ ⟨by decide, by decide⟩ rfl rfl (by simp [x_cr, x_c1, x_c2]) dX8_bluff_56) ?_
            rw [eM]
            refine x_istw_5 B dX8_bluff_59 (by first | rfl | exact x_cr _ _) ?_
            refine x_iload B dX8_bluff_61 rfl ?_
            refine x_if_eq B (tgt := 69) dX8_bluff_63 (by decide) ⟨by omega, by omega⟩ (fun h_63 => ?_) (fun h_63 => ?_)
            · refine x_aload_n B dX8_bluff_69 rfl ?_
              refine x_iload_n B dX8_bluff_70 rfl ?_
              refine x_putI B (k := 35) 35 rfl rfl rfl ⟨by omega, by omega⟩ xc_7 (by decide) rfl nn_7_35 (fun _ => rfl) h8 (Or.inl q1370) (fun _ h => h) dX8_bluff_71 ?_
              refine x_aload_n B dX8_bluff_74 rfl ?_
              refine x_iload_n B dX8_bluff_75 rfl ?_
              refine x_putI B (k := 36) 36 rfl rfl rfl ⟨by omega, by omega⟩ xc_7 (by decide) rfl nn_7_36 (fun _ => rfl) h8 (Or.inl q1371) (fun _ h => h) dX8_bluff_76 ?_
              have hh2 : h_eq X (x_up (x_up X0 64 35 i) 64 36 j) := (hz.u64 (Or.inr (Or.inr (by omega)))).u64 (Or.inr (Or.inr (by omega)))
              have hr2 : hr8 X (x_up (x_up X0 64 35 i) 64 36 j) := hrz.trans ⟨by rw [x_up_o _ (by omega), x_up_o _ (by omega)], by rw [x_up_n _ (Or.inr (by omega)), x_up_n _ (Or.inr (by omega))]⟩
              have h35 : (x_up (x_up X0 64 35 i) 64 36 j) 64 35 = i := by rw [x_up_n _ (Or.inr (by omega)), x_up_s]
              have h36 : (x_up (x_up X0 64 35 i) 64 36 j) 64 36 = j := x_up_s _ _ _ _
              generalize (x_up (x_up X0 64 35 i) 64 36 j) = Y2 at hh2 hr2 h35 h36 ⊢
              have hG := g8.mk hC hh2 hi hj hne9 h35 h36 (by omega)
              have hRR := hG.R
              have fi := hG.s (sd := 1) (i := i) (Or.inl ⟨rfl, rfl⟩)
              have fj := hG.s (sd := 0) (i := j) (Or.inr ⟨rfl, rfl⟩)
              refine x_aload_n B dX8_bluff_79 rfl ?_
              refine x_iload_n B dX8_bluff_80 rfl ?_
              refine x_iload B dX8_bluff_81 rfl ?_
              refine x_go (x_rV B h8 (show x_cl[7]? = some _ from rfl) (c_X8_duelAt hG hx hy) (lw_V q1849 q1851 qs97 q122 q1852) hv_X8_duelAt ⟨by decide, by decide⟩ ⟨by decide, by decide⟩ rfl rfl (by simp [x_cr, x_c1, x_c2]) dX8_bluff_83) (fun v_83 X_83 p_83 => ?_)
              obtain ⟨rfl, hd_83, hc_83⟩ := p_83
              have hG_83 := hG.d hd_83
              have hvr_83 := d_of_r (ow := d_ow (t_M X) i j) (fs := d_fs (t_lot X) i j) hRR 5 (t_M X i 3) (t_M X j 3) x y
              have hv2_83 := d_of_r2 (ow := d_ow (t_M X) i j) (fs := d_fs (t_lot X) i j) hRR (x := t_M X i 3) (y := t_M X j 3) (m := x) (o := y) (by omega) (by omega) (by omega) (by omega)
              rw [show d_of (d_ed (t_li X) (t_M X) i j) (d_od (t_O X) (t_M X) i j) (d_ow (t_M X) i j) (d_fs (t_lot X) i j) 5 = q8_dv X i j from rfl] at *
              refine x_istw_6 B dX8_bluff_86 (by first | rfl | exact x_cr _ _) ?_
              refine x_aload_n B dX8_bluff_88 rfl ?_
              refine x_iload_n B dX8_bluff_89 rfl ?_
              refine x_iload B dX8_bluff_90 rfl ?_
              refine x_goV (x_rV B h8 (show x_cl[7]? = some _ from rfl) (c_X8_entersDuel hG_83 hx hy (by rw [hc_83]; exact ⟨by omega, by omega⟩)) (lw_V q1887 q1889 qs105 q122 q1890) hv_X8_entersDuel ⟨by decide, by decide⟩ ⟨by decide, by decide⟩ rfl rfl (by simp [x_cr, x_c1, x_c2]) dX8_bluff_92) ?_
              refine x_iload B dX8_bluff_95 rfl ?_
              refine x_iret B (fun _ _ h => h) ?_ dX8_bluff_97
              have t1 := t_tl1 (x_up X_83 64 1 0) (if d_fs (t_lot X) i j (t_M X i 3) (t_M X j 3) = 0 then j else i) (x_up_s _ _ _ _)
              have t2 := t_tl1 (t_tl (x_up X_83 64 1 0) (if d_fs (t_lot X) i j (t_M X i 3) (t_M X j 3) = 0 then j else i)) (X_83 86 (d_cl (t_M X i 3) (t_M X j 3) x y)) t1.1
              refine ⟨(((hh2.trans hd_83.h).u64 (Or.inr (Or.inl rfl))).tl).tl, ?_⟩
              rw [if_pos ⟨⟨by omega, by omega, by omega⟩, by omega, by omega⟩, if_neg (by omega)]
              exact ⟨rfl, t2.1, (t2.2.2 0 (by omega)).trans t1.2.1, t2.2.1.trans hc_83⟩
            · refine x_iload B dX8_bluff_66 rfl ?_
              refine x_iret B (fun _ _ h => h) ?_ dX8_bluff_68
              refine ⟨hz, ?_⟩
              rw [if_pos ⟨⟨by omega, by omega, by omega⟩, by omega, by omega⟩, if_pos (by omega)]
              exact ⟨rfl, hrz⟩
          · refine x_iconst B dX8_bluff_51 ?_
            refine x_iret B (fun _ _ h => h) ?_ dX8_bluff_52
            exact ⟨hz, by rw [if_neg (by omega)]; exact ⟨rfl, hrz⟩⟩
theorem c_X8_duel {l : Launch} {E : x_E} {κ : x_Ka} {X : x_X} {i j : Int} (hC : t_C κ X) (hi0 : xR i) (hj0 : xR j) : x_Met l yX8_duel cX8_duel 6 (some .int) 8 0 0 E κ X [x_rf E 64, vi i, vi j] κ (fun v_ Y_ => h_eq X Y_ ∧ (if x_in i 0 (X 64 3 - 1) = 1 ∧ x_in j 0 (X 64 3 - 1) = 1 ∧ i ≠ j then (if q_nd (t_M X) i j ≠ 0 then (v_ = some (vi (q_nd (t_M X) i j)) ∧ hr8 X Y_) else (v_ = some (vi (q8_dv X i j (t_M X i 3) (t_M X j 3) (t_M X i 5) (t_M X j 5)).1) ∧ Y_ 64 1 = 3 ∧ Y_ 65 0 = (if (d_fs (t_lot X) i j (t_M X i 3) (t_M X j 3)) = 0 then j else i) ∧ Y_ 65 1 = (q8_dv X i j (t_M X i 3) (t_M X j 3) (t_M X i 5) (t_M X j 5)).2 ∧ Y_ 65 2 = (q8_dv X i j (t_M X i 3) (t_M X j 3) 0 0).1)) else (v_ = some (vi (-1)) ∧ hr8 X Y_))) := by
  refine x_Met.of [(false, x_rf E 64), (false, vi i), (false, vi j)] [some (x_rf E 64), some (vi i), some (vi j), none, none, none] 3 (by decide) rfl rfl ⟨x_cr E (64), rfl, rfl, trivial⟩ rfl rfl ?_
  intro p e s m args below meth c hargs hin B
  obtain ⟨hK, hP, hO, hW, hLa⟩ := id hC
  obtain ⟨hT, h8, hn⟩ := id hK
  have z1 := x_in_01 i 0 (X 64 3 - 1)
  have z2 := x_in_01 j 0 (X 64 3 - 1)
  refine x_aload_n B dX8_duel_0 rfl ?_
  refine x_iconst B dX8_duel_1 ?_
  refine x_putI B (k := 0) 0 rfl rfl rfl ⟨by omega, by omega⟩ xc_7 (by decide) rfl nn_7_0 (fun _ => rfl) h8 (Or.inl q1335) (fun _ h => h) dX8_duel_2 ?_
  have hz : h_eq X (x_up X 64 0 0) := h_eq.z
  have hrz : hr8 X (x_up X 64 0 0) := hr8.z
  have C0 := hz.C hC
  obtain ⟨e3, eM, el, eli, ep, eO, eG⟩ := hz.v
  generalize hX0 : x_up X 64 0 0 = X0 at hz hrz C0 e3 eM el eli ep eO eG ⊢
  obtain ⟨hK0, hP0, hO0, hW0, hL0⟩ := id C0
  refine x_aload_n B dX8_duel_5 rfl ?_
  refine x_iload_n B dX8_duel_6 rfl ?_
  refine x_goP (x_rV B h8 (show x_cl[7]? = some _ from rfl) (c_X8_isLifter hK0 hi0) (lw_V q1553 q1555 qs57 q122 q1556) hv_X8_isLifter ⟨by decide, by decide⟩ ⟨by decide, by decide⟩ rfl rfl (by simp [x_cr, x_c1, x_c2]) dX8_duel_7) ?_
  rw [e3]
  refine x_if_eq B (tgt := 26) dX8_duel_10 (by decide) ⟨by omega, by omega⟩ (fun h_10 => ?_) (fun h_10 => ?_)
  · refine x_iconst B dX8_duel_26 ?_
    refine x_iret B (fun _ _ h => h) ?_ dX8_duel_27
    exact ⟨hz, by rw [if_neg (by omega)]; exact ⟨rfl, hrz⟩⟩
  · refine x_aload_n B dX8_duel_13 rfl ?_
    refine x_iload_n B dX8_duel_14 rfl ?_
    refine x_goP (x_rV B h8 (show x_cl[7]? = some _ from rfl) (c_X8_isLifter hK0 hj0) (lw_V q1553 q1555 qs57 q122 q1556) hv_X8_isLifter ⟨by decide, by decide⟩ ⟨by decide, by decide⟩ rfl rfl (by simp [x_cr, x_c1, x_c2]) dX8_duel_15) ?_
    rw [e3]
    refine x_if_eq B (tgt := 26) dX8_duel_18 (by decide) ⟨by omega, by omega⟩ (fun h_18 => ?_) (fun h_18 => ?_)
    · refine x_iconst B dX8_duel_26 ?_
      refine x_iret B (fun _ _ h => h) ?_ dX8_duel_27
      exact ⟨hz, by rw [if_neg (by omega)]; exact ⟨rfl, hrz⟩⟩
    · refine x_iload_n B dX8_duel_21 rfl ?_
      refine x_iload_n B dX8_duel_22 rfl ?_
      refine x_icmp_ne B (tgt := 28) dX8_duel_23 (by decide) ⟨by omega, by omega⟩ ⟨by omega, by omega⟩ (fun h_23 => ?_) (fun h_23 => ?_)
      · have hi : 0 ≤ i ∧ i < X 64 3 := by unfold x_in at h_10; split at h_10 <;> omega
        have hj : 0 ≤ j ∧ j < X 64 3 := by unfold x_in at h_18; split at h_18 <;> omega
        have hnd := q_nd_r (t_M X) i j
        have hne9 : i ≠ j := by omega
        refine x_aload_n B dX8_duel_28 rfl ?_
        refine x_iload_n B dX8_duel_29 rfl ?_
        refine x_iload_n B dX8_duel_30 rfl ?_
        refine x_goP (x_rV B h8 (show x_cl[7]? = some _ from rfl) (c_X8_whyNoDuel C0 (by rw [e3]; exact hi) (by rw [e3]; exact hj)) (lw_V q1845 q1847 qs96 q122 q1848) hv_X8_whyNoDuel ⟨by decide, by decide⟩ ⟨by decide, by decide⟩ rfl rfl (by simp [x_cr, x_c1, x_c2]) dX8_duel_31) ?_
        rw [eM]
        refine x_ist_3 B dX8_duel_34 (by first | rfl | exact x_cr _ _) ?_
        refine x_iload_n B dX8_duel_35 rfl ?_
        refine x_if_eq B (tgt := 41) dX8_duel_36 (by decide) ⟨by omega, by omega⟩ (fun h_36 => ?_) (fun h_36 => ?_)
        · refine x_aload_n B dX8_duel_41 rfl ?_
          refine x_iload_n B dX8_duel_42 rfl ?_
          refine x_putI B (k := 35) 35 rfl rfl rfl ⟨by omega, by omega⟩ xc_7 (by decide) rfl nn_7_35 (fun _ => rfl) h8 (Or.inl q1370) (fun _ h => h) dX8_duel_43 ?_
          refine x_aload_n B dX8_duel_46 rfl ?_
          refine x_iload_n B dX8_duel_47 rfl ?_
          refine x_putI B (k := 36) 36 rfl rfl rfl ⟨by omega, by omega⟩ xc_7 (by decide) rfl nn_7_36 (fun _ => rfl) h8 (Or.inl q1371) (fun _ h => h) dX8_duel_48 ?_
          have hh2 : h_eq X (x_up (x_up X0 64 35 i) 64 36 j) := (hz.u64 (Or.inr (Or.inr (by omega)))).u64 (Or.inr (Or.inr (by omega)))
          have hr2 : hr8 X (x_up (x_up X0 64 35 i) 64 36 j) := hrz.trans ⟨by rw [x_up_o _ (by omega), x_up_o _ (by omega)], by rw [x_up_n _ (Or.inr (by omega)), x_up_n _ (Or.inr (by omega))]⟩
          have h35 : (x_up (x_up X0 64 35 i) 64 36 j) 64 35 = i := by rw [x_up_n _ (Or.inr (by omega)), x_up_s]
          have h36 : (x_up (x_up X0 64 35 i) 64 36 j) 64 36 = j := x_up_s _ _ _ _
          generalize (x_up (x_up X0 64 35 i) 64 36 j) = Y2 at hh2 hr2 h35 h36 ⊢
          have hG := g8.mk hC hh2 hi hj hne9 h35 h36 (by omega)
          have hRR := hG.R
          have fi := hG.s (sd := 1) (i := i) (Or.inl ⟨rfl, rfl⟩)
          have fj := hG.s (sd := 0) (i := j) (Or.inr ⟨rfl, rfl⟩)
          have wi := hW.2.1 i hi.1 hi.2
          have wj := hW.2.1 j hj.1 hj.2
          have i5 : t_M X i 5 = X 72 (3 + 10 * i + 5) := t_M_s hi (by decide) (by omega) (by omega)
          have j5 : t_M X j 5 = X 72 (3 + 10 * j + 5) := t_M_s hj (by decide) (by omega) (by omega)
          refine x_aload_n B dX8_duel_51 rfl ?_
          refine x_iconst B dX8_duel_52 ?_
          refine x_iconst B dX8_duel_53 ?_
          refine x_go (x_rV B h8 (show x_cl[7]? = some _ from rfl) (c_X8_duelAt hG ⟨by omega, by omega⟩ ⟨by omega, by omega⟩) (lw_V q1849 q1851 qs97 q122 q1852) hv_X8_duelAt ⟨by decide, by decide⟩ ⟨by decide, by decide⟩ rfl rfl (by simp [x_cr, x_c1, x_c2]) dX8_duel_54) (fun v_54 X_54 p_54 => ?_)
          obtain ⟨rfl, hd_54, hc_54⟩ := p_54
          have hG_54 := hG.d hd_54
          have hvr_54 := d_of_r (ow := d_ow (t_M X) i j) (fs := d_fs (t_lot X) i j) hRR 5 (t_M X i 3) (t_M X j 3) 0 0
          have hv2_54 := d_of_r2 (ow := d_ow (t_M X) i j) (fs := d_fs (t_lot X) i j) hRR (x := t_M X i 3) (y := t_M X j 3) (m := 0) (o := 0) (by omega) (by omega) (by omega) (by omega)
          rw [show d_of (d_ed (t_li X) (t_M X) i j) (d_od (t_O X) (t_M X) i j) (d_ow (t_M X) i j) (d_fs (t_lot X) i j) 5 = q8_dv X i j from rfl] at *
          have hq72_X54 : X_54 72 = X 72 := (hd_54 72 (by omega) (by omega)).trans (hh2.1 72 (by omega) (by omega) (by omega))
          refine x_istw_4 B dX8_duel_57 (by first | rfl | exact x_cr _ _) ?_
          refine x_aload_n B dX8_duel_59 rfl ?_
          refine x_aload_n B dX8_duel_60 rfl ?_
          refine x_iload_n B dX8_duel_61 rfl ?_
          refine x_iconst B dX8_duel_62 ?_
          refine x_goP (x_rV B h8 (show x_cl[7]? = some _ from rfl) (c_X8_of hT h8 ⟨by omega, by omega⟩) (lw_V q1525 q1527 qs52 q122 q1528) hv_X8_of ⟨by decide, by decide⟩ ⟨by decide, by decide⟩ rfl rfl (by simp [x_cr, x_c1, x_c2]) dX8_duel_63) ?_
          rw [show X_54 72 (3 + 10 * i + 5) = t_M X i 5 by rw [i5, hq72_X54]]
          refine x_aload_n B dX8_duel_66 rfl ?_
          refine x_iload_n B dX8_duel_67 rfl ?_
          refine x_iconst B dX8_duel_68 ?_
          refine x_goP (x_rV B h8 (show x_cl[7]? = some _ from rfl) (c_X8_of hT h8 ⟨by omega, by omega⟩) (lw_V q1525 q1527 qs52 q122 q1528) hv_X8_of ⟨by decide, by decide⟩ ⟨by decide, by decide⟩ rfl rfl (by simp [x_cr, x_c1, x_c2]) dX8_duel_69) ?_
          rw [show X_54 72 (3 + 10 * j + 5) = t_M X j 5 by rw [j5, hq72_X54]]
          refine x_go (x_rV B h8 (show x_cl[7]? = some _ from rfl) (c_X8_duelAt hG_54 ⟨by omega, by omega⟩ ⟨by omega, by omega⟩) (lw_V q1849 q1851 qs97 q122 q1852) hv_X8_duelAt ⟨by decide, by decide⟩ ⟨by decide, by decide⟩ rfl rfl (by simp [x_cr, x_c1, x_c2]) dX8_duel_72) (fun v_72 X_72 p_72 => ?_)
          obtain ⟨rfl, hd_72, hc_72⟩ := p_72
          have hG_72 := hG_54.d hd_72
          have hvr_72 := d_of_r (ow := d_ow (t_M X) i j) (fs := d_fs (t_lot X) i j) hRR 5 (t_M X i 3) (t_M X j 3) (t_M X i 5) (t_M X j 5)
          have hv2_72 := d_of_r2 (ow := d_ow (t_M X) i j) (fs := d_fs (t_lot X) i j) hRR (x := t_M X i 3) (y := t_M X j 3) (m := (t_M X i 5)) (o := (t_M X j 5)) (by omega) (by omega) (by omega) (by omega)
          rw [show d_of (d_ed (t_li X) (t_M X) i j) (d_od (t_O X) (t_M X) i j) (d_ow (t_M X) i j) (d_fs (t_lot X) i j) 5 = q8_dv X i j from rfl] at *
          have hq72_X72 : X_72 72 = X 72 := (hd_72 72 (by omega) (by omega)).trans hq72_X54
          refine x_istw_5 B dX8_duel_75 (by first | rfl | exact x_cr _ _) ?_
          refine x_aload_n B dX8_duel_77 rfl ?_
          refine x_aload_n B dX8_duel_78 rfl ?_
          refine x_iload_n B dX8_duel_79 rfl ?_
          refine x_iconst B dX8_duel_80 ?_
          refine x_goP (x_rV B h8 (show x_cl[7]? = some _ from rfl) (c_X8_of hT h8 ⟨by omega, by omega⟩) (lw_V q1525 q1527 qs52 q122 q1528) hv_X8_of ⟨by decide, by decide⟩ ⟨by decide, by decide⟩ rfl rfl (by simp [x_cr, x_c1, x_c2]) dX8_duel_81) ?_
          rw [show X_72 72 (3 + 10 * i + 5) = t_M X i 5 by rw [i5, hq72_X72]]
          refine x_aload_n B dX8_duel_84 rfl ?_
          refine x_iload_n B dX8_duel_85 rfl ?_
          refine x_iconst B dX8_duel_86 ?_
          refine x_goP (x_rV B h8 (show x_cl[7]? = some _ from rfl) (c_X8_of hT h8 ⟨by omega, by omega⟩) (lw_V q1525 q1527 qs52 q122 q1528) hv_X8_of ⟨by decide, by decide⟩ ⟨by decide, by decide⟩ rfl rfl (by simp [x_cr, x_c1, x_c2]) dX8_duel_87) ?_
          rw [show X_72 72 (3 + 10 * j + 5) = t_M X j 5 by rw [j5, hq72_X72]]
          refine x_goV (x_rV B h8 (show x_cl[7]? = some _ from rfl) (c_X8_entersDuel hG_72 ⟨by omega, by omega⟩ ⟨by omega, by omega⟩ (by rw [hc_72]; exact ⟨by omega, by omega⟩)) (lw_V q1887 q1889 qs105 q122 q1890) hv_X8_entersDuel ⟨by decide, by decide⟩ ⟨by decide, by decide⟩ rfl rfl (by simp [x_cr, x_c1, x_c2]) dX8_duel_90) ?_
          have t1 := t_tl1 (x_up X_72 64 1 0) (if d_fs (t_lot X) i j (t_M X i 3) (t_M X j 3) = 0 then j else i) (x_up_s _ _ _ _)
          have t2 := t_tl1 (t_tl (x_up X_72 64 1 0) (if d_fs (t_lot X) i j (t_M X i 3) (t_M X j 3) = 0 then j else i)) (X_72 86 (d_cl (t_M X i 3) (t_M X j 3) (t_M X i 5) (t_M X j 5))) t1.1
          have hhT := (((hh2.trans (hd_54.trans hd_72).h).u64 (i := 1) (z := 0) (Or.inr (Or.inl rfl))).tl (z := (if d_fs (t_lot X) i j (t_M X i 3) (t_M X j 3) = 0 then j else i))).tl (z := X_72 86 (d_cl (t_M X i 3) (t_M X j 3) (t_M X i 5) (t_M X j 5)))
          refine x_aload_n B dX8_duel_93 rfl ?_
          refine x_iload B dX8_duel_94 rfl ?_
          refine x_i2l B dX8_duel_96 ⟨by omega, by omega⟩ ?_
          refine x_goV (x_rV B h8 (show x_cl[7]? = some _ from rfl) (c_X8_notes hT h8 ⟨by rw [t2.1]; omega, by rw [t2.1]; omega⟩ ⟨by omega, by omega⟩) (lw_V q1616 q1618 qs65 q122 q1619) hv_X8_notes ⟨by decide, by decide⟩ ⟨by decide, by decide⟩ rfl rfl (by simp [x_cr, x_c1, x_c2]) dX8_duel_97) ?_
          refine x_iload B dX8_duel_100 rfl ?_
          refine x_iret B (fun _ _ h => h) ?_ dX8_duel_102
          have t3 := t_tl1 _ (q8_dv X i j (t_M X i 3) (t_M X j 3) 0 0).1 t2.1
          refine ⟨hhT.tl, ?_⟩
          rw [if_pos ⟨by omega, by omega, by omega⟩, if_neg (by omega)]
          exact ⟨rfl, t3.1, (t3.2.2 0 (by omega)).trans ((t2.2.2 0 (by omega)).trans t1.2.1), (t3.2.2 1 (by omega)).trans (t2.2.1.trans hc_72), t3.2.1⟩
        · refine x_iload_n B dX8_duel_39 rfl ?_
          refine x_iret B (fun _ _ h => h) ?_ dX8_duel_40
          refine ⟨hz, ?_⟩
          rw [if_pos ⟨by omega, by omega, by omega⟩, if_pos (by omega)]
          exact ⟨rfl, hrz⟩
      · refine x_iconst B dX8_duel_26 ?_
        refine x_iret B (fun _ _ h => h) ?_ dX8_duel_27
        exact ⟨hz, by rw [if_neg (by omega)]; exact ⟨rfl, hrz⟩⟩
