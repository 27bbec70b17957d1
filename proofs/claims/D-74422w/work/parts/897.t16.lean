def q8_lA (X : x_X) (i w : Int) : Int → Int := if w = 0 then (fun v => 1000 * v) else g_wn (q8_bt X) (X 64 3) i
def q8_li (X : x_X) (i w g : Int) : Int × (Int → Int) := q_ln (t_O X i) (q8_lA X i w) (t_M X) i g
theorem c_X8_line_1 {l : Launch} {E : x_E} {κ : x_Ka} {X : x_X} {i w : Int} (hC : t_C κ X) (hQ : m_Q (X 64 3) (t_M X)) (hx : xR i) (hy : xR w) : x_Met l yX8_line cX8_line 9 (some .int) 33 0 0 E κ X [x_rf E 64, vi i, vi w, vi 1] κ (fun v_ Y_ => h_eq X Y_ ∧ (if x_in i 0 (X 64 3 - 1) = 1 ∧ x_in w 0 1 = 1 then (v_ = some (vi (q8_li X i w 1).1) ∧ Y_ 64 1 = (q8_li X i w 1).1 ∧ ∀ k, 0 ≤ k → k < (q8_li X i w 1).1 → Y_ 65 k = (q8_li X i w 1).2 k) else (v_ = some (vi (-1)) ∧ hr8 X Y_))) := by
  refine x_Met.of [(false, x_rf E 64), (false, vi i), (false, vi w), (false, vi 1)] [some (x_rf E 64), some (vi i), some (vi w), some (vi 1), none, none, none, none, none] 5 (by decide) rfl rfl ⟨x_cr E (64), rfl, rfl, rfl, trivial⟩ rfl rfl ?_
  intro p e s m args below meth c hargs hin B
  obtain ⟨hK, hP, hO, hW, hLa⟩ := id hC
  obtain ⟨hT, h8, hn⟩ := id hK
  have z1 := x_in_01 i 0 (X 64 3 - 1)
  have z2 := x_in_01 w 0 1
  have lp_82 : ∀ (n : Nat) (kf : Nat) (t sum tr fl best least n0 : Int) (R : Int → Int) (Y : x_X), (((0 ≤ i ∧ i < X 64 3) ∧ (0 ≤ w ∧ w ≤ 1) ∧ t_M X i 7 = 0 ∧ (t_M X (-1) 1) ≠ 3) ∧ ((t_M X (-1) 1) ≤ t ∧ t ≤ 3 ∧ 3 ≤ (kf : Int) + t) ∧ (0 ≤ sum ∧ sum ≤ 40 * t) ∧ (h_eq X Y ∧ e8 κ Y (t_O X i) (q8_lA X i w) i) ∧ (t = (t_M X (-1) 1) → tr = (if (m_least (t_M X) i) = 0 then 3 else (t_M X (-1) 2 + t_M X i 6)) ∧ fl = t_M X i 2 ∧ best = (t_M X i (10 + t_M X (-1) 1)) ∧ least = (m_least (t_M X) i)) ∧ (t ≠ (t_M X (-1) 1) → tr = (if (1 : Int) = 0 then 3 else 0) ∧ fl = 0 ∧ best = 0 ∧ least = 1) ∧ (Y 64 1 = n0 ∧ 0 ≤ n0 ∧ n0 ≤ 3 * t ∧ ∀ k, 0 ≤ k → k < n0 → Y 65 k = R k) ∧ q8_li X i w 1 = e_out (t_O X i) (q8_lA X i w) 1 kf t sum tr fl best least n0 R) → ((4 - t).toNat < n) → x_G p l e (x_rm 33 0 0) s m args below meth c 9 E 0 0 (MQ below (x_Q E κ (fun v_ Y_ => h_eq X Y_ ∧ (if x_in i 0 (X 64 3 - 1) = 1 ∧ x_in w 0 1 = 1 then (v_ = some (vi (q8_li X i w 1).1) ∧ Y_ 64 1 = (q8_li X i w 1).1 ∧ ∀ k, 0 ≤ k → k < (q8_li X i w 1).1 → Y_ 65 k = (q8_li X i w 1).2 k) else (v_ = some (vi (-1)) ∧ hr8 X Y_)))) args s 0 0 (fun q => E.1 ≤ q)) κ 82 [some (x_rf E 64), some (vi i), some (vi w), some (vi 1), some (vi (t_M X (-1) 1)), some (vi sum), some (vi t), none, none] [] Y := by
    intro n
    induction n with
    | zero => intro kf t sum tr fl best least n0 R Y hinv hme; exfalso; omega
    | succ n ih =>
      intro kf t sum tr fl best least n0 R Y hinv hme
      obtain ⟨⟨hi, hw, h7, hL3⟩, ht, hs, ⟨hh, hE⟩, hfst, hoth, ⟨y1, hn0, hn3, hR⟩, he⟩ := hinv
      have s2 : t_M X i 2 = X 72 (3 + 10 * i + 4) := t_M_s hi (by decide) (by omega) (by omega)
      have s3 : t_M X i 3 = X 72 (3 + 10 * i + 0) := t_M_s hi (by decide) (by omega) (by omega)
      have s6 : t_M X i 6 = X 72 (3 + 10 * i + 1) := t_M_s hi (by decide) (by omega) (by omega)
      have s7 : t_M X i 7 = X 72 (3 + 10 * i + 6) := t_M_s hi (by decide) (by omega) (by omega)
      have g1 : t_M X (-1) 1 = X 72 0 := t_M_g (by omega)
      have w1 := hW.1
      have w2 := hW.2.1 i hi.1 hi.2
      have w3 := hW.2.2 i hi.1 hi.2
      have sr := m_sum_r hW hi.1 hi.2
      have lr := m_least_r hW hi.1 hi.2
      have hQa := hQ i hi.1 hi.2
      have hm := m_rest hW hi.1 hi.2 h7 hL3
      refine x_iload B dX8_line_82 rfl ?_
      refine x_iconst B dX8_line_84 ?_
      refine x_icmp_ge B (tgt := 206) dX8_line_85 (by decide) ⟨by omega, by omega⟩ ⟨by omega, by omega⟩ (fun h_85 => ?_) (fun h_85 => ?_)
      · rw [e_out_e (by omega)] at he
        refine x_aload_n B dX8_line_206 rfl ?_
        refine x_getI B (k := 1) 1 rfl rfl xc_7 (by decide) h8 (Or.inl q1336) (fun _ h => h) dX8_line_207 (fun r_207 => ?_)
        rw [y1] at r_207 ⊢
        refine x_iret B (fun _ _ h => h) ?_ dX8_line_210
        refine ⟨hh, ?_⟩
        rw [if_pos ⟨by unfold x_in; rw [if_pos (by omega)], by unfold x_in; rw [if_pos (by omega)]⟩]
        rw [he]
        exact ⟨rfl, y1, hR⟩
      · refine x_aload_n B dX8_line_88 rfl ?_
        refine x_iload_n B dX8_line_89 rfl ?_
        refine x_iload B dX8_line_90 rfl ?_
        refine x_go (x_rV B h8 (show x_cl[7]? = some _ from rfl) (c_X8_laysBehind hE ⟨by omega, by omega⟩) (lw_V q1790 q1792 qs90 q122 q1793) hv_X8_laysBehind ⟨by decide, by decide⟩ ⟨by decide, by decide⟩ rfl rfl (by simp [x_cr, x_c1, x_c2]) dX8_line_92) (fun v_92 X_92 p_92 => ?_)
        obtain ⟨rfl, hz9, hU⟩ := p_92
        have hh9 := hh.trans hz9.h
        have hE9 := hE.z hz9
        have C9 := hh9.C hC
        obtain ⟨k3, kM, -, -, -, kO, -⟩ := hh9.v
        obtain ⟨hK9, hP9, hO9, hW9, hL9⟩ := id C9
        have k72 : X_92 72 = X 72 := hh9.1 72 (by omega) (by omega) (by omega)
        have k1 : X_92 64 1 = n0 := (hz9.2 1 (by omega)).trans y1
        have hR9 : ∀ k, 0 ≤ k → k < X_92 64 1 → X_92 65 k = R k := fun k q1 q2 => by rw [hz9.1 65 (by omega) (by omega) (by omega)]; exact hR k q1 (by omega)
        obtain ⟨kf, rfl⟩ : ∃ g, kf = g + 1 := ⟨kf - 1, by omega⟩
        rw [e_out_s (by omega)] at he
        refine x_iload B dX8_line_95 rfl ?_
        refine x_iload B dX8_line_97 rfl ?_
        refine x_icmp_ne B (tgt := 106) dX8_line_99 (by decide) ⟨by omega, by omega⟩ ⟨by omega, by omega⟩ (fun h_99 => ?_) (fun h_99 => ?_)
        · obtain ⟨rfl, rfl, rfl, rfl⟩ := hoth (by omega)
          have hxx : (0 : Int) < 3 → 1 ≤ (1 : Int) → (0 : Int) ≤ 0 ∧ (0 : Int) < 1 ∧ ((0 : Int) = 0 → (0 : Int) = 0) := fun _ _ => ⟨by omega, by omega, fun _ => rfl⟩
          refine x_iconst B dX8_line_106 ?_
          refine x_istw_7 B dX8_line_107 (by first | rfl | exact x_cr _ _) ?_
          refine x_aload_n B dX8_line_109 rfl ?_
          refine x_iload_n B dX8_line_110 rfl ?_
          refine x_iload B dX8_line_111 rfl ?_
          refine x_iload B dX8_line_113 rfl ?_
          refine x_if_eq B (tgt := 126) dX8_line_115 (by decide) ⟨by omega, by omega⟩ (fun h_115 => ?_) (fun h_115 => (by exfalso; omega))
          refine x_iconst B dX8_line_126 ?_
          refine x_iload B dX8_line_127 rfl ?_
          refine x_if_eq B (tgt := 140) dX8_line_129 (by decide) ⟨by omega, by omega⟩ (fun h_129 => ?_) (fun h_129 => (by exfalso; omega))
          refine x_iconst B dX8_line_140 ?_
          refine x_iload B dX8_line_141 rfl ?_
          refine x_if_eq B (tgt := 155) dX8_line_143 (by decide) ⟨by omega, by omega⟩ (fun h_143 => ?_) (fun h_143 => (by exfalso; omega))
          refine x_iconst B dX8_line_155 ?_
          refine x_iload B dX8_line_156 rfl ?_
          refine x_if_eq B (tgt := 174) dX8_line_158 (by decide) ⟨by omega, by omega⟩ (fun h_158 => ?_) (fun h_158 => (by exfalso; omega))
          refine x_iconst B dX8_line_174 ?_
          refine x_iload B dX8_line_175 rfl ?_
          refine x_iload_n B dX8_line_177 rfl ?_
          refine x_go (x_rV B h8 (show x_cl[7]? = some _ from rfl) (c_X8_follows_1 (O := (t_O X i)) (A := (q8_lA X i w)) (R0 := R) hE9 ⟨by omega, by omega⟩ hs ⟨by omega, by omega⟩ ⟨by omega, by omega⟩ ⟨by omega, by omega⟩ ⟨by omega, by omega⟩ hxx (hU _ (by omega) (by omega)) ⟨by omega, by omega⟩ hR9) (lw_V q1837 q1839 qs95 q122 q1840) hv_X8_follows ⟨by decide, by decide⟩ ⟨by decide, by decide⟩ rfl rfl (by simp [x_cr, x_c1, x_c2]) dX8_line_178) (fun v_178 X_178 p_178 => ?_)
          rw [k1] at p_178
          obtain ⟨rfl, hhF, ⟨f80, f83⟩, f1, fR, fv, fn⟩ := p_178
          unfold e_re at he
          have hhF2 := hh9.trans hhF
          have hEF := hE9.h hhF f80
          refine x_istw_8 B dX8_line_181 (by first | rfl | exact x_cr _ _) ?_
          refine x_iload B dX8_line_183 rfl ?_
          refine x_if_ne B (tgt := 193) dX8_line_185 (by decide) ⟨by omega, by omega⟩ (fun h_185 => ?_) (fun h_185 => ?_)
          · rw [if_neg h_185] at he
            refine x_iload B dX8_line_193 rfl ?_
            refine x_iload B dX8_line_195 rfl ?_
            refine x_iadd B dX8_line_197 ?_
            refine x_istw_5 B dX8_line_198 (by first | rfl | exact x_cr _ _) ?_
            refine x_iinc_6 B dX8_line_200 (by first | rfl | exact x_cr _ _) ?_
            refine x_goto B (tgt := 82) dX8_line_203 (by decide) ?_
            refine x_fg_7 ?_
            refine x_fg_8 ?_
            refine ih _ _ _ _ _ _ _ _ _ _ ⟨⟨hi, hw, h7, hL3⟩, ⟨by omega, by omega, by omega⟩, ⟨by omega, by omega⟩, ⟨hhF2, hEF⟩, fun q => by omega, fun _ => ⟨rfl, rfl, rfl, rfl⟩, ⟨f1, by omega, by omega, fR⟩, he⟩ (by omega)
          · rw [if_pos h_185] at he
            refine x_aload_n B dX8_line_188 rfl ?_
            refine x_getI B (k := 1) 1 rfl rfl xc_7 (by decide) h8 (Or.inl q1336) (fun _ h => h) dX8_line_189 (fun r_189 => ?_)
            rw [f1] at r_189 ⊢
            refine x_iret B (fun _ _ h => h) ?_ dX8_line_192
            refine ⟨hhF2, ?_⟩
            rw [if_pos ⟨by unfold x_in; rw [if_pos (by omega)], by unfold x_in; rw [if_pos (by omega)]⟩]
            rw [he]
            exact ⟨rfl, f1, fR⟩
        · obtain rfl : t = (t_M X (-1) 1) := by omega
          obtain ⟨rfl, rfl, rfl, rfl⟩ := hfst rfl
          have hti : ti (10 + X 72 0) = 7 + X 72 0 := by rcases (show X 72 0 = 0 ∨ X 72 0 = 1 ∨ X 72 0 = 2 by omega) with e | e | e <;> rw [e] <;> decide
          have sb : t_M X i (10 + t_M X (-1) 1) = X 72 (3 + 10 * i + (7 + t_M X (-1) 1)) := by rw [g1]; exact t_M_s hi hti (by omega) (by omega)
          have hq3 := w3.2.2.2.2
          have hxx : (t_M X (-1) 2 + t_M X i 6) < 3 → 1 ≤ (m_least (t_M X) i) → t_M X i 2 ≤ (t_M X (-1) 2 + t_M X i 6) ∧ (t_M X i (10 + t_M X (-1) 1)) < (m_least (t_M X) i) ∧ (t_M X i 2 = (t_M X (-1) 2 + t_M X i 6) → (t_M X i (10 + t_M X (-1) 1)) = 0) := fun q1 q2 => by
            have hl0 : t_M X i 3 ≠ 0 := by intro q; unfold m_least at q2; rw [if_pos q] at q2; omega
            have hq3 := hq3 (by omega)
            have hbl : (t_M X i (10 + t_M X (-1) 1)) < (m_least (t_M X) i) := by unfold m_least; rw [if_neg hl0]; split <;> omega
            exact ⟨hq3.2.2.1, hbl, hq3.2.2.2⟩
          refine x_iconst B dX8_line_102 ?_
          refine x_goto B (tgt := 107) dX8_line_103 (by decide) ?_
          refine x_istw_7 B dX8_line_107 (by first | rfl | exact x_cr _ _) ?_
          refine x_aload_n B dX8_line_109 rfl ?_
          refine x_iload_n B dX8_line_110 rfl ?_
          refine x_iload B dX8_line_111 rfl ?_
          refine x_iload B dX8_line_113 rfl ?_
          refine x_if_eq B (tgt := 126) dX8_line_115 (by decide) ⟨by omega, by omega⟩ (fun h_115 => (by exfalso; omega)) (fun h_115 => ?_)
          refine x_aload_n B dX8_line_118 rfl ?_
          refine x_iload_n B dX8_line_119 rfl ?_
          refine x_goP (x_rV B h8 (show x_cl[7]? = some _ from rfl) (c_X8_roundOf hK9 hW9 (by rw [k3]; exact hi)) (lw_V q1697 q1699 qs77 q122 q1700) hv_X8_roundOf ⟨by decide, by decide⟩ ⟨by decide, by decide⟩ rfl rfl (by simp [x_cr, x_c1, x_c2]) dX8_line_120) ?_
          rw [kM]
          refine x_goto B (tgt := 127) dX8_line_123 (by decide) ?_
          refine x_iload B dX8_line_127 rfl ?_
          refine x_if_eq B (tgt := 140) dX8_line_129 (by decide) ⟨by omega, by omega⟩ (fun h_129 => (by exfalso; omega)) (fun h_129 => ?_)
          refine x_aload_n B dX8_line_132 rfl ?_
          refine x_iload_n B dX8_line_133 rfl ?_
          refine x_goP (x_rV B h8 (show x_cl[7]? = some _ from rfl) (c_X8_leastOf hK9 hW9.V hL9 (by rw [k3]; exact hi)) (lw_V q1589 q1591 qs60 q122 q1592) hv_X8_leastOf ⟨by decide, by decide⟩ ⟨by decide, by decide⟩ rfl rfl (by simp [x_cr, x_c1, x_c2]) dX8_line_134) ?_
          rw [kM]
          refine x_goto B (tgt := 141) dX8_line_137 (by decide) ?_
          refine x_iload B dX8_line_141 rfl ?_
          refine x_if_eq B (tgt := 155) dX8_line_143 (by decide) ⟨by omega, by omega⟩ (fun h_143 => (by exfalso; omega)) (fun h_143 => ?_)
          refine x_aload_n B dX8_line_146 rfl ?_
          refine x_iload_n B dX8_line_147 rfl ?_
          refine x_iconst B dX8_line_148 ?_
          refine x_goP (x_rV B h8 (show x_cl[7]? = some _ from rfl) (c_X8_of hT h8 ⟨by omega, by omega⟩) (lw_V q1525 q1527 qs52 q122 q1528) hv_X8_of ⟨by decide, by decide⟩ ⟨by decide, by decide⟩ rfl rfl (by simp [x_cr, x_c1, x_c2]) dX8_line_149) ?_
          rw [k72, ← s2]
          refine x_goto B (tgt := 156) dX8_line_152 (by decide) ?_
          refine x_iload B dX8_line_156 rfl ?_
          refine x_if_eq B (tgt := 174) dX8_line_158 (by decide) ⟨by omega, by omega⟩ (fun h_158 => (by exfalso; omega)) (fun h_158 => ?_)
          refine x_aload_n B dX8_line_161 rfl ?_
          refine x_iload_n B dX8_line_162 rfl ?_
          refine x_bipush B dX8_line_163 (by decide) ?_
          refine x_iload B dX8_line_165 rfl ?_
          refine x_iadd B dX8_line_167 ?_
          refine x_goP (x_rV B h8 (show x_cl[7]? = some _ from rfl) (c_X8_of hT h8 ⟨by omega, by omega⟩) (lw_V q1525 q1527 qs52 q122 q1528) hv_X8_of ⟨by decide, by decide⟩ ⟨by decide, by decide⟩ rfl rfl (by simp [x_cr, x_c1, x_c2]) dX8_line_168) ?_
          rw [k72, ← sb]
          refine x_goto B (tgt := 175) dX8_line_171 (by decide) ?_
          refine x_iload B dX8_line_175 rfl ?_
          refine x_iload_n B dX8_line_177 rfl ?_
          refine x_go (x_rV B h8 (show x_cl[7]? = some _ from rfl) (c_X8_follows_1 (O := (t_O X i)) (A := (q8_lA X i w)) (R0 := R) hE9 ⟨by omega, by omega⟩ hs ⟨by omega, by omega⟩ ⟨by omega, by omega⟩ ⟨by omega, by omega⟩ ⟨by omega, by omega⟩ hxx (hU _ (by omega) (by omega)) ⟨by omega, by omega⟩ hR9) (lw_V q1837 q1839 qs95 q122 q1840) hv_X8_follows ⟨by decide, by decide⟩ ⟨by decide, by decide⟩ rfl rfl (by simp [x_cr, x_c1, x_c2]) dX8_line_178) (fun v_178 X_178 p_178 => ?_)
          rw [k1] at p_178
          obtain ⟨rfl, hhF, ⟨f80, f83⟩, f1, fR, fv, fn⟩ := p_178
          unfold e_re at he
          have hhF2 := hh9.trans hhF
          have hEF := hE9.h hhF f80
          refine x_istw_8 B dX8_line_181 (by first | rfl | exact x_cr _ _) ?_
          refine x_iload B dX8_line_183 rfl ?_
          refine x_if_ne B (tgt := 193) dX8_line_185 (by decide) ⟨by omega, by omega⟩ (fun h_185 => ?_) (fun h_185 => ?_)
          · rw [if_neg h_185] at he
            refine x_iload B dX8_line_193 rfl ?_
            refine x_iload B dX8_line_195 rfl ?_
            refine x_iadd B dX8_line_197 ?_
            refine x_istw_5 B dX8_line_198 (by first | rfl | exact x_cr _ _) ?_
            refine x_iinc_6 B dX8_line_200 (by first | rfl | exact x_cr _ _) ?_
            refine x_goto B (tgt := 82) dX8_line_203 (by decide) ?_
            refine x_fg_7 ?_
            refine x_fg_8 ?_
            refine ih _ _ _ _ _ _ _ _ _ _ ⟨⟨hi, hw, h7, hL3⟩, ⟨by omega, by omega, by omega⟩, ⟨by omega, by omega⟩, ⟨hhF2, hEF⟩, fun q => by omega, fun _ => ⟨rfl, rfl, rfl, rfl⟩, ⟨f1, by omega, by omega, fR⟩, he⟩ (by omega)
          · rw [if_pos h_185] at he
            refine x_aload_n B dX8_line_188 rfl ?_
            refine x_getI B (k := 1) 1 rfl rfl xc_7 (by decide) h8 (Or.inl q1336) (fun _ h => h) dX8_line_189 (fun r_189 => ?_)
            rw [f1] at r_189 ⊢
            refine x_iret B (fun _ _ h => h) ?_ dX8_line_192
            refine ⟨hhF2, ?_⟩
            rw [if_pos ⟨by unfold x_in; rw [if_pos (by omega)], by unfold x_in; rw [if_pos (by omega)]⟩]
            rw [he]
            exact ⟨rfl, f1, fR⟩
  refine x_aload_n B dX8_line_0 rfl ?_
  refine x_iconst B dX8_line_1 ?_
  refine x_putI B (k := 0) 0 rfl rfl rfl ⟨by omega, by omega⟩ xc_7 (by decide) rfl nn_7_0 (fun _ => rfl) h8 (Or.inl q1335) (fun _ h => h) dX8_line_2 ?_
  have hz : h_eq X (x_up X 64 0 0) := h_eq.z
  have hrz : hr8 X (x_up X 64 0 0) := hr8.z
  have C0 := hz.C hC
  obtain ⟨e3, eM, el, eli, ep, eO, eG⟩ := hz.v
  generalize hX0 : x_up X 64 0 0 = X0 at hz hrz C0 e3 eM el eli ep eO eG ⊢
  obtain ⟨hK0, hP0, hO0, hW0, hL0⟩ := id C0
  refine x_aload_n B dX8_line_5 rfl ?_
  refine x_iload_n B dX8_line_6 rfl ?_
  refine x_goP (x_rV B h8 (show x_cl[7]? = some _ from rfl) (c_X8_isLifter hK0 hx) (lw_V q1553 q1555 qs57 q122 q1556) hv_X8_isLifter ⟨by decide, by decide⟩ ⟨by decide, by decide⟩ rfl rfl (by simp [x_cr, x_c1, x_c2]) dX8_line_7) ?_
  rw [e3]
  refine x_if_eq B (tgt := 23) dX8_line_10 (by decide) ⟨by omega, by omega⟩ (fun h_10 => ?_) (fun h_10 => ?_)
  · refine x_iconst B dX8_line_23 ?_
    refine x_iret B (fun _ _ h => h) ?_ dX8_line_24
    exact ⟨hz, by rw [if_neg (by omega)]; exact ⟨rfl, hrz⟩⟩
  · refine x_iload_n B dX8_line_13 rfl ?_
    refine x_i2l B dX8_line_14 ⟨by omega, by omega⟩ ?_
    refine x_lconst B 0 dX8_line_15 (by decide) ?_
    refine x_lconst B 1 dX8_line_16 (by decide) ?_
    refine x_goP (x_rS B (c_X8_in ⟨by omega, by omega⟩ ⟨by omega, by omega⟩ ⟨by omega, by omega⟩) (lw_S q1468 q1469 q122 q1470) hd_X8_in ⟨by decide, by decide⟩ ⟨by decide, by decide⟩ rfl rfl (by simp [x_cr, x_c1, x_c2]) dX8_line_17) ?_
    refine x_if_ne B (tgt := 25) dX8_line_20 (by decide) ⟨by omega, by omega⟩ (fun h_20 => ?_) (fun h_20 => ?_)
    · have hi : 0 ≤ i ∧ i < X 64 3 := by unfold x_in at h_10; split at h_10 <;> omega
      have hw : 0 ≤ w ∧ w ≤ 1 := by unfold x_in at h_20; split at h_20 <;> omega
      have s2 : t_M X i 2 = X 72 (3 + 10 * i + 4) := t_M_s hi (by decide) (by omega) (by omega)
      have s3 : t_M X i 3 = X 72 (3 + 10 * i + 0) := t_M_s hi (by decide) (by omega) (by omega)
      have s6 : t_M X i 6 = X 72 (3 + 10 * i + 1) := t_M_s hi (by decide) (by omega) (by omega)
      have s7 : t_M X i 7 = X 72 (3 + 10 * i + 6) := t_M_s hi (by decide) (by omega) (by omega)
      have g1 : t_M X (-1) 1 = X 72 0 := t_M_g (by omega)
      have w1 := hW.1
      have w2 := hW.2.1 i hi.1 hi.2
      have w3 := hW.2.2 i hi.1 hi.2
      have sr := m_sum_r hW hi.1 hi.2
      have lr := m_least_r hW hi.1 hi.2
      have hQa := hQ i hi.1 hi.2
      refine x_iload_n B dX8_line_25 rfl ?_
      refine x_if_ne B (tgt := 36) dX8_line_26 (by decide) ⟨by omega, by omega⟩ (fun h_26 => ?_) (fun h_26 => ?_)
      · refine x_aload_n B dX8_line_36 rfl ?_
        refine x_iload_n B dX8_line_37 rfl ?_
        refine x_go (x_rV B h8 (show x_cl[7]? = some _ from rfl) (c_X8_aimsWin C0 (by rw [e3]; exact hi)) (lw_V q1762 q1764 qs87 q122 q1765) hv_X8_aimsWin ⟨by decide, by decide⟩ ⟨by decide, by decide⟩ rfl rfl (by simp [x_cr, x_c1, x_c2]) dX8_line_38) (fun v_38 X_38 p_38 => ?_)
        obtain ⟨rfl, hwA, hv⟩ := p_38
        rw [hz.wn] at hv
        have hhA : h_eq X X_38 := hz.trans hwA.h
        have hvA : ∀ v, 0 ≤ v → v ≤ 120 → X_38 80 v = (q8_lA X i w) v := fun v v1 v2 => by unfold q8_lA; rw [if_neg (by omega)]; exact hv v v1 v2
        generalize X_38 = Y1 at hhA hvA ⊢
        refine x_aload_n B dX8_line_41 rfl ?_
        refine x_iconst B dX8_line_42 ?_
        refine x_putI B (k := 1) 1 rfl rfl rfl ⟨by omega, by omega⟩ xc_7 (by decide) rfl nn_7_1 (fun _ => rfl) h8 (Or.inl q1336) (fun _ h => h) dX8_line_43 ?_
        have hh2 : h_eq X (x_up Y1 64 1 0) := hhA.u64 (Or.inr (Or.inl rfl))
        have y1 : x_up Y1 64 1 0 64 1 = 0 := x_up_s _ _ _ _
        have yA : ∀ v, 0 ≤ v → v ≤ 120 → x_up Y1 64 1 0 80 v = (q8_lA X i w) v := fun v v1 v2 => by rw [x_up_o _ (by omega)]; exact hvA v v1 v2
        generalize x_up Y1 64 1 0 = Y2 at hh2 y1 yA ⊢
        have C2 := hh2.C hC
        obtain ⟨y3, yM, -, -, -, yO, -⟩ := hh2.v
        obtain ⟨hK2, hP2, hO2, hW2, hL2⟩ := id C2
        have y72 : Y2 72 = X 72 := hh2.1 72 (by omega) (by omega) (by omega)
        have hAr : ∀ v, 0 ≤ v → v ≤ 120 → 0 ≤ (q8_lA X i w) v ∧ (q8_lA X i w) v ≤ 1000000 := fun v v1 v2 => by
          unfold q8_lA
          by_cases q : w = 0
          · rw [if_pos q]; omega
          · rw [if_neg q]; exact g_wn_r hC v v1 v2
        have hE2 : e8 κ Y2 (t_O X i) (q8_lA X i w) i := by have := e8.mk (A := (q8_lA X i w)) C2 (by rw [y3]; exact hi) yA hAr; rw [yO] at this; exact this
        refine x_aload_n B dX8_line_46 rfl ?_
        refine x_iload_n B dX8_line_47 rfl ?_
        refine x_goP (x_rV B h8 (show x_cl[7]? = some _ from rfl) (c_X8_isOut hT h8 ⟨by omega, by omega⟩) (lw_V q1521 q1523 qs51 q122 q1524) hv_X8_isOut ⟨by decide, by decide⟩ ⟨by decide, by decide⟩ rfl rfl (by simp [x_cr, x_c1, x_c2]) dX8_line_48) ?_
        rw [y72]
        refine x_if_ne B (tgt := 61) dX8_line_51 (by decide) ⟨by split <;> omega, by split <;> omega⟩ (fun h_51 => ?_) (fun h_51 => ?_)
        · refine x_iconst B dX8_line_61 ?_
          refine x_iret B (fun _ _ h => h) ?_ dX8_line_62
          have hz : t_M X i 7 ≠ 0 ∨ t_M X (-1) 1 = 3 := by
            by_cases z : t_M X i 7 = 0
            · refine Or.inr ?_
              first | (by_cases y : X 72 0 = 3; omega; rw [if_neg y] at h_58; omega) | (rw [if_neg (by omega)] at h_51; omega)
            · exact Or.inl z
          refine ⟨hh2, ?_⟩
          rw [if_pos ⟨by unfold x_in; rw [if_pos (by omega)], by unfold x_in; rw [if_pos (by omega)]⟩]
          have hq : q8_li X i w 1 = (0, fun _ => 0) := by unfold q8_li q_ln; rw [if_pos hz]
          rw [hq]
          exact ⟨rfl, y1, fun k k1 k2 => by omega⟩
        · refine x_aload_n B dX8_line_54 rfl ?_
          refine x_goP (x_rV B h8 (show x_cl[7]? = some _ from rfl) (c_X8_isOver hT h8) (lw_V q1517 q1519 qs50 q122 q1520) hv_X8_isOver ⟨by decide, by decide⟩ ⟨by decide, by decide⟩ rfl rfl (by simp [x_cr, x_c1, x_c2]) dX8_line_55) ?_
          rw [y72]
          refine x_if_eq B (tgt := 63) dX8_line_58 (by decide) ⟨by split <;> omega, by split <;> omega⟩ (fun h_58 => ?_) (fun h_58 => ?_)
          · have h7 : t_M X i 7 = 0 := by by_cases z : X 72 (3 + 10 * i + 6) = 1; rw [if_pos z] at h_51; omega; omega
            have hL3 : t_M X (-1) 1 ≠ 3 := by intro z; rw [if_pos (by omega)] at h_58; omega
            have hm := m_rest hW hi.1 hi.2 h7 hL3
            refine x_aload_n B dX8_line_63 rfl ?_
            refine x_getC0 B (k := 11) hT rfl rfl xc_7 (by decide) h8 (Or.inl q1346) (fun _ h => h) dX8_line_64 (fun k_64 => ?_)
            refine x_iconst B dX8_line_67 ?_
            refine x_iald B k_64 ⟨by omega, by omega⟩ dX8_line_68 (fun r_68 => ?_)
            rw [y72, ← g1] at r_68 ⊢
            refine x_istw_4 B dX8_line_69 (by first | rfl | exact x_cr _ _) ?_
            refine x_aload_n B dX8_line_71 rfl ?_
            refine x_iload_n B dX8_line_72 rfl ?_
            refine x_goP (x_rV B h8 (show x_cl[7]? = some _ from rfl) (c_X8_sumAhead hK2 hW2 (by rw [y3]; exact hi) (by rw [yM]; exact h7) (by rw [yM]; exact hL3)) (lw_V q1701 q1703 qs78 q122 q1704) hv_X8_sumAhead ⟨by decide, by decide⟩ ⟨by decide, by decide⟩ rfl rfl (by simp [x_cr, x_c1, x_c2]) dX8_line_73) ?_
            rw [yM]
            refine x_istw_5 B dX8_line_76 (by first | rfl | exact x_cr _ _) ?_
            refine x_iload B dX8_line_78 rfl ?_
            refine x_istw_6 B dX8_line_80 (by first | rfl | exact x_cr _ _) ?_
            refine lp_82 _ 3 _ _ _ _ _ _ 0 (fun _ => 0) Y2 ⟨⟨hi, hw, h7, hL3⟩, ⟨by omega, by omega, by omega⟩, hm.1, ⟨hh2, hE2⟩, fun _ => ⟨rfl, rfl, rfl, rfl⟩, fun q => absurd rfl q, ⟨y1, by omega, by omega, fun k k1 k2 => by omega⟩, ?_⟩ (Nat.lt_succ_self _)
            unfold q8_li q_ln
            rw [if_neg (by omega), show (if t_M X i 3 = 0 then 3 else (t_M X (-1) 2 + t_M X i 6)) = (if (m_least (t_M X) i) = 0 then 3 else (t_M X (-1) 2 + t_M X i 6)) from ?_]
            by_cases q : t_M X i 3 = 0
            · rw [if_pos q, if_pos (by unfold m_least; rw [if_pos q])]
            · rw [if_neg q, if_neg (by have := lr.2.2 q; omega)]
          · refine x_iconst B dX8_line_61 ?_
            refine x_iret B (fun _ _ h => h) ?_ dX8_line_62
            have hz : t_M X i 7 ≠ 0 ∨ t_M X (-1) 1 = 3 := by
              by_cases z : t_M X i 7 = 0
              · refine Or.inr ?_
                first | (by_cases y : X 72 0 = 3; omega; rw [if_neg y] at h_58; omega) | (rw [if_neg (by omega)] at h_51; omega)
              · exact Or.inl z
            refine ⟨hh2, ?_⟩
            rw [if_pos ⟨by unfold x_in; rw [if_pos (by omega)], by unfold x_in; rw [if_pos (by omega)]⟩]
            have hq : q8_li X i w 1 = (0, fun _ => 0) := by unfold q8_li q_ln; rw [if_pos hz]
            rw [hq]
            exact ⟨rfl, y1, fun k k1 k2 => by omega⟩
      · refine x_aload_n B dX8_line_29 rfl ?_
        refine x_go (x_rV B h8 (show x_cl[7]? = some _ from rfl) (c_X8_aimsMass hT h8) (lw_V q1689 q1691 qs75 q122 q1692) hv_X8_aimsMass ⟨by decide, by decide⟩ ⟨by decide, by decide⟩ rfl rfl (by simp [x_cr, x_c1, x_c2]) dX8_line_30) (fun v_30 X_30 p_30 => ?_)
        obtain ⟨rfl, hwA, hv⟩ := p_30
        have hhA : h_eq X X_30 := hz.trans hwA.h
        have hvA : ∀ v, 0 ≤ v → v ≤ 120 → X_30 80 v = (q8_lA X i w) v := fun v v1 v2 => by unfold q8_lA; rw [if_pos (by omega)]; exact hv v v1 v2
        generalize X_30 = Y1 at hhA hvA ⊢
        refine x_goto B (tgt := 41) dX8_line_33 (by decide) ?_
        refine x_aload_n B dX8_line_41 rfl ?_
        refine x_iconst B dX8_line_42 ?_
        refine x_putI B (k := 1) 1 rfl rfl rfl ⟨by omega, by omega⟩ xc_7 (by decide) rfl nn_7_1 (fun _ => rfl) h8 (Or.inl q1336) (fun _ h => h) dX8_line_43 ?_
        have hh2 : h_eq X (x_up Y1 64 1 0) := hhA.u64 (Or.inr (Or.inl rfl))
        have y1 : x_up Y1 64 1 0 64 1 = 0 := x_up_s _ _ _ _
        have yA : ∀ v, 0 ≤ v → v ≤ 120 → x_up Y1 64 1 0 80 v = (q8_lA X i w) v := fun v v1 v2 => by rw [x_up_o _ (by omega)]; exact hvA v v1 v2
        generalize x_up Y1 64 1 0 = Y2 at hh2 y1 yA ⊢
        have C2 := hh2.C hC
        obtain ⟨y3, yM, -, -, -, yO, -⟩ := hh2.v
        obtain ⟨hK2, hP2, hO2, hW2, hL2⟩ := id C2
        have y72 : Y2 72 = X 72 := hh2.1 72 (by omega) (by omega) (by omega)
        have hAr : ∀ v, 0 ≤ v → v ≤ 120 → 0 ≤ (q8_lA X i w) v ∧ (q8_lA X i w) v ≤ 1000000 := fun v v1 v2 => by
          unfold q8_lA
          by_cases q : w = 0
          · rw [if_pos q]; omega
          · rw [if_neg q]; exact g_wn_r hC v v1 v2
        have hE2 : e8 κ Y2 (t_O X i) (q8_lA X i w) i := by have := e8.mk (A := (q8_lA X i w)) C2 (by rw [y3]; exact hi) yA hAr; rw [yO] at this; exact this
        refine x_aload_n B dX8_line_46 rfl ?_
        refine x_iload_n B dX8_line_47 rfl ?_
        refine x_goP (x_rV B h8 (show x_cl[7]? = some _ from rfl) (c_X8_isOut hT h8 ⟨by omega, by omega⟩) (lw_V q1521 q1523 qs51 q122 q1524) hv_X8_isOut ⟨by decide, by decide⟩ ⟨by decide, by decide⟩ rfl rfl (by simp [x_cr, x_c1, x_c2]) dX8_line_48) ?_
        rw [y72]
        refine x_if_ne B (tgt := 61) dX8_line_51 (by decide) ⟨by split <;> omega, by split <;> omega⟩ (fun h_51 => ?_) (fun h_51 => ?_)
        · refine x_iconst B dX8_line_61 ?_
          refine x_iret B (fun _ _ h => h) ?_ dX8_line_62
          have hz : t_M X i 7 ≠ 0 ∨ t_M X (-1) 1 = 3 := by
            by_cases z : t_M X i 7 = 0
            · refine Or.inr ?_
              first | (by_cases y : X 72 0 = 3; omega; rw [if_neg y] at h_58; omega) | (rw [if_neg (by omega)] at h_51; omega)
            · exact Or.inl z
          refine ⟨hh2, ?_⟩
          rw [if_pos ⟨by unfold x_in; rw [if_pos (by omega)], by unfold x_in; rw [if_pos (by omega)]⟩]
          have hq : q8_li X i w 1 = (0, fun _ => 0) := by unfold q8_li q_ln; rw [if_pos hz]
          rw [hq]
          exact ⟨rfl, y1, fun k k1 k2 => by omega⟩
        · refine x_aload_n B dX8_line_54 rfl ?_
          refine x_goP (x_rV B h8 (show x_cl[7]? = some _ from rfl) (c_X8_isOver hT h8) (lw_V q1517 q1519 qs50 q122 q1520) hv_X8_isOver ⟨by decide, by decide⟩ ⟨by decide, by decide⟩ rfl rfl (by simp [x_cr, x_c1, x_c2]) dX8_line_55) ?_
          rw [y72]
          refine x_if_eq B (tgt := 63) dX8_line_58 (by decide) ⟨by split <;> omega, by split <;> omega⟩ (fun h_58 => ?_) (fun h_58 => ?_)
          · have h7 : t_M X i 7 = 0 := by by_cases z : X 72 (3 + 10 * i + 6) = 1; rw [if_pos z] at h_51; omega; omega
            have hL3 : t_M X (-1) 1 ≠ 3 := by intro z; rw [if_pos (by omega)] at h_58; omega
            have hm := m_rest hW hi.1 hi.2 h7 hL3
            refine x_aload_n B dX8_line_63 rfl ?_
            refine x_getC0 B (k := 11) hT rfl rfl xc_7 (by decide) h8 (Or.inl q1346) (fun _ h => h) dX8_line_64 (fun k_64 => ?_)
            refine x_iconst B dX8_line_67 ?_
            refine x_iald B k_64 ⟨by omega, by omega⟩ dX8_line_68 (fun r_68 => ?_)
            rw [y72, ← g1] at r_68 ⊢
            refine x_istw_4 B dX8_line_69 (by first | rfl | exact x_cr _ _) ?_
            refine x_aload_n B dX8_line_71 rfl ?_
            refine x_iload_n B dX8_line_72 rfl ?_
            refine x_goP (x_rV B h8 (show x_cl[7]? = some _ from rfl) (c_X8_sumAhead hK2 hW2 (by rw [y3]; exact hi) (by rw [yM]; exact h7) (by rw [yM]; exact hL3)) (lw_V q1701 q1703 qs78 q122 q1704) hv_X8_sumAhead ⟨by decide, by decide⟩ ⟨by decide, by decide⟩ rfl rfl (by simp [x_cr, x_c1, x_c2]) dX8_line_73) ?_
            rw [yM]
            refine x_istw_5 B dX8_line_76 (by first | rfl | exact x_cr _ _) ?_
            refine x_iload B dX8_line_78 rfl ?_
            refine x_istw_6 B dX8_line_80 (by first | rfl | exact x_cr _ _) ?_
            refine lp_82 _ 3 _ _ _ _ _ _ 0 (fun _ => 0) Y2 ⟨⟨hi, hw, h7, hL3⟩, ⟨by omega, by omega, by omega⟩, hm.1, ⟨hh2, hE2⟩, fun _ => ⟨rfl, rfl, rfl, rfl⟩, fun q => absurd rfl q, ⟨y1, by omega, by omega, fun k k1 k2 => by omega⟩, ?_⟩ (Nat.lt_succ_self _)
            unfold q8_li q_ln
            rw [if_neg (by omega), show (if t_M X i 3 = 0 then 3 else (t_M X (-1) 2 + t_M X i 6)) = (if (m_least (t_M X) i) = 0 then 3 else (t_M X (-1) 2 + t_M X i 6)) from ?_]
            by_cases q : t_M X i 3 = 0
            · rw [if_pos q, if_pos (by unfold m_least; rw [if_pos q])]
            · rw [if_neg q, if_neg (by have := lr.2.2 q; omega)]
          · refine x_iconst B dX8_line_61 ?_
            refine x_iret B (fun _ _ h => h) ?_ dX8_line_62
            have hz : t_M X i 7 ≠ 0 ∨ t_M X (-1) 1 = 3 := by
              by_cases z : t_M X i 7 = 0
              · refine Or.inr ?_
                first | (by_cases y : X 72 0 = 3; omega; rw [if_neg y] at h_58; omega) | (rw [if_neg (by omega)] at h_51; omega)
              · exact Or.inl z
            refine ⟨hh2, ?_⟩
            rw [if_pos ⟨by unfold x_in; rw [if_pos (by omega)], by unfold x_in; rw [if_pos (by omega)]⟩]
            have hq : q8_li X i w 1 = (0, fun _ => 0) := by unfold q8_li q_ln; rw [if_pos hz]
            rw [hq]
            exact ⟨rfl, y1, fun k k1 k2 => by omega⟩
    · refine x_iconst B dX8_line_23 ?_
      refine x_iret B (fun _ _ h => h) ?_ dX8_line_24
      exact ⟨hz, by rw [if_neg (by omega)]; exact ⟨rfl, hrz⟩⟩
theorem c_X8_line_0 {l : Launch} {E : x_E} {κ : x_Ka} {X : x_X} {i w : Int} (hC : t_C κ X) (hQ : m_Q (X 64 3) (t_M X)) (hx : xR i) (hy : xR w) : x_Met l yX8_line cX8_line 9 (some .int) 33 0 0 E κ X [x_rf E 64, vi i, vi w, vi 0] κ (fun v_ Y_ => h_eq X Y_ ∧ (if x_in i 0 (X 64 3 - 1) = 1 ∧ x_in w 0 1 = 1 then (v_ = some (vi (q8_li X i w 0).1) ∧ Y_ 64 1 = (q8_li X i w 0).1 ∧ ∀ k, 0 ≤ k → k < (q8_li X i w 0).1 → Y_ 65 k = (q8_li X i w 0).2 k) else (v_ = some (vi (-1)) ∧ hr8 X Y_))) := by
  refine x_Met.of [(false, x_rf E 64), (false, vi i), (false, vi w), (false, vi 0)] [some (x_rf E 64), some (vi i), some (vi w), some (vi 0), none, none, none, none, none] 5 (by decide) rfl rfl ⟨x_cr E (64), rfl, rfl, rfl, trivial⟩ rfl rfl ?_
  intro p e s m args below meth c hargs hin B
  obtain ⟨hK, hP, hO, hW, hLa⟩ := id hC
  obtain ⟨hT, h8, hn⟩ := id hK
  have z1 := x_in_01 i 0 (X 64 3 - 1)
  have z2 := x_in_01 w 0 1
  have lp_82 : ∀ (n : Nat) (kf : Nat) (t sum tr fl best least n0 : Int) (R : Int → Int) (Y : x_X), (((0 ≤ i ∧ i < X 64 3) ∧ (0 ≤ w ∧ w ≤ 1) ∧ t_M X i 7 = 0 ∧ (t_M X (-1) 1) ≠ 3) ∧ ((t_M X (-1) 1) ≤ t ∧ t ≤ 3 ∧ 3 ≤ (kf : Int) + t) ∧ (0 ≤ sum ∧ sum ≤ 40 * t) ∧ (h_eq X Y ∧ e8 κ Y (t_O X i) (q8_lA X i w) i) ∧ (t = (t_M X (-1) 1) → tr = (if (m_least (t_M X) i) = 0 then 3 else (t_M X (-1) 2 + t_M X i 6)) ∧ fl = t_M X i 2 ∧ best = (t_M X i (10 + t_M X (-1) 1)) ∧ least = (m_least (t_M X) i)) ∧ (t ≠ (t_M X (-1) 1) → tr = (if (1 : Int) = 0 then 3 else 0) ∧ fl = 0 ∧ best = 0 ∧ least = 1) ∧ (Y 64 1 = n0 ∧ 0 ≤ n0 ∧ n0 ≤ 3 * t ∧ ∀ k, 0 ≤ k → k < n0 → Y 65 k = R k) ∧ q8_li X i w 0 = e_out (t_O X i) (q8_lA X i w) 0 kf t sum tr fl best least n0 R) → ((4 - t).toNat < n) → x_G p l e (x_rm 33 0 0) s m args below meth c 9 E 0 0 (MQ below (x_Q E κ (fun v_ Y_ => h_eq X Y_ ∧ (if x_in i 0 (X 64 3 - 1) = 1 ∧ x_in w 0 1 = 1 then (v_ = some (vi (q8_li X i w 0).1) ∧ Y_ 64 1 = (q8_li X i w 0).1 ∧ ∀ k, 0 ≤ k → k < (q8_li X i w 0).1 → Y_ 65 k = (q8_li X i w 0).2 k) else (v_ = some (vi (-1)) ∧ hr8 X Y_)))) args s 0 0 (fun q => E.1 ≤ q)) κ 82 [some (x_rf E 64), some (vi i), some (vi w), some (vi 0), some (vi (t_M X (-1) 1)), some (vi sum), some (vi t), none, none] [] Y := by
    intro n
    induction n with
    | zero => intro kf t sum tr fl best least n0 R Y hinv hme; exfalso; omega
    | succ n ih =>
      intro kf t sum tr fl best least n0 R Y hinv hme
      obtain ⟨⟨hi, hw, h7, hL3⟩, ht, hs, ⟨hh, hE⟩, hfst, hoth, ⟨y1, hn0, hn3, hR⟩, he⟩ := hinv
      have s2 : t_M X i 2 = X 72 (3 + 10 * i + 4) := t_M_s hi (by decide) (by omega) (by omega)
      have s3 : t_M X i 3 = X 72 (3 + 10 * i + 0) := t_M_s hi (by decide) (by omega) (by omega)
      have s6 : t_M X i 6 = X 72 (3 + 10 * i + 1) := t_M_s hi (by decide) (by omega) (by omega)
      have s7 : t_M X i 7 = X 72 (3 + 10 * i + 6) := t_M_s hi (by decide) (by omega) (by omega)
      have g1 : t_M X (-1) 1 = X 72 0 := t_M_g (by omega)
      have w1 := hW.1
      have w2 := hW.2.1 i hi.1 hi.2
      have w3 := hW.2.2 i hi.1 hi.2
      have sr := m_sum_r hW hi.1 hi.2
      have lr := m_least_r hW hi.1 hi.2
      have hQa := hQ i hi.1 hi.2
      have hm := m_rest hW hi.1 hi.2 h7 hL3
      refine x_iload B dX8_line_82 rfl ?_
      refine x_iconst B dX8_line_84 ?_
      refine x_icmp_ge B (tgt := 206) dX8_line_85 (by decide) ⟨by omega, by omega⟩ ⟨by omega, by omega⟩ (fun h_85 => ?_) (fun h_85 => ?_)
      · rw [e_out_e (by omega)] at he
        refine x_aload_n B dX8_line_206 rfl ?_
        refine x_getI B (k := 1) 1 rfl rfl xc_7 (by decide) h8 (Or.inl q1336) (fun _ h => h) dX8_line_207 (fun r_207 => ?_)
        rw [y1] at r_207 ⊢
        refine x_iret B (fun _ _ h => h) ?_ dX8_line_210
        refine ⟨hh, ?_⟩
        rw [if_pos ⟨by unfold x_in; rw [if_pos (by omega)], by unfold x_in; rw [if_pos (by omega)]⟩]
        rw [he]
        exact ⟨rfl, y1, hR⟩
      · refine x_aload_n B dX8_line_88 rfl ?_
        refine x_iload_n B dX8_line_89 rfl ?_
        refine x_iload B dX8_line_90 rfl ?_
        refine x_go (x_rV B h8 (show x_cl[7]? = some _ from rfl) (c_X8_laysBehind hE ⟨by omega, by omega⟩) (lw_V q1790 q1792 qs90 q122 q1793) hv_X8_laysBehind ⟨by decide, by decide⟩ ⟨by decide, by decide⟩ rfl rfl (by simp [x_cr, x_c1, x_c2]) dX8_line_92) (fun v_92 X_92 p_92 => ?_)
        obtain ⟨rfl, hz9, hU⟩ := p_92
        have hh9 := hh.trans hz9.h
        have hE9 := hE.z hz9
        have C9 := hh9.C hC
        obtain ⟨k3, kM, -, -, -, kO, -⟩ := hh9.v
        obtain ⟨hK9, hP9, hO9, hW9, hL9⟩ := id C9
        have k72 : X_92 72 = X 72 := hh9.1 72 (by omega) (by omega) (by omega)
        have k1 : X_92 64 1 = n0 := (hz9.2 1 (by omega)).trans y1
        have hR9 : ∀ k, 0 ≤ k → k < X_92 64 1 → X_92 65 k = R k := fun k q1 q2 => by rw [hz9.1 65 (by omega) (by omega) (by omega)]; exact hR k q1 (by omega)
        obtain ⟨kf, rfl⟩ : ∃ g, kf = g + 1 := ⟨kf - 1, by omega⟩
        rw [e_out_s (by omega)] at he
        refine x_iload B dX8_line_95 rfl ?_
        refine x_iload B dX8_line_97 rfl ?_
        refine x_icmp_ne B (tgt := 106) dX8_line_99 (by decide) ⟨by omega, by omega⟩ ⟨by omega, by omega⟩ (fun h_99 => ?_) (fun h_99 => ?_)
        · obtain ⟨rfl, rfl, rfl, rfl⟩ := hoth (by omega)
          have hxx : (0 : Int) < 3 → 1 ≤ (1 : Int) → (0 : Int) ≤ 0 ∧ (0 : Int) < 1 ∧ ((0 : Int) = 0 → (0 : Int) = 0) := fun _ _ => ⟨by omega, by omega, fun _ => rfl⟩
          refine x_iconst B dX8_line_106 ?_
          refine x_istw_7 B dX8_line_107 (by first | rfl | exact x_cr _ _) ?_
          refine x_aload_n B dX8_line_109 rfl ?_
          refine x_iload_n B dX8_line_110 rfl ?_
          refine x_iload B dX8_line_111 rfl ?_
          refine x_iload B dX8_line_113 rfl ?_
          refine x_if_eq B (tgt := 126) dX8_line_115 (by decide) ⟨by omega, by omega⟩ (fun h_115 => ?_) (fun h_115 => (by exfalso; omega))
          refine x_iconst B dX8_line_126 ?_
          refine x_iload B dX8_line_127 rfl ?_
          refine x_if_eq B (tgt := 140) dX8_line_129 (by decide) ⟨by omega, by omega⟩ (fun h_129 => ?_) (fun h_129 => (by exfalso; omega))
          refine x_iconst B dX8_line_140 ?_
          refine x_iload B dX8_line_141 rfl ?_
          refine x_if_eq B (tgt := 155) dX8_line_143 (by decide) ⟨by omega, by omega⟩ (fun h_143 => ?_) (fun h_143 => (by exfalso; omega))
          refine x_iconst B dX8_line_155 ?_
          refine x_iload B dX8_line_156 rfl ?_
          refine x_if_eq B (tgt := 174) dX8_line_158 (by decide) ⟨by omega, by omega⟩ (fun h_158 => ?_) (fun h_158 => (by exfalso; omega))
          refine x_iconst B dX8_line_174 ?_
          refine x_iload B dX8_line_175 rfl ?_
          refine x_iload_n B dX8_line_177 rfl ?_
          refine x_go (x_rV B h8 (show x_cl[7]? = some _ from rfl) (c_X8_follows_0 (O := (t_O X i)) (A := (q8_lA X i w)) (R0 := R) hE9 ⟨by omega, by omega⟩ hs ⟨by omega, by omega⟩ ⟨by omega, by omega⟩ ⟨by omega, by omega⟩ ⟨by omega, by omega⟩ hxx (hU _ (by omega) (by omega)) ⟨by omega, by omega⟩ hR9) (lw_V q1837 q1839 qs95 q122 q1840) hv_X8_follows ⟨by decide, by decide⟩ ⟨by decide, by decide⟩ rfl rfl (by simp [x_cr, x_c1, x_c2]) dX8_line_178) (fun v_178 X_178 p_178 => ?_)
          rw [k1] at p_178
          obtain ⟨rfl, hhF, ⟨f80, f83⟩, f1, fR, fv, fn⟩ := p_178
          unfold e_re at he
          have hhF2 := hh9.trans hhF
          have hEF := hE9.h hhF f80
          refine x_istw_8 B dX8_line_181 (by first | rfl | exact x_cr _ _) ?_
          refine x_iload B dX8_line_183 rfl ?_
          refine x_if_ne B (tgt := 193) dX8_line_185 (by decide) ⟨by omega, by omega⟩ (fun h_185 => ?_) (fun h_185 => ?_)
          · rw [if_neg h_185] at he
            refine x_iload B dX8_line_193 rfl ?_
            refine x_iload B dX8_line_195 rfl ?_
            refine x_iadd B dX8_line_197 ?_
            refine x_istw_5 B dX8_line_198 (by first | rfl | exact x_cr _ _) ?_
            refine x_iinc_6 B dX8_line_200 (by first | rfl | exact x_cr _ _) ?_
            refine x_goto B (tgt := 82) dX8_line_203 (by decide) ?_
            refine x_fg_7 ?_
            refine x_fg_8 ?_
            refine ih _ _ _ _ _ _ _ _ _ _ ⟨⟨hi, hw, h7, hL3⟩, ⟨by omega, by omega, by omega⟩, ⟨by omega, by omega⟩, ⟨hhF2, hEF⟩, fun q => by omega, fun _ => ⟨rfl, rfl, rfl, rfl⟩, ⟨f1, by omega, by omega, fR⟩, he⟩ (by omega)
          · rw [if_pos h_185] at he
            refine x_aload_n B dX8_line_188 rfl ?_
            refine x_getI B (k := 1) 1 rfl rfl xc_7 (by decide) h8 (Or.inl q1336) (fun _ h => h) dX8_line_189 (fun r_189 => ?_)
            rw [f1] at r_189 ⊢
            refine x_iret B (fun _ _ h => h) ?_ dX8_line_192
            refine ⟨hhF2, ?_⟩
            rw [if_pos ⟨by unfold x_in; rw [if_pos (by omega)], by unfold x_in; rw [if_pos (by omega)]⟩]
            rw [he]
            exact ⟨rfl, f1, fR⟩
        · obtain rfl : t = (t_M X (-1) 1) := by omega
          obtain ⟨rfl, rfl, rfl, rfl⟩ := hfst rfl
          have hti : ti (10 + X 72 0) = 7 + X 72 0 := by rcases (show X 72 0 = 0 ∨ X 72 0 = 1 ∨ X 72 0 = 2 by omega) with e | e | e <;> rw [e] <;> decide
          have sb : t_M X i (10 + t_M X (-1) 1) = X 72 (3 + 10 * i + (7 + t_M X (-1) 1)) := by rw [g1]; exact t_M_s hi hti (by omega) (by omega)
          have hq3 := w3.2.2.2.2
          have hxx : (t_M X (-1) 2 + t_M X i 6) < 3 → 1 ≤ (m_least (t_M X) i) → t_M X i 2 ≤ (t_M X (-1) 2 + t_M X i 6) ∧ (t_M X i (10 + t_M X (-1) 1)) < (m_least (t_M X) i) ∧ (t_M X i 2 = (t_M X (-1) 2 + t_M X i 6) → (t_M X i (10 + t_M X (-1) 1)) = 0) := fun q1 q2 => by
            have hl0 : t_M X i 3 ≠ 0 := by intro q; unfold m_least at q2; rw [if_pos q] at q2; omega
            have hq3 := hq3 (by omega)
            have hbl : (t_M X i (10 + t_M X (-1) 1)) < (m_least (t_M X) i) := by unfold m_least; rw [if_neg hl0]; split <;> omega
            exact ⟨hq3.2.2.1, hbl, hq3.2.2.2⟩
          refine x_iconst B dX8_line_102 ?_
          refine x_goto B (tgt := 107) dX8_line_103 (by decide) ?_
          refine x_istw_7 B dX8_line_107 (by first | rfl | exact x_cr _ _) ?_
          refine x_aload_n B dX8_line_109 rfl ?_
          refine x_iload_n B dX8_line_110 rfl ?_
          refine x_iload B dX8_line_111 rfl ?_
          refine x_iload B dX8_line_113 rfl ?_
          refine x_if_eq B (tgt := 126) dX8_line_115 (by decide) ⟨by omega, by omega⟩ (fun h_115 => (by exfalso; omega)) (fun h_115 => ?_)
          refine x_aload_n B dX8_line_118 rfl ?_
          refine x_iload_n B dX8_line_119 rfl ?_
          refine x_goP (x_rV B h8 (show x_cl[7]? = some _ from rfl) (c_X8_roundOf hK9 hW9 (by rw [k3]; exact hi)) (lw_V q1697 q1699 qs77 q122 q1700) hv_X8_roundOf ⟨by decide, by decide⟩ ⟨by decide, by decide⟩ rfl rfl (by simp [x_cr, x_c1, x_c2]) dX8_line_120) ?_
          rw [kM]
          refine x_goto B (tgt := 127) dX8_line_123 (by decide) ?_
          refine x_iload B dX8_line_127 rfl ?_
          refine x_if_eq B (tgt := 140) dX8_line_129 (by decide) ⟨by omega, by omega⟩ (fun h_129 => (by exfalso; omega)) (fun h_129 => ?_)
          refine x_aload_n B dX8_line_132 rfl ?_
          refine x_iload_n B dX8_line_133 rfl ?_
          refine x_goP (x_rV B h8 (show x_cl[7]? = some _ from rfl) (c_X8_leastOf hK9 hW9.V hL9 (by rw [k3]; exact hi)) (lw_V q1589 q1591 qs60 q122 q1592) hv_X8_leastOf ⟨by decide, by decide⟩ ⟨by decide, by decide⟩ rfl rfl (by simp [x_cr, x_c1, x_c2]) dX8_line_134) ?_
          rw [kM]
          refine x_goto B (tgt := 141) dX8_line_137 (by decide) ?_
          refine x_iload B dX8_line_141 rfl ?_
          refine x_if_eq B (tgt := 155) dX8_line_143 (by decide) ⟨by omega, by omega⟩ (fun h_143 => (by exfalso; omega)) (fun h_143 => ?_)
          refine x_aload_n B dX8_line_146 rfl ?_
          refine x_iload_n B dX8_line_147 rfl ?_
          refine x_iconst B dX8_line_148 ?_
          refine x_goP (x_rV B h8 (show x_cl[7]? = some _ from rfl) (c_X8_of hT h8 ⟨by omega, by omega⟩) (lw_V q1525 q1527 qs52 q122 q1528) hv_X8_of ⟨by decide, by decide⟩ ⟨by decide, by decide⟩ rfl rfl (by simp [x_cr, x_c1, x_c2]) dX8_line_149) ?_
          rw [k72, ← s2]
          refine x_goto B (tgt := 156) dX8_line_152 (by decide) ?_
          refine x_iload B dX8_line_156 rfl ?_
          refine x_if_eq B (tgt := 174) dX8_line_158 (by decide) ⟨by omega, by omega⟩ (fun h_158 => (by exfalso; omega)) (fun h_158 => ?_)
          refine x_aload_n B dX8_line_161 rfl ?_
          refine x_iload_n B dX8_line_162 rfl ?_
          refine x_bipush B dX8_line_163 (by decide) ?_
          refine x_iload B dX8_line_165 rfl ?_
          refine x_iadd B dX8_line_167 ?_
          refine x_goP (x_rV B h8 (show x_cl[7]? = some _ from rfl) (c_X8_of hT h8 ⟨by omega, by omega⟩) (lw_V q1525 q1527 qs52 q122 q1528) hv_X8_of ⟨by decide, by decide⟩ ⟨by decide, by decide⟩ rfl rfl (by simp [x_cr, x_c1, x_c2]) dX8_line_168) ?_
          rw [k72, ← sb]
          refine x_goto B (tgt := 175) dX8_line_171 (by decide) ?_
          refine x_iload B dX8_line_175 rfl ?_
          refine x_iload_n B dX8_line_177 rfl ?_
          refine x_go (x_rV B h8 (show x_cl[7]? = some _ from rfl) (c_X8_follows_0 (O := (t_O X i)) (A := (q8_lA X i w)) (R0 := R) hE9 ⟨by omega, by omega⟩ hs ⟨by omega, by omega⟩ ⟨by omega, by omega⟩ ⟨by omega, by omega⟩ ⟨by omega, by omega⟩ hxx (hU _ (by omega) (by omega)) ⟨by omega, by omega⟩ hR9) (lw_V q1837 q1839 qs95 q122 q1840) hv_X8_follows ⟨by decide, by decide⟩ ⟨by decide, by decide⟩ rfl rfl (by simp [x_cr, x_c1, x_c2]) dX8_line_178) (fun v_178 X_178 p_178 => ?_)
          rw [k1] at p_178
          obtain ⟨rfl, hhF, ⟨f80, f83⟩, f1, fR, fv, fn⟩ := p_178
          unfold e_re at he
          have hhF2 := hh9.trans hhF
          have hEF := hE9.h hhF f80
          refine x_istw_8 B dX8_line_181 (by first | rfl | exact x_cr _ _) ?_
          refine x_iload B dX8_line_183 rfl ?_
          refine x_if_ne B (tgt := 193) dX8_line_185 (by decide) ⟨by omega, by omega⟩ (fun h_185 => ?_) (fun h_185 => ?_)
          · rw [if_neg h_185] at he
            refine x_iload B dX8_line_193 rfl ?_
            refine x_iload B dX8_line_195 rfl ?_
            refine x_iadd B dX8_line_197 ?_
            refine x_istw_5 B dX8_line_198 (by first | rfl | exact x_cr _ _) ?_
            refine x_iinc_6 B dX8_line_200 (by first | rfl | exact x_cr _ _) ?_
            refine x_goto B (tgt := 82) dX8_line_203 (by decide) ?_
            refine x_fg_7 ?_
            refine x_fg_8 ?_
            refine ih _ _ _ _ _ _ _ _ _ _ ⟨⟨hi, hw, h7, hL3⟩, ⟨by omega, by omega, by omega⟩, ⟨by omega, by omega⟩, ⟨hhF2, hEF⟩, fun q => by omega, fun _ => ⟨rfl, rfl, rfl, rfl⟩, ⟨f1, by omega, by omega, fR⟩, he⟩ (by omega)
          · rw [if_pos h_185] at he
            refine x_aload_n B dX8_line_188 rfl ?_
            refine x_getI B (k := 1) 1 rfl rfl xc_7 (by decide) h8 (Or.inl q1336) (fun _ h => h) dX8_line_189 (fun r_189 => ?_)
            rw [f1] at r_189 ⊢
            refine x_iret B (fun _ _ h => h) ?_ dX8_line_192
            refine ⟨hhF2, ?_⟩
            rw [if_pos ⟨by unfold x_in; rw [if_pos (by omega)], by unfold x_in; rw [if_pos (by omega)]⟩]
            rw [he]
            exact ⟨rfl, f1, fR⟩
  refine x_aload_n B dX8_line_0 rfl ?_
  refine x_iconst B dX8_line_1 ?_
  refine x_putI B (k := 0) 0 rfl rfl rfl ⟨by omega, by omega⟩ xc_7 (by decide) rfl nn_7_0 (fun _ => rfl) h8 (Or.inl q1335) (fun _ h => h) dX8_line_2 ?_
  have hz : h_eq X (x_up X 64 0 0) := h_eq.z
  have hrz : hr8 X (x_up X 64 0 0) := hr8.z
  have C0 := hz.C hC
  obtain ⟨e3, eM, el, eli, ep, eO, eG⟩ := hz.v
  generalize hX0 : x_up X 64 0 0 = X0 at hz hrz C0 e3 eM el eli ep eO eG ⊢
  obtain ⟨hK0, hP0, hO0, hW0, hL0⟩ := id C0
  refine x_aload_n B dX8_line_5 rfl ?_
  refine x_iload_n B dX8_line_6 rfl ?_
  refine x_goP (x_rV B h8 (show x_cl[7]? = some _ from rfl) (c_X8_isLifter hK0 hx) (lw_V q1553 q1555 qs57 q122 q1556) hv_X8_isLifter ⟨by decide, by decide⟩ ⟨by decide, by decide⟩ rfl rfl (by simp [x_cr, x_c1, x_c2]) dX8_line_7) ?_
  rw [e3]
  refine x_if_eq B (tgt := 23) dX8_line_10 (by decide) ⟨by omega, by omega⟩ (fun h_10 => ?_) (fun h_10 => ?_)
  · refine x_iconst B dX8_line_23 ?_
    refine x_iret B (fun _ _ h => h) ?_ dX8_line_24
    exact ⟨hz, by rw [if_neg (by omega)]; exact ⟨rfl, hrz⟩⟩
  · refine x_iload_n B dX8_line_13 rfl ?_
    refine x_i2l B dX8_line_14 ⟨by omega, by omega⟩ ?_
    refine x_lconst B 0 dX8_line_15 (by decide) ?_
    refine x_lconst B 1 dX8_line_16 (by decide) ?_
    refine x_goP (x_rS B (c_X8_in ⟨by omega, by omega⟩ ⟨by omega, by omega⟩ ⟨by omega, by omega⟩) (lw_S q1468 q1469 q122 q1470) hd_X8_in ⟨by decide, by decide⟩ ⟨by decide, by decide⟩ rfl rfl (by simp [x_cr, x_c1, x_c2]) dX8_line_17) ?_
    refine x_if_ne B (tgt := 25) dX8_line_20 (by decide) ⟨by omega, by omega⟩ (fun h_20 => ?_) (fun h_20 => ?_)
    · have hi : 0 ≤ i ∧ i < X 64 3 := by unfold x_in at h_10; split at h_10 <;> omega
      have hw : 0 ≤ w ∧ w ≤ 1 := by unfold x_in at h_20; split at h_20 <;> omega
      have s2 : t_M X i 2 = X 72 (3 + 10 * i + 4) := t_M_s hi (by decide) (by omega) (by omega)
      have s3 : t_M X i 3 = X 72 (3 + 10 * i + 0) := t_M_s hi (by decide) (by omega) (by omega)
      have s6 : t_M X i 6 = X 72 (3 + 10 * i + 1) := t_M_s hi (by decide) (by omega) (by omega)
      have s7 : t_M X i 7 = X 72 (3 + 10 * i + 6) := t_M_s hi (by decide) (by omega) (by omega)
      have g1 : t_M X (-1) 1 = X 72 0 := t_M_g (by omega)
      have w1 := hW.1
      have w2 := hW.2.1 i hi.1 hi.2
      have w3 := hW.2.2 i hi.1 hi.2
      have sr := m_sum_r hW hi.1 hi.2
      have lr := m_least_r hW hi.1 hi.2
      have hQa := hQ i hi.1 hi.2
      refine x_iload_n B dX8_line_25 rfl ?_
      refine x_if_ne B (tgt := 36) dX8_line_26 (by decide) ⟨by omega, by omega⟩ (fun h_26 => ?_) (fun h_26 => ?_)
      · refine x_aload_n B dX8_line_36 rfl ?_
        refine x_iload_n B dX8_line_37 rfl ?_
        refine x_go (x_rV B h8 (show x_cl[7]? = some _ from rfl) (c_X8_aimsWin C0 (by rw [e3]; exact hi)) (lw_V q1762 q1764 qs87 q122 q1765) hv_X8_aimsWin ⟨by decide, by decide⟩ ⟨by decide, by decide⟩ rfl rfl (by simp [x_cr, x_c1, x_c2]) dX8_line_38) (fun v_38 X_38 p_38 => ?_)
        obtain ⟨rfl, hwA, hv⟩ := p_38
        rw [hz.wn] at hv
        have hhA : h_eq X X_38 := hz.trans hwA.h
        have hvA : ∀ v, 0 ≤ v → v ≤ 120 → X_38 80 v = (q8_lA X i w) v := fun v v1 v2 => by unfold q8_lA; rw [if_neg (by omega)]; exact hv v v1 v2
        generalize X_38 = Y1 at hhA hvA ⊢
        refine x_aload_n B dX8_line_41 rfl ?_
        refine x_iconst B dX8_line_42 ?_
        refine x_putI B (k := 1) 1 rfl rfl rfl ⟨by omega, by omega⟩ xc_7 (by decide) rfl nn_7_1 (fun _ => rfl) h8 (Or.inl q1336) (fun _ h => h) dX8_line_43 ?_
        have hh2 : h_eq X (x_up Y1 64 1 0) := hhA.u64 (Or.inr (Or.inl rfl))
        have y1 : x_up Y1 64 1 0 64 1 = 0 := x_up_s _ _ _ _
        have yA : ∀ v, 0 ≤ v → v ≤ 120 → x_up Y1 64 1 0 80 v = (q8_lA X i w) v := fun v v1 v2 => by rw [x_up_o _ (by omega)]; exact hvA v v1 v2
        generalize x_up Y1 64 1 0 = Y2 at hh2 y1 yA ⊢
        have C2 := hh2.C hC
        obtain ⟨y3, yM, -, -, -, yO, -⟩ := hh2.v
        obtain ⟨hK2, hP2, hO2, hW2, hL2⟩ := id C2
        have y72 : Y2 72 = X 72 := hh2.1 72 (by omega) (by omega) (by omega)
        have hAr : ∀ v, 0 ≤ v → v ≤ 120 → 0 ≤ (q8_lA X i w) v ∧ (q8_lA X i w) v ≤ 1000000 := fun v v1 v2 => by
          unfold q8_lA
          by_cases q : w = 0
          · rw [if_pos q]; omega
          · rw [if_neg q]; exact g_wn_r hC v v1 v2
        have hE2 : e8 κ Y2 (t_O X i) (q8_lA X i w) i := by have := e8.mk (A := (q8_lA X i w)) C2 (by rw [y3]; exact hi) yA hAr; rw [yO] at this; exact this
        refine x_aload_n B dX8_line_46 rfl ?_
        refine x_iload_n B dX8_line_47 rfl ?_
        refine x_goP (x_rV B h8 (show x_cl[7]? = some _ from rfl) (c_X8_isOut hT h8 ⟨by omega, by omega⟩) (lw_V q1521 q1523 qs51 q122 q1524) hv_X8_isOut ⟨by decide, by decide⟩ ⟨by decide, by decide⟩ rfl rfl (by simp [x_cr, x_c1, x_c2]) dX8_line_48) ?_
        rw [y72]
        refine x_if_ne B (tgt := 61) dX8_line_51 (by decide) ⟨by split <;> omega, by split <;> omega⟩ (fun h_51 => ?_) (fun h_51 => ?_)
        · refine x_iconst B dX8_line_61 ?_
          refine x_iret B (fun _ _ h => h) ?_ dX8_line_62
          have hz : t_M X i 7 ≠ 0 ∨ t_M X (-1) 1 = 3 := by
            by_cases z : t_M X i 7 = 0
            · refine Or.inr ?_
              first | (by_cases y : X 72 0 = 3; omega; rw [if_neg y] at h_58; omega) | (rw [if_neg (by omega)] at h_51; omega)
            · exact Or.inl z
          refine ⟨hh2, ?_⟩
          rw [if_pos ⟨by unfold x_in; rw [if_pos (by omega)], by unfold x_in; rw [if_pos (by omega)]⟩]
          have hq : q8_li X i w 0 = (0, fun _ => 0) := by unfold q8_li q_ln; rw [if_pos hz]
          rw [hq]
          exact ⟨rfl, y1, fun k k1 k2 => by omega⟩
        · refine x_aload_n B dX8_line_54 rfl ?_
          refine x_goP (x_rV B h8 (show x_cl[7]? = some _ from rfl) (c_X8_isOver hT h8) (lw_V q1517 q1519 qs50 q122 q1520) hv_X8_isOver ⟨by decide, by decide⟩ ⟨by decide, by decide⟩ rfl rfl (by simp [x_cr, x_c1, x_c2]) dX8_line_55) ?_
          rw [y72]
          refine x_if_eq B (tgt := 63) dX8_line_58 (by decide) ⟨by split <;> omega, by split <;> omega⟩ (fun h_58 => ?_) (fun h_58 => ?_)
          · have h7 : t_M X i 7 = 0 := by by_cases z : X 72 (3 + 10 * i + 6) = 1; rw [if_pos z] at h_51; omega; omega
            have hL3 : t_M X (-1) 1 ≠ 3 := by intro z; rw [if_pos (by omega)] at h_58; omega
            have hm := m_rest hW hi.1 hi.2 h7 hL3
            refine x_aload_n B dX8_line_63 rfl ?_
            refine x_getC0 B (k := 11) hT rfl rfl xc_7 (by decide) h8 (Or.inl q1346) (fun _ h => h) dX8_line_64 (fun k_64 => ?_)
            refine x_iconst B dX8_line_67 ?_
            refine x_iald B k_64 ⟨by omega, by omega⟩ dX8_line_68 (fun r_68 => ?_)
            rw [y72, ← g1] at r_68 ⊢
            refine x_istw_4 B dX8_line_69 (by first | rfl | exact x_cr _ _) ?_
            refine x_aload_n B dX8_line_71 rfl ?_
            refine x_iload_n B dX8_line_72 rfl ?_
            refine x_goP (x_rV B h8 (show x_cl[7]? = some _ from rfl) (c_X8_sumAhead hK2 hW2 (by rw [y3]; exact hi) (by rw [yM]; exact h7) (by rw [yM]; exact hL3)) (lw_V q1701 q1703 qs78 q122 q1704) hv_X8_sumAhead ⟨by decide, by decide⟩ ⟨by decide, by decide⟩ rfl rfl (by simp [x_cr, x_c1, x_c2]) dX8_line_73) ?_
            rw [yM]
            refine x_istw_5 B dX8_line_76 (by first | rfl | exact x_cr _ _) ?_
            refine x_iload B dX8_line_78 rfl ?_
            refine x_istw_6 B dX8_line_80 (by first | rfl | exact x_cr _ _) ?_
            refine lp_82 _ 3 _ _ _ _ _ _ 0 (fun _ => 0) Y2 ⟨⟨hi, hw, h7, hL3⟩, ⟨by omega, by omega, by omega⟩, hm.1, ⟨hh2, hE2⟩, fun _ => ⟨rfl, rfl, rfl, rfl⟩, fun q => absurd rfl q, ⟨y1, by omega, by omega, fun k k1 k2 => by omega⟩, ?_⟩ (Nat.lt_succ_self _)
            unfold q8_li q_ln
            rw [if_neg (by omega), show (if t_M X i 3 = 0 then 3 else (t_M X (-1) 2 + t_M X i 6)) = (if (m_least (t_M X) i) = 0 then 3 else (t_M X (-1) 2 + t_M X i 6)) from ?_]
            by_cases q : t_M X i 3 = 0
            · rw [if_pos q, if_pos (by unfold m_least; rw [if_pos q])]
            · rw [if_neg q, if_neg (by have := lr.2.2 q; omega)]
          · refine x_iconst B dX8_line_61 ?_
            refine x_iret B (fun _ _ h => h) ?_ dX8_line_62
            have hz : t_M X i 7 ≠ 0 ∨ t_M X (-1) 1 = 3 := by
              by_cases z : t_M X i 7 = 0
              · refine Or.inr ?_
                first | (by_cases y : X 72 0 = 3; omega; rw [if_neg y] at h_58; omega) | (rw [if_neg (by omega)] at h_51; omega)
              · exact Or.inl z
            refine ⟨hh2, ?_⟩
            rw [if_pos ⟨by unfold x_in; rw [if_pos (by omega)], by unfold x_in; rw [if_pos (by omega)]⟩]
            have hq : q8_li X i w 0 = (0, fun _ => 0) := by unfold q8_li q_ln; rw [if_pos hz]
            rw [hq]
            exact ⟨rfl, y1, fun k k1 k2 => by omega⟩
      · refine x_aload_n B dX8_line_29 rfl ?_
        refine x_go (x_rV B h8 (show x_cl[7]? = some _ from rfl) (c_X8_aimsMass hT h8) (lw_V q1689 q1691 qs75 q122 q1692) hv_X8_aimsMass ⟨by decide, by decide⟩ ⟨by decide, by decide⟩ rfl rfl (by simp [x_cr, x_c1, x_c2]) dX8_line_30) (fun v_30 X_30 p_30 => ?_)
        obtain ⟨rfl, hwA, hv⟩ := p_30
        have hhA : h_eq X X_30 := hz.trans hwA.h
        have hvA : ∀ v, 0 ≤ v → v ≤ 120 → X_30 80 v = (q8_lA X i w) v := fun v v1 v2 => by unfold q8_lA; rw [if_pos (by omega)]; exact hv v v1 v2
        generalize X_30 = Y1 at hhA hvA ⊢
        refine x_goto B (tgt := 41) dX8_line_33 (by decide) ?_
        refine x_aload_n B dX8_line_41 rfl ?_
        refine x_iconst B dX8_line_42 ?_
        refine x_putI B (k := 1) 1 rfl rfl rfl ⟨by omega, by omega⟩ xc_7 (by decide) rfl nn_7_1 (fun _ => rfl) h8 (Or.inl q1336) (fun _ h => h) dX8_line_43 ?_
        have hh2 : h_eq X (x_up Y1 64 1 0) := hhA.u64 (Or.inr (Or.inl rfl))
        have y1 : x_up Y1 64 1 0 64 1 = 0 := x_up_s _ _ _ _
        have yA : ∀ v, 0 ≤ v → v ≤ 120 → x_up Y1 64 1 0 80 v = (q8_lA X i w) v := fun v v1 v2 => by rw [x_up_o _ (by omega)]; exact hvA v v1 v2
        generalize x_up Y1 64 1 0 = Y2 at hh2 y1 yA ⊢
        have C2 := hh2.C hC
        obtain ⟨y3, yM, -, -, -, yO, -⟩ := hh2.v
        obtain ⟨hK2, hP2, hO2, hW2, hL2⟩ := id C2
        have y72 : Y2 72 = X 72 := hh2.1 72 (by omega) (by omega) (by omega)
        have hAr : ∀ v, 0 ≤ v → v ≤ 120 → 0 ≤ (q8_lA X i w) v ∧ (q8_lA X i w) v ≤ 1000000 := fun v v1 v2 => by
          unfold q8_lA
          by_cases q : w = 0
          · rw [if_pos q]; omega
          · rw [if_neg q]; exact g_wn_r hC v v1 v2
        have hE2 : e8 κ Y2 (t_O X i) (q8_lA X i w) i := by have := e8.mk (A := (q8_lA X i w)) C2 (by rw [y3]; exact hi) yA hAr; rw [yO] at this; exact this
        refine x_aload_n B dX8_line_46 rfl ?_
        refine x_iload_n B dX8_line_47 rfl ?_
        refine x_goP (x_rV B h8 (show x_cl[7]? = some _ from rfl) (c_X8_isOut hT h8 ⟨by omega, by omega⟩) (lw_V q1521 q1523 qs51 q122 q1524) hv_X8_isOut ⟨by decide, by decide⟩ ⟨by decide, by decide⟩ rfl rfl (by simp [x_cr, x_c1, x_c2]) dX8_line_48) ?_
        rw [y72]
        refine x_if_ne B (tgt := 61) dX8_line_51 (by decide) ⟨by split <;> omega, by split <;> omega⟩ (fun h_51 => ?_) (fun h_51 => ?_)
        · refine x_iconst B dX8_line_61 ?_
          refine x_iret B (fun _ _ h => h) ?_ dX8_line_62
          have hz : t_M X i 7 ≠ 0 ∨ t_M X (-1) 1 = 3 := by
            by_cases z : t_M X i 7 = 0
            · refine Or.inr ?_
              first | (by_cases y : X 72 0 = 3; omega; rw [if_neg y] at h_58; omega) | (rw [if_neg (by omega)] at h_51; omega)
            · exact Or.inl z
          refine ⟨hh2, ?_⟩
          rw [if_pos ⟨by unfold x_in; rw [if_pos (by omega)], by unfold x_in; rw [if_pos (by omega)]⟩]
          have hq : q8_li X i w 0 = (0, fun _ => 0) := by unfold q8_li q_ln; rw [if_pos hz]
          rw [hq]
          exact ⟨rfl, y1, fun k k1 k2 => by omega⟩
        · refine x_aload_n B dX8_line_54 rfl ?_
          refine x_goP (x_rV B h8 (show x_cl[7]? = some _ from rfl) (c_X8_isOver hT h8) (lw_V q1517 q1519 qs50 q122 q1520) hv_X8_isOver ⟨by decide, by decide⟩ ⟨by decide, by decide⟩ rfl rfl (by simp [x_cr, x_c1, x_c2]) dX8_line_55) ?_
          rw [y72]
          refine x_if_eq B (tgt := 63) dX8_line_58 (by decide) ⟨by split <;> omega, by split <;> omega⟩ (fun h_58 => ?_) (fun h_58 => ?_)
          · have h7 : t_M X i 7 = 0 := by by_cases z : X 72 (3 + 10 * i + 6) = 1; rw [if_pos z] at h_51; omega; omega
            have hL3 : t_M X (-1) 1 ≠ 3 := by intro z; rw [if_pos (by omega)] at h_58; omega
            have hm := m_rest hW hi.1 hi.2 h7 hL3
            refine x_aload_n B dX8_line_63 rfl ?_
            refine x_getC0 B (k := 11) hT rfl rfl xc_7 (by decide) h8 (Or.inl q1346) (fun _ h => h) dX8_line_64 (fun k_64 => ?_)
            refine x_iconst B dX8_line_67 ?_
            refine x_iald B k_64 ⟨by omega, by omega⟩ dX8_line_68 (fun r_68 => ?_)
            rw [y72, ← g1] at r_68 ⊢
            refine x_istw_4 B dX8_line_69 (by first | rfl | exact x_cr _ _) ?_
            refine x_aload_n B dX8_line_71 rfl ?_
            refine x_iload_n B dX8_line_72 rfl ?_
            refine x_goP (x_rV B h8 (show x_cl[7]? = some _ from rfl) (c_X8_sumAhead hK2 hW2 (by rw [y3]; exact hi) (by rw [yM]; exact h7) (by rw [yM]; exact hL3)) (lw_V q1701 q1703 qs78 q122 q1704) hv_X8_sumAhead ⟨by decide, by decide⟩ ⟨by decide, by decide⟩ rfl rfl (by simp [x_cr, x_c1, x_c2]) dX8_line_73) ?_
            rw [yM]
            refine x_istw_5 B dX8_line_76 (by first | rfl | exact x_cr _ _) ?_
            refine x_iload B dX8_line_78 rfl ?_
            refine x_istw_6 B dX8_line_80 (by first | rfl | exact x_cr _ _) ?_
            refine lp_82 _ 3 _ _ _ _ _ _ 0 (fun _ => 0) Y2 ⟨⟨hi, hw, h7, hL3⟩, ⟨by omega, by omega, by omega⟩, hm.1, ⟨hh2, hE2⟩, fun _ => ⟨rfl, rfl, rfl, rfl⟩, fun q => absurd rfl q, ⟨y1, by omega, by omega, fun k k1 k2 => by omega⟩, ?_⟩ (Nat.lt_succ_self _)
            unfold q8_li q_ln
            rw [if_neg (by omega), show (if t_M X i 3 = 0 then 3 else (t_M X (-1) 2 + t_M X i 6)) = (if (m_least (t_M X) i) = 0 then 3 else (t_M X (-1) 2 + t_M X i 6)) from ?_]
            by_cases q : t_M X i 3 = 0
            · rw [if_pos q, if_pos (by unfold m_least; rw [if_pos q])]
            · rw [if_neg q, if_neg (by have := lr.2.2 q; omega)]
          · refine x_iconst B dX8_line_61 ?_
            refine x_iret B (fun _ _ h => h) ?_ dX8_line_62
            have hz : t_M X i 7 ≠ 0 ∨ t_M X (-1) 1 = 3 := by
              by_cases z : t_M X i 7 = 0
              · refine Or.inr ?_
                first | (by_cases y : X 72 0 = 3; omega; rw [if_neg y] at h_58; omega) | (rw [if_neg (by omega)] at h_51; omega)
              · exact Or.inl z
            refine ⟨hh2, ?_⟩
            rw [if_pos ⟨by unfold x_in; rw [if_pos (by omega)], by unfold x_in; rw [if_pos (by omega)]⟩]
            have hq : q8_li X i w 0 = (0, fun _ => 0) := by unfold q8_li q_ln; rw [if_pos hz]
            rw [hq]
            exact ⟨rfl, y1, fun k k1 k2 => by omega⟩
    · refine x_iconst B dX8_line_23 ?_
      refine x_iret B (fun _ _ h => h) ?_ dX8_line_24
      exact ⟨hz, by rw [if_neg (by omega)]; exact ⟨rfl, hrz⟩⟩
