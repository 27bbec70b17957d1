theorem m_sum_up {M : x_X} {i t z : Int} (h7 : M i 7 = 0) (ht : 0 ≤ t ∧ t < 3) : m_sum (x_up M i (10 + t) z) i = m_sum M i - M i (10 + t) + z := by
  unfold m_sum
  rw [x_up_n _ (Or.inr (by omega)), if_pos h7, if_pos h7]
  rcases (show t = 0 ∨ t = 1 ∨ t = 2 by omega) with e | e | e <;> subst e <;> simp [x_up] <;> omega
theorem m_sum_uo {M : x_X} {i j f z : Int} (h : j ≠ i) : m_sum (x_up M i f z) j = m_sum M j := by
  unfold m_sum
  rw [x_up_n _ (Or.inl h), x_up_n _ (Or.inl h), x_up_n _ (Or.inl h), x_up_n _ (Or.inl h)]
theorem m_V_ub {n : Int} {M : x_X} {i t z : Int} (h : m_V n M) (ht : 0 ≤ t ∧ t < 3) (hi : 0 ≤ i) (hz : 0 ≤ z ∧ z ≤ 40) : m_V n (x_up M i (10 + t) z) := by
  obtain ⟨hG, hR, hS⟩ := h
  have g : ∀ f, x_up M i (10 + t) z (-1) f = M (-1) f := fun f => x_up_n _ (Or.inl (by omega))
  have o : ∀ l f, f ≤ 9 → x_up M i (10 + t) z l f = M l f := fun l f hf => x_up_n _ (Or.inr (by omega))
  have b : ∀ l f, x_up M i (10 + t) z l f = z ∨ x_up M i (10 + t) z l f = M l f := fun l f => by unfold x_up; split; exact Or.inl rfl; exact Or.inr rfl
  refine ⟨by rw [g, g, g]; exact hG, fun l l1 l2 => ?_, fun l l1 l2 => ?_⟩
  · have hr := hR l l1 l2
    rw [o l 2 (by omega), o l 3 (by omega), o l 4 (by omega), o l 5 (by omega), o l 6 (by omega), o l 7 (by omega)]
    refine ⟨hr.1, hr.2.1, hr.2.2.1, hr.2.2.2.1, hr.2.2.2.2.1, hr.2.2.2.2.2.1, ?_, ?_, ?_⟩
    · rcases b l 10 with e | e <;> rw [e] <;> omega
    · rcases b l 11 with e | e <;> rw [e] <;> omega
    · rcases b l 12 with e | e <;> rw [e] <;> omega
  · rw [g, o l 3 (by omega), o l 7 (by omega)]; exact hS l l1 l2
theorem c_X8_needs {l : Launch} {E : x_E} {κ : x_Ka} {X : x_X} {i j : Int} (hC : t_C κ X) (hi0 : xR i) (hj0 : xR j) : x_De l yX8_needs cX8_needs 7 (some .int) 5 E κ X [x_rf E 64, vi i, vi j] (vi (u_needs (X 64 3) (t_li X) (t_M X) i j)) ((x_up X 64 0 0)) := by
  refine x_Met.of [(false, x_rf E 64), (false, vi i), (false, vi j)] [some (x_rf E 64), some (vi i), some (vi j), none, none, none, none] 4 (by decide) rfl rfl ⟨x_cr E (64), rfl, rfl, trivial⟩ rfl rfl ?_
  intro p e s m args below meth c hargs hin B
  obtain ⟨hK, hP, hO, hW, hLa⟩ := id hC
  obtain ⟨hT, h8, hn⟩ := id hK
  have z1 := x_in_01 i 0 (X 64 3 - 1)
  have z2 := x_in_01 j 0 (X 64 3 - 1)
  have hn0 := (t_nt.rf X).z (i := 0) (Or.inl rfl) 0
  have C0 := hn0.C hC
  obtain ⟨e3, eM, el, eli, ep, eO, eG⟩ := hn0.v
  have ebo : t_body (x_up X 64 0 0) = t_body X := t_body_e e3 (x_up_o _ (by omega))
  have x0o : ∀ b, b ≠ 64 → x_up X 64 0 0 b = X b := fun b hb => x_up_o _ hb
  have x0i : ∀ i, i ≠ 0 → x_up X 64 0 0 64 i = X 64 i := fun i hi => x_up_n _ (Or.inr hi)
  obtain ⟨hK0, hP0, hO0, hW0, hL0⟩ := id C0
  have g1 : t_M X (-1) 1 = X 72 0 := t_M_g (by omega)
  have w1 := hW.1
  have lp_76 : ∀ (n : Nat) (x z fd : Int), (((0 ≤ i ∧ i < X 64 3) ∧ (0 ≤ j ∧ j < X 64 3) ∧ i ≠ j) ∧ (t_M X i 3 > 0 ∧ t_M X i 7 = 0 ∧ X 72 0 < 3) ∧ (m_least (t_M X) i - 1 ≤ x ∧ x ≤ 40) ∧ (0 ≤ z ∧ z ≤ 40) ∧ fd = m_fl (fun x => decide (m_ah (t_li X i j) (m_sum (t_M X) i - t_M X i (10 + t_M X (-1) 1) + x) 0 (m_sum (t_M X) j) (t_M X j 7) ≠ 0)) (40 - x).toNat (x + 1) ∧ (-3 ≤ fd ∧ fd ≤ 40) ∧ u_needs (X 64 3) (t_li X) (t_M X) i j = m_fl (fun x => decide (m_ah (t_li X i j) (m_sum (t_M X) i - t_M X i (10 + t_M X (-1) 1) + x) 0 (m_sum (t_M X) j) (t_M X j 7) ≠ 0)) (41 - m_least (t_M X) i).toNat (m_least (t_M X) i)) → (x.toNat < n) → x_G p l e (x_rm 5 0 0) s m args below meth c 7 E 0 0 (MQ below (x_Q E κ (fun v_ X_ => v_ = some (vi (u_needs (X 64 3) (t_li X) (t_M X) i j)) ∧ X_ = ((x_up X 64 0 0)))) args s 0 0 (fun q => E.1 ≤ q)) κ 76 [some (x_rf E 64), some (vi i), some (vi j), some (vi (7 + X 72 0)), some (vi (X 72 (3 + 10 * i + (7 + X 72 0)))), some (vi fd), some (vi x)] [] (x_up (x_up X 64 0 0) 72 (3 + 10 * i + (7 + X 72 0)) z) := by
    intro n
    induction n with
    | zero => intro x z fd hinv hme; exfalso; omega
    | succ n ih =>
      intro x z fd hinv hme
      obtain ⟨⟨hi, hj, hij⟩, ⟨h3, h7, hlt⟩, hx, hz, hfd, hfr, hu⟩ := hinv
      have wi := hW.2.1 i hi.1 hi.2
      have mlr := m_least_r hW hi.1 hi.2
      have ml1 := mlr.2.2 (by omega)
      have hti : ti (10 + X 72 0) = 7 + X 72 0 := by rcases (show X 72 0 = 0 ∨ X 72 0 = 1 ∨ X 72 0 = 2 by omega) with e | e | e <;> rw [e] <;> decide
      have sb : t_M X i (10 + X 72 0) = X 72 (3 + 10 * i + (7 + X 72 0)) := t_M_s hi hti (by omega) (by omega)
      have hbl := ((hW.2.2 i hi.1 hi.2).2.2.2.2 h3).2.1
      rw [g1] at hbl
      have hbr : 0 ≤ t_M X i (10 + X 72 0) := by rcases (show X 72 0 = 0 ∨ X 72 0 = 1 ∨ X 72 0 = 2 by omega) with e | e | e <;> rw [e] <;> simp <;> omega
      have V : ∀ y, 0 ≤ y → y ≤ 40 → t_M (x_up (x_up X 64 0 0) 72 (3 + 10 * i + (7 + X 72 0)) y) = x_up (t_M X) i (10 + X 72 0) y ∧ x_up (x_up X 64 0 0) 72 (3 + 10 * i + (7 + X 72 0)) y 64 3 = X 64 3 ∧ m_V (x_up (x_up X 64 0 0) 72 (3 + 10 * i + (7 + X 72 0)) y 64 3) (t_M (x_up (x_up X 64 0 0) 72 (3 + 10 * i + (7 + X 72 0)) y)) ∧ t_K κ (x_up (x_up X 64 0 0) 72 (3 + 10 * i + (7 + X 72 0)) y) ∧ t_La (x_up (x_up X 64 0 0) 72 (3 + 10 * i + (7 + X 72 0)) y) ∧ t_li (x_up (x_up X 64 0 0) 72 (3 + 10 * i + (7 + X 72 0)) y) = t_li X := fun y y1 y2 => by
        have mM : t_M (x_up (x_up X 64 0 0) 72 (3 + 10 * i + (7 + X 72 0)) y) = x_up (t_M X) i (10 + X 72 0) y := by rw [t_M_us (f := 10 + X 72 0) (by rw [e3]; exact hi) hti (by omega), eM]
        have m3 : x_up (x_up X 64 0 0) 72 (3 + 10 * i + (7 + X 72 0)) y 64 3 = X 64 3 := by rw [x_up_o _ (by omega), e3]
        refine ⟨mM, m3, ?_, ?_, ?_, ?_⟩
        · rw [m3, mM]; exact m_V_ub hW.V (by omega) hi.1 ⟨y1, y2⟩
        · unfold t_K at *; rw [m3]; exact hK
        · intro b b1 b2; rw [m3] at b2; have q : ∀ j, j = 2 ∨ j = 3 → x_up (x_up X 64 0 0) 72 (3 + 10 * i + (7 + X 72 0)) y 72 (3 + 10 * b + j) = X 72 (3 + 10 * b + j) := (fun j hj => by rw [x_up_n _ (Or.inr (by omega)), x_up_o _ (by omega)]); rw [q 2 (by omega), q 3 (by omega)]; exact hLa b b1 b2
        · unfold t_li; rw [t_lot_e (X := (x_up X 64 0 0)) (by rw [x_up_o _ (by omega)]) (x_up_o _ (by omega)), t_body_e (X := (x_up X 64 0 0)) (by rw [x_up_o _ (by omega)]) (x_up_o _ (by omega)), el, ebo]
      obtain ⟨mM, m3, mV, mK, mL, -⟩ := V z hz.1 hz.2
      have mle : m_least (x_up (t_M X) i (10 + X 72 0) z) i = m_least (t_M X) i := by unfold m_least; rw [x_up_n _ (Or.inr (by omega)), x_up_n _ (Or.inr (by omega)), x_up_n _ (Or.inr (by omega)), x_up_n _ (Or.inl (by omega))]
      refine x_iload B dX8_needs_76 rfl ?_
      refine x_aload_n B dX8_needs_78 rfl ?_
      refine x_iload_n B dX8_needs_79 rfl ?_
      refine x_goP (x_rV B h8 (show x_cl[7]? = some _ from rfl) (c_X8_leastOf mK mV mL (by rw [m3]; exact hi)) (lw_V q1589 q1591 qs60 q122 q1592) hv_X8_leastOf ⟨by decide, by decide⟩ ⟨by decide, by decide⟩ rfl rfl (by simp [x_cr, x_c1, x_c2]) dX8_needs_80) ?_
      rw [mM, mle]
      refine x_icmp_lt B (tgt := 123) dX8_needs_83 (by decide) ⟨by omega, by omega⟩ ⟨by omega, by omega⟩ (fun h_83 => ?_) (fun h_83 => ?_)
      · refine x_aload_n B dX8_needs_123 rfl ?_
        refine x_iload_n B dX8_needs_124 rfl ?_
        refine x_iload_n B dX8_needs_125 rfl ?_
        refine x_iload B dX8_needs_126 rfl ?_
        refine x_goV (x_rV B h8 (show x_cl[7]? = some _ from rfl) (c_X8_sets hT h8 ⟨by omega, by omega⟩ ⟨by omega, by omega⟩) (lw_V q1533 q1535 qs54 q122 q1536) hv_X8_sets ⟨by decide, by decide⟩ ⟨by decide, by decide⟩ rfl rfl (by simp [x_cr, x_c1, x_c2]) dX8_needs_128) ?_
        rw [x_up_t, show x_up (x_up X 64 0 0) 72 (3 + 10 * i + (7 + X 72 0)) (X 72 (3 + 10 * i + (7 + X 72 0))) = (x_up X 64 0 0) by have := x_up_self (x_up X 64 0 0) 72 (3 + 10 * i + (7 + X 72 0)); rw [x0o 72 (by omega)] at this; exact this]
        refine x_iload B dX8_needs_131 rfl ?_
        refine x_iret B (fun _ _ h => h) ?_ dX8_needs_133
        have ex : x + 1 = m_least (t_M X) i := by omega
        have ef : (40 - x).toNat = (41 - m_least (t_M X) i).toNat := by omega
        exact ⟨congrArg (fun z => some (vi z)) (by rw [hu, hfd, ex, ef]), rfl⟩
      · refine x_aload_n B dX8_needs_86 rfl ?_
        refine x_iload_n B dX8_needs_87 rfl ?_
        refine x_iload_n B dX8_needs_88 rfl ?_
        refine x_iload B dX8_needs_89 rfl ?_
        refine x_iload B dX8_needs_91 rfl ?_
        refine x_max B ⟨by omega, by omega⟩ ⟨by omega, by omega⟩ q1584 q666 q130 q667 (by decide) (by simp [x_cr, x_c1, x_c2]) ⟨by decide, by decide⟩ dX8_needs_93 ?_
        have emx : max (X 72 (3 + 10 * i + (7 + X 72 0))) x = x := by have hml : t_M X i 4 ≤ m_least (t_M X) i := (by unfold m_least; rw [if_neg (by omega)]; split <;> omega); omega
        rw [emx]
        refine x_goV (x_rV B h8 (show x_cl[7]? = some _ from rfl) (c_X8_sets hT h8 ⟨by omega, by omega⟩ ⟨by omega, by omega⟩) (lw_V q1533 q1535 qs54 q122 q1536) hv_X8_sets ⟨by decide, by decide⟩ ⟨by decide, by decide⟩ rfl rfl (by simp [x_cr, x_c1, x_c2]) dX8_needs_96) ?_
        rw [x_up_t]
        obtain ⟨nM, n3, nV, nK, nL, nli⟩ := V x (by omega) (by omega)
        refine x_aload_n B dX8_needs_99 rfl ?_
        refine x_iload_n B dX8_needs_100 rfl ?_
        refine x_iload_n B dX8_needs_101 rfl ?_
        refine x_goP (x_rV B h8 (show x_cl[7]? = some _ from rfl) (c_X8_isAhead nK nV (by rw [n3]; exact hi) (by rw [n3]; exact hj)) (lw_V q1669 q1671 qs73 q122 q1672) hv_X8_isAhead ⟨by decide, by decide⟩ ⟨by decide, by decide⟩ rfl rfl (by simp [x_cr, x_c1, x_c2]) dX8_needs_102) ?_
        have eah : m_ahd (t_li (x_up (x_up X 64 0 0) 72 (3 + 10 * i + (7 + X 72 0)) x)) (t_M (x_up (x_up X 64 0 0) 72 (3 + 10 * i + (7 + X 72 0)) x)) i j = m_ah (t_li X i j) (m_sum (t_M X) i - t_M X i (10 + X 72 0) + x) 0 (m_sum (t_M X) j) (t_M X j 7) := by unfold m_ahd; rw [nli, nM, m_sum_up h7 (by omega), m_sum_uo (Ne.symm hij), x_up_n _ (Or.inr (by omega)), x_up_n _ (Or.inl (Ne.symm hij)), h7]
        rw [eah]
        have r102 := m_ah_r (s := m_sum (t_M X) i - t_M X i (10 + X 72 0) + x) (io := 0) (o := m_sum (t_M X) j) (m_li_r (t_body X) (t_lot X) i j) ((hW.2.1 j hj.1 hj.2).2.2.2.2.2.1)
        have r102b : 0 ≤ m_ah (t_li X i j) (m_sum (t_M X) i - t_M X i (10 + X 72 0) + x) 0 (m_sum (t_M X) j) (t_M X j 7) ∧ m_ah (t_li X i j) (m_sum (t_M X) i - t_M X i (10 + X 72 0) + x) 0 (m_sum (t_M X) j) (t_M X j 7) ≤ 1 := r102
        refine x_if_eq B (tgt := 113) dX8_needs_105 (by decide) ⟨by omega, by omega⟩ (fun h_105 => ?_) (fun h_105 => ?_)
        · refine x_iload B dX8_needs_113 rfl ?_
          refine x_istw_5 B dX8_needs_115 (by first | rfl | exact x_cr _ _) ?_
          refine x_iinc_6 B dX8_needs_117 (by first | rfl | exact x_cr _ _) ?_
          refine x_goto B (tgt := 76) dX8_needs_120 (by decide) ?_
          have hPx : (decide (m_ah (t_li X i j) (m_sum (t_M X) i - t_M X i (10 + t_M X (-1) 1) + x) 0 (m_sum (t_M X) j) (t_M X j 7) ≠ 0) = true) ↔ m_ah (t_li X i j) (m_sum (t_M X) i - t_M X i (10 + t_M X (-1) 1) + x) 0 (m_sum (t_M X) j) (t_M X j 7) ≠ 0 := by simp
          have hx1 : (40 - (x + -1)).toNat = (40 - x).toNat + 1 := by omega
          rw [g1] at hPx
          refine ih _ _ _ ⟨⟨hi, hj, hij⟩, ⟨h3, h7, hlt⟩, ⟨by omega, by omega⟩, ⟨by omega, by omega⟩, ?_, ?_, hu⟩ (by omega)
          · rw [hx1, show x + -1 + 1 = x by omega, g1]
            first
            | (rw [m_fl_s (fun q => hPx.mp q h_105), ← g1]; exact hfd)
            | (rw [m_fl_e (hPx.mpr h_105)]; done)
          · omega
        · refine x_iload B dX8_needs_108 rfl ?_
          refine x_goto B (tgt := 115) dX8_needs_110 (by decide) ?_
          refine x_istw_5 B dX8_needs_115 (by first | rfl | exact x_cr _ _) ?_
          refine x_iinc_6 B dX8_needs_117 (by first | rfl | exact x_cr _ _) ?_
          refine x_goto B (tgt := 76) dX8_needs_120 (by decide) ?_
          have hPx : (decide (m_ah (t_li X i j) (m_sum (t_M X) i - t_M X i (10 + t_M X (-1) 1) + x) 0 (m_sum (t_M X) j) (t_M X j 7) ≠ 0) = true) ↔ m_ah (t_li X i j) (m_sum (t_M X) i - t_M X i (10 + t_M X (-1) 1) + x) 0 (m_sum (t_M X) j) (t_M X j 7) ≠ 0 := by simp
          have hx1 : (40 - (x + -1)).toNat = (40 - x).toNat + 1 := by omega
          rw [g1] at hPx
          refine ih _ _ _ ⟨⟨hi, hj, hij⟩, ⟨h3, h7, hlt⟩, ⟨by omega, by omega⟩, ⟨by omega, by omega⟩, ?_, ?_, hu⟩ (by omega)
          · rw [hx1, show x + -1 + 1 = x by omega, g1]
            first
            | (rw [m_fl_s (fun q => hPx.mp q h_105), ← g1]; exact hfd)
            | (rw [m_fl_e (hPx.mpr h_105)]; done)
          · omega
  refine x_aload_n B dX8_needs_0 rfl ?_
  refine x_iconst B dX8_needs_1 ?_
  refine x_putI B (k := 0) 0 rfl rfl rfl ⟨by omega, by omega⟩ xc_7 (by decide) rfl nn_7_0 (fun _ => rfl) h8 (Or.inl q1335) (fun _ h => h) dX8_needs_2 ?_
  refine x_aload_n B dX8_needs_5 rfl ?_
  refine x_iload_n B dX8_needs_6 rfl ?_
  refine x_goP (x_rV B h8 (show x_cl[7]? = some _ from rfl) (c_X8_isLifter hK0 hi0) (lw_V q1553 q1555 qs57 q122 q1556) hv_X8_isLifter ⟨by decide, by decide⟩ ⟨by decide, by decide⟩ rfl rfl (by simp [x_cr, x_c1, x_c2]) dX8_needs_7) ?_
  rw [e3]
  refine x_if_eq B (tgt := 26) dX8_needs_10 (by decide) ⟨by omega, by omega⟩ (fun h_10 => ?_) (fun h_10 => ?_)
  · refine x_iconst B dX8_needs_26 ?_
    refine x_iret B (fun _ _ h => h) ?_ dX8_needs_27
    exact ⟨congrArg (fun z => some (vi z)) (by unfold u_needs; rw [if_neg (by omega)]), rfl⟩
  · refine x_aload_n B dX8_needs_13 rfl ?_
    refine x_iload_n B dX8_needs_14 rfl ?_
    refine x_goP (x_rV B h8 (show x_cl[7]? = some _ from rfl) (c_X8_isLifter hK0 hj0) (lw_V q1553 q1555 qs57 q122 q1556) hv_X8_isLifter ⟨by decide, by decide⟩ ⟨by decide, by decide⟩ rfl rfl (by simp [x_cr, x_c1, x_c2]) dX8_needs_15) ?_
    rw [e3]
    refine x_if_eq B (tgt := 26) dX8_needs_18 (by decide) ⟨by omega, by omega⟩ (fun h_18 => ?_) (fun h_18 => ?_)
    · refine x_iconst B dX8_needs_26 ?_
      refine x_iret B (fun _ _ h => h) ?_ dX8_needs_27
      exact ⟨congrArg (fun z => some (vi z)) (by unfold u_needs; rw [if_neg (by omega)]), rfl⟩
    · refine x_iload_n B dX8_needs_21 rfl ?_
      refine x_iload_n B dX8_needs_22 rfl ?_
      refine x_icmp_ne B (tgt := 28) dX8_needs_23 (by decide) ⟨by omega, by omega⟩ ⟨by omega, by omega⟩ (fun h_23 => ?_) (fun h_23 => ?_)
      · have hi : 0 ≤ i ∧ i < X 64 3 := by unfold x_in at h_10; split at h_10 <;> omega
        have hj : 0 ≤ j ∧ j < X 64 3 := by unfold x_in at h_18; split at h_18 <;> omega
        have q1 : x_in i 0 (X 64 3 - 1) = 1 := by omega
        have q2 : x_in j 0 (X 64 3 - 1) = 1 := by omega
        have hi2 : 0 ≤ i ∧ i < (x_up X 64 0 0) 64 3 := by rw [e3]; exact hi
        have hj2 : 0 ≤ j ∧ j < (x_up X 64 0 0) 64 3 := by rw [e3]; exact hj
        have r31 : 0 ≤ m_ahd (t_li X) (t_M X) i j ∧ m_ahd (t_li X) (t_M X) i j ≤ 1 := by unfold m_ahd; exact m_ah_r (m_li_r _ _ _ _) ((hW.2.1 j hj.1 hj.2).2.2.2.2.2.1)
        have mlr := m_least_r hW hi.1 hi.2
        refine x_aload_n B dX8_needs_28 rfl ?_
        refine x_iload_n B dX8_needs_29 rfl ?_
        refine x_iload_n B dX8_needs_30 rfl ?_
        refine x_goP (x_rV B h8 (show x_cl[7]? = some _ from rfl) (c_X8_isAhead hK0 hW0.V hi2 hj2) (lw_V q1669 q1671 qs73 q122 q1672) hv_X8_isAhead ⟨by decide, by decide⟩ ⟨by decide, by decide⟩ rfl rfl (by simp [x_cr, x_c1, x_c2]) dX8_needs_31) ?_
        rw [eli, eM]
        refine x_if_eq B (tgt := 39) dX8_needs_34 (by decide) ⟨by omega, by omega⟩ (fun h_34 => ?_) (fun h_34 => ?_)
        · refine x_aload_n B dX8_needs_39 rfl ?_
          refine x_iload_n B dX8_needs_40 rfl ?_
          refine x_goP (x_rV B h8 (show x_cl[7]? = some _ from rfl) (c_X8_leastOf hK0 hW0.V hL0 hi2) (lw_V q1589 q1591 qs60 q122 q1592) hv_X8_leastOf ⟨by decide, by decide⟩ ⟨by decide, by decide⟩ rfl rfl (by simp [x_cr, x_c1, x_c2]) dX8_needs_41) ?_
          rw [eM]
          refine x_if_ne B (tgt := 50) dX8_needs_44 (by decide) ⟨by omega, by omega⟩ (fun h_44 => ?_) (fun h_44 => ?_)
          · have wi9 := hW.2.1 i hi.1 hi.2
            have w39 := hW.2.2 i hi.1 hi.2
            have h39 : t_M X i 3 > 0 := by unfold m_least at h_44; split at h_44 <;> omega
            have hlt9 : X 72 0 < 3 := by rcases Int.lt_or_le (X 72 0) 3 with q | q; exact q; exfalso; have := w39.2.1 (by omega); omega
            refine x_bipush B dX8_needs_50 (by decide) ?_
            refine x_aload_n B dX8_needs_52 rfl ?_
            refine x_getC0 B (k := 11) hT rfl rfl xc_7 (by decide) h8 (Or.inl q1346) (fun _ h => h) dX8_needs_53 (fun k_53 => ?_)
            refine x_iconst B dX8_needs_56 ?_
            refine x_iald B k_53 ⟨by omega, by omega⟩ dX8_needs_57 (fun r_57 => ?_)
            rw [x0o 72 (by omega)] at r_57 ⊢
            refine x_iadd B dX8_needs_58 ?_
            refine x_ist_3 B dX8_needs_59 (by first | rfl | exact x_cr _ _) ?_
            refine x_aload_n B dX8_needs_60 rfl ?_
            refine x_iload_n B dX8_needs_61 rfl ?_
            refine x_iload_n B dX8_needs_62 rfl ?_
            refine x_goP (x_rV B h8 (show x_cl[7]? = some _ from rfl) (c_X8_of hT h8 ⟨by omega, by omega⟩) (lw_V q1525 q1527 qs52 q122 q1528) hv_X8_of ⟨by decide, by decide⟩ ⟨by decide, by decide⟩ rfl rfl (by simp [x_cr, x_c1, x_c2]) dX8_needs_63) ?_
            rw [x0o 72 (by omega)]
            refine x_istw_4 B dX8_needs_66 (by first | rfl | exact x_cr _ _) ?_
            refine x_bipush B dX8_needs_68 (by decide) ?_
            refine x_istw_5 B dX8_needs_70 (by first | rfl | exact x_cr _ _) ?_
            refine x_bipush B dX8_needs_72 (by decide) ?_
            refine x_istw_6 B dX8_needs_74 (by first | rfl | exact x_cr _ _) ?_
            have hlr := m_least_r hW hi.1 hi.2
            have w3 := hW.2.2 i hi.1 hi.2
            have wi := hW.2.1 i hi.1 hi.2
            have h3 : t_M X i 3 > 0 := by unfold m_least at h_44; split at h_44 <;> omega
            have h7 : t_M X i 7 = 0 := by rcases (show t_M X i 7 = 0 ∨ t_M X i 7 = 1 by omega) with q | q; exact q; exfalso; have := w3.1 q; omega
            have hlt : X 72 0 < 3 := by rcases Int.lt_or_le (X 72 0) 3 with q | q; exact q; exfalso; have := w3.2.1 (by omega); omega
            have hu0 : u_needs (X 64 3) (t_li X) (t_M X) i j = m_fl (fun x => decide (m_ah (t_li X i j) (m_sum (t_M X) i - t_M X i (10 + t_M X (-1) 1) + x) 0 (m_sum (t_M X) j) (t_M X j 7) ≠ 0)) (41 - m_least (t_M X) i).toNat (m_least (t_M X) i) := by unfold u_needs; rw [if_pos ⟨q1, q2, by omega⟩, if_neg (by omega), if_neg (by omega)]
            have hti : ti (10 + X 72 0) = 7 + X 72 0 := by rcases (show X 72 0 = 0 ∨ X 72 0 = 1 ∨ X 72 0 = 2 by omega) with e | e | e <;> rw [e] <;> decide
            have sb : t_M X i (10 + X 72 0) = X 72 (3 + 10 * i + (7 + X 72 0)) := t_M_s hi hti (by omega) (by omega)
            have hbr : 0 ≤ t_M X i (10 + X 72 0) ∧ t_M X i (10 + X 72 0) ≤ 40 := by rcases (show X 72 0 = 0 ∨ X 72 0 = 1 ∨ X 72 0 = 2 by omega) with e | e | e <;> rw [e] <;> simp <;> omega
            have e0 := lp_76 _ 40 ((x_up X 64 0 0) 72 (3 + 10 * i + (7 + X 72 0))) (-3) ⟨⟨hi, hj, by omega⟩, ⟨h3, h7, hlt⟩, ⟨by omega, by omega⟩, by rw [x0o 72 (by omega), ← sb]; exact hbr, rfl, ⟨by omega, by omega⟩, hu0⟩ (Nat.lt_succ_self _)
            rw [x_up_self] at e0
            exact e0
          · refine x_bipush B dX8_needs_47 (by decide) ?_
            refine x_iret B (fun _ _ h => h) ?_ dX8_needs_49
            exact ⟨congrArg (fun z => some (vi z)) (by unfold u_needs; rw [if_pos ⟨q1, q2, by omega⟩, if_neg (by omega), if_pos (by by_cases q : t_M X i 3 = 0; exact q; have := mlr.2.2 q; omega)]), rfl⟩
        · refine x_iconst B dX8_needs_37 ?_
          refine x_iret B (fun _ _ h => h) ?_ dX8_needs_38
          exact ⟨congrArg (fun z => some (vi z)) (by unfold u_needs; rw [if_pos ⟨q1, q2, by omega⟩, if_pos (by omega)]), rfl⟩
      · refine x_iconst B dX8_needs_26 ?_
        refine x_iret B (fun _ _ h => h) ?_ dX8_needs_27
        exact ⟨congrArg (fun z => some (vi z)) (by unfold u_needs; rw [if_neg (by omega)]), rfl⟩
