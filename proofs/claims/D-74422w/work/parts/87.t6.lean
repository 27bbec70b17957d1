theorem c_X8_slot {l : Launch} {E : x_E} {κ : x_Ka} {X : x_X} {i k : Int} (hC : t_C κ X) (hi0 : xR i) (hk0 : xR k) : x_De l yX8_slot cX8_slot 6 (some .int) 4 E κ X [x_rf E 64, vi i, vi k] (vi (u_slot (X 64 3) (t_lot X) (t_M X) i k)) ((x_up X 64 0 0)) := by
  refine x_Met.of [(false, x_rf E 64), (false, vi i), (false, vi k)] [some (x_rf E 64), some (vi i), some (vi k), none, none, none] 3 (by decide) rfl rfl ⟨x_cr E (64), rfl, rfl, trivial⟩ rfl rfl ?_
  intro p e s m args below meth c hargs hin B
  obtain ⟨hK, hP, hO, hW, hLa⟩ := id hC
  obtain ⟨hT, h8, hn⟩ := id hK
  have z1 := x_in_01 i 0 (X 64 3 - 1)
  have hn0 := (t_nt.rf X).z (i := 0) (Or.inl rfl) 0
  have C0 := hn0.C hC
  obtain ⟨e3, eM, el, eli, ep, eO, eG⟩ := hn0.v
  have ebo : t_body (x_up X 64 0 0) = t_body X := t_body_e e3 (x_up_o _ (by omega))
  have x0o : ∀ b, b ≠ 64 → x_up X 64 0 0 b = X b := fun b hb => x_up_o _ hb
  have x0i : ∀ i, i ≠ 0 → x_up X 64 0 0 64 i = X 64 i := fun i hi => x_up_n _ (Or.inr hi)
  obtain ⟨hK0, hP0, hO0, hW0, hL0⟩ := id C0
  have lp_45 : ∀ (n : Nat) (x z fd : Int), ((0 ≤ i ∧ i < X 64 3) ∧ (t_M X i 3 > 0 ∧ t_M X i 6 = 0) ∧ (m_least (t_M X) i - 1 ≤ x ∧ x ≤ 40) ∧ (t_M X i 4 ≤ z ∧ z ≤ 40) ∧ fd = m_fl (fun x => decide (m_sc (t_lot X) (t_M X) i x (X 64 3).toNat = k)) (40 - x).toNat (x + 1) ∧ (-3 ≤ fd ∧ fd ≤ 40) ∧ u_slot (X 64 3) (t_lot X) (t_M X) i k = m_fl (fun x => decide (m_sc (t_lot X) (t_M X) i x (X 64 3).toNat = k)) (41 - m_least (t_M X) i).toNat (m_least (t_M X) i)) → (x.toNat < n) → x_G p l e (x_rm 4 0 0) s m args below meth c 6 E 0 0 (MQ below (x_Q E κ (fun v_ X_ => v_ = some (vi (u_slot (X 64 3) (t_lot X) (t_M X) i k)) ∧ X_ = ((x_up X 64 0 0)))) args s 0 0 (fun q => E.1 ≤ q)) κ 45 [some (x_rf E 64), some (vi i), some (vi k), some (vi ((x_up X 64 0 0) 72 (3 + 10 * i + 0))), some (vi fd), some (vi x)] [] (x_up (x_up X 64 0 0) 72 (3 + 10 * i + 0) z) := by
    intro n
    induction n with
    | zero => intro x z fd hinv hme; exfalso; omega
    | succ n ih =>
      intro x z fd hinv hme
      obtain ⟨hi, hst, hx, hz, hfd, hfr, hu⟩ := hinv
      have wi := hW.2.1 i hi.1 hi.2
      have mlr := m_least_r hW hi.1 hi.2
      have ml1 := mlr.2.2 (by omega)
      have mM : t_M (x_up (x_up X 64 0 0) 72 (3 + 10 * i + 0) z) = x_up (t_M X) i 3 z := by rw [t_M_us (f := 3) (by rw [e3]; exact hi) (by decide) (by omega), eM]
      have m3 : x_up (x_up X 64 0 0) 72 (3 + 10 * i + 0) z 64 3 = X 64 3 := by rw [x_up_o _ (by omega), e3]
      have mW : m_W (x_up (x_up X 64 0 0) 72 (3 + 10 * i + 0) z 64 3) (t_M (x_up (x_up X 64 0 0) 72 (3 + 10 * i + 0) z)) := by rw [m3, mM]; exact m_W_up3 hW hi hst.1 hz
      have mK : t_K κ (x_up (x_up X 64 0 0) 72 (3 + 10 * i + 0) z) := by unfold t_K at *; rw [m3]; exact hK
      have mL : t_La (x_up (x_up X 64 0 0) 72 (3 + 10 * i + 0) z) := by intro b b1 b2; rw [m3] at b2; have q : ∀ j, j = 2 ∨ j = 3 → x_up (x_up X 64 0 0) 72 (3 + 10 * i + 0) z 72 (3 + 10 * b + j) = X 72 (3 + 10 * b + j) := (fun j hj => by rw [x_up_n _ (Or.inr (by omega)), x_up_o _ (by omega)]); rw [q 2 (by omega), q 3 (by omega)]; exact hLa b b1 b2
      have mle : m_least (x_up (t_M X) i 3 z) i = m_least (t_M X) i := by unfold m_least; rw [x_up_s, x_up_n _ (Or.inr (by omega)), x_up_n _ (Or.inr (by omega)), x_up_n _ (Or.inl (by omega)), if_neg (show ¬ z = 0 by omega), if_neg (show ¬ t_M X i 3 = 0 by omega)]
      have s3 : t_M X i 3 = (x_up X 64 0 0) 72 (3 + 10 * i + 0) := by rw [t_M_s hi (w := 0) (by decide) (by omega) (by omega), x0o 72 (by omega)]
      refine x_iload B dX8_slot_45 rfl ?_
      refine x_aload_n B dX8_slot_47 rfl ?_
      refine x_iload_n B dX8_slot_48 rfl ?_
      refine x_goP (x_rV B h8 (show x_cl[7]? = some _ from rfl) (c_X8_leastOf mK mW.V mL (by rw [m3]; exact hi)) (lw_V q1589 q1591 qs60 q122 q1592) hv_X8_leastOf ⟨by decide, by decide⟩ ⟨by decide, by decide⟩ rfl rfl (by simp [x_cr, x_c1, x_c2]) dX8_slot_49) ?_
      rw [mM, mle]
      refine x_icmp_lt B (tgt := 87) dX8_slot_52 (by decide) ⟨by omega, by omega⟩ ⟨by omega, by omega⟩ (fun h_52 => ?_) (fun h_52 => ?_)
      · refine x_rga (show κ 72 = some (.inr (0, 63)) from hT.1 64 7 h8 11 (0, 72, .inr (0, 63)) rfl) (3 + 10 * i + 1) ⟨by omega, by omega⟩ (fun _ => ?_)
        refine x_aload_n B dX8_slot_87 rfl ?_
        refine x_iload_n B dX8_slot_88 rfl ?_
        refine x_iconst B dX8_slot_89 ?_
        refine x_iload_n B dX8_slot_90 rfl ?_
        refine x_goV (x_rV B h8 (show x_cl[7]? = some _ from rfl) (c_X8_sets hT h8 ⟨by omega, by omega⟩ ⟨by omega, by omega⟩) (lw_V q1533 q1535 qs54 q122 q1536) hv_X8_sets ⟨by decide, by decide⟩ ⟨by decide, by decide⟩ rfl rfl (by simp [x_cr, x_c1, x_c2]) dX8_slot_91) ?_
        rw [x_up_t, x_up_self]
        refine x_iload B dX8_slot_94 rfl ?_
        refine x_iret B (fun _ _ h => h) ?_ dX8_slot_96
        have ex : x + 1 = m_least (t_M X) i := by omega
        have ef : (40 - x).toNat = (41 - m_least (t_M X) i).toNat := by omega
        exact ⟨congrArg (fun z => some (vi z)) (by rw [hu, hfd, ex, ef]), rfl⟩
      · have hml : t_M X i 4 ≤ m_least (t_M X) i := by unfold m_least; rw [if_neg (by omega), if_pos hst.2]; omega
        refine x_aload_n B dX8_slot_55 rfl ?_
        refine x_iload_n B dX8_slot_56 rfl ?_
        refine x_iconst B dX8_slot_57 ?_
        refine x_iload B dX8_slot_58 rfl ?_
        refine x_goV (x_rV B h8 (show x_cl[7]? = some _ from rfl) (c_X8_sets hT h8 ⟨by omega, by omega⟩ ⟨by omega, by omega⟩) (lw_V q1533 q1535 qs54 q122 q1536) hv_X8_sets ⟨by decide, by decide⟩ ⟨by decide, by decide⟩ rfl rfl (by simp [x_cr, x_c1, x_c2]) dX8_slot_60) ?_
        rw [x_up_t]
        have nM : t_M (x_up (x_up X 64 0 0) 72 (3 + 10 * i + 0) x) = x_up (t_M X) i 3 x := by rw [t_M_us (f := 3) (by rw [e3]; exact hi) (by decide) (by omega), eM]
        refine x_aload_n B dX8_slot_63 rfl ?_
        refine x_iload_n B dX8_slot_64 rfl ?_
        refine x_goP (x_rV B h8 (show x_cl[7]? = some _ from rfl) (c_X8_calledAhead (show t_K κ (x_up (x_up X 64 0 0) 72 (3 + 10 * i + 0) x) by unfold t_K at *; rw [x_up_o _ (by omega), e3]; exact hK) (show m_W (x_up (x_up X 64 0 0) 72 (3 + 10 * i + 0) x 64 3) (t_M (x_up (x_up X 64 0 0) 72 (3 + 10 * i + 0) x)) by rw [nM, x_up_o _ (by omega), e3]; exact m_W_up3 hW hi hst.1 ⟨by omega, by omega⟩) (by rw [x_up_o _ (by omega), e3]; exact hi)) (lw_V q1624 q1626 qs66 q122 q1627) hv_X8_calledAhead ⟨by decide, by decide⟩ ⟨by decide, by decide⟩ rfl rfl (by simp [x_cr, x_c1, x_c2]) dX8_slot_65) ?_
        have n3 : x_up (x_up X 64 0 0) 72 (3 + 10 * i + 0) x 64 3 = X 64 3 := by rw [x_up_o _ (by omega), e3]
        have nl : t_lot (x_up (x_up X 64 0 0) 72 (3 + 10 * i + 0) x) = t_lot X := by rw [t_lot_e (X := (x_up X 64 0 0)) (by rw [x_up_o _ (by omega)]) (x_up_o _ (by omega)), el]
        rw [nM, show x_up (t_M X) i 3 x i 3 = x from x_up_s _ _ _ _, n3, nl, m_sc_c (M := t_M X) _ (fun a a1 a2 a3 => ⟨x_up_n _ (Or.inl a3), x_up_n _ (Or.inl a3)⟩)]
        have hsr := m_sc_r (t_lot X) (t_M X) i x (X 64 3).toNat
        refine x_iload_n B dX8_slot_68 rfl ?_
        refine x_icmp_ne B (tgt := 77) dX8_slot_69 (by decide) ⟨by omega, by omega⟩ ⟨by omega, by omega⟩ (fun h_69 => ?_) (fun h_69 => ?_)
        · refine x_iload B dX8_slot_77 rfl ?_
          refine x_istw_4 B dX8_slot_79 (by first | rfl | exact x_cr _ _) ?_
          refine x_iinc_5 B dX8_slot_81 (by first | rfl | exact x_cr _ _) ?_
          refine x_goto B (tgt := 45) dX8_slot_84 (by decide) ?_
          have hPx : (decide (m_sc (t_lot X) (t_M X) i x (X 64 3).toNat = k) = true) ↔ m_sc (t_lot X) (t_M X) i x (X 64 3).toNat = k := by simp
          have hx1 : (40 - (x + -1)).toNat = (40 - x).toNat + 1 := by omega
          refine ih _ _ _ ⟨hi, hst, ⟨by omega, by omega⟩, ⟨by omega, by omega⟩, ?_, ?_, hu⟩ (by omega)
          · rw [hx1, show x + -1 + 1 = x by omega]
            first
            | (rw [m_fl_e (hPx.mpr h_69)]; done)
            | (rw [m_fl_s (fun q => h_69 (hPx.mp q))]; exact hfd)
          · omega
        · refine x_iload B dX8_slot_72 rfl ?_
          refine x_goto B (tgt := 79) dX8_slot_74 (by decide) ?_
          refine x_istw_4 B dX8_slot_79 (by first | rfl | exact x_cr _ _) ?_
          refine x_iinc_5 B dX8_slot_81 (by first | rfl | exact x_cr _ _) ?_
          refine x_goto B (tgt := 45) dX8_slot_84 (by decide) ?_
          have hPx : (decide (m_sc (t_lot X) (t_M X) i x (X 64 3).toNat = k) = true) ↔ m_sc (t_lot X) (t_M X) i x (X 64 3).toNat = k := by simp
          have hx1 : (40 - (x + -1)).toNat = (40 - x).toNat + 1 := by omega
          refine ih _ _ _ ⟨hi, hst, ⟨by omega, by omega⟩, ⟨by omega, by omega⟩, ?_, ?_, hu⟩ (by omega)
          · rw [hx1, show x + -1 + 1 = x by omega]
            first
            | (rw [m_fl_e (hPx.mpr h_69)]; done)
            | (rw [m_fl_s (fun q => h_69 (hPx.mp q))]; exact hfd)
          · omega
  refine x_aload_n B dX8_slot_0 rfl ?_
  refine x_iconst B dX8_slot_1 ?_
  refine x_putI B (k := 0) 0 rfl rfl rfl ⟨by omega, by omega⟩ xc_7 (by decide) rfl nn_7_0 (fun _ => rfl) h8 (Or.inl q1335) (fun _ h => h) dX8_slot_2 ?_
  refine x_aload_n B dX8_slot_5 rfl ?_
  refine x_iload_n B dX8_slot_6 rfl ?_
  refine x_goP (x_rV B h8 (show x_cl[7]? = some _ from rfl) (c_X8_isLifter hK0 hi0) (lw_V q1553 q1555 qs57 q122 q1556) hv_X8_isLifter ⟨by decide, by decide⟩ ⟨by decide, by decide⟩ rfl rfl (by simp [x_cr, x_c1, x_c2]) dX8_slot_7) ?_
  rw [e3]
  refine x_if_eq B (tgt := 17) dX8_slot_10 (by decide) ⟨by omega, by omega⟩ (fun h_10 => ?_) (fun h_10 => ?_)
  · refine x_iconst B dX8_slot_17 ?_
    refine x_iret B (fun _ _ h => h) ?_ dX8_slot_18
    exact ⟨congrArg (fun z => some (vi z)) (by unfold u_slot; rw [if_neg (by omega)]), rfl⟩
  · refine x_iload_n B dX8_slot_13 rfl ?_
    refine x_if_ge B (tgt := 19) dX8_slot_14 (by decide) ⟨by omega, by omega⟩ (fun h_14 => ?_) (fun h_14 => ?_)
    · have hi : 0 ≤ i ∧ i < X 64 3 := by unfold x_in at h_10; split at h_10 <;> omega
      have hi2 : 0 ≤ i ∧ i < (x_up X 64 0 0) 64 3 := by rw [e3]; exact hi
      have wi0 := hW.2.1 i hi.1 hi.2
      refine x_aload_n B dX8_slot_19 rfl ?_
      refine x_iload_n B dX8_slot_20 rfl ?_
      refine x_goP (x_rV B h8 (show x_cl[7]? = some _ from rfl) (c_X8_isStill hK0 hW0 hi2) (lw_V q1593 q1595 qs61 q122 q1596) hv_X8_isStill ⟨by decide, by decide⟩ ⟨by decide, by decide⟩ rfl rfl (by simp [x_cr, x_c1, x_c2]) dX8_slot_21) ?_
      rw [eM]
      refine x_if_ne B (tgt := 30) dX8_slot_24 (by decide) ⟨by split <;> omega, by split <;> omega⟩ (fun h_24 => ?_) (fun h_24 => ?_)
      · have hst : t_M X i 3 > 0 ∧ t_M X i 6 = 0 := by by_cases q : t_M X i 3 > 0 ∧ t_M X i 6 = 0; exact q; rw [if_neg q] at h_24; omega
        refine x_aload_n B dX8_slot_30 rfl ?_
        refine x_iload_n B dX8_slot_31 rfl ?_
        refine x_iconst B dX8_slot_32 ?_
        refine x_goP (x_rV B h8 (show x_cl[7]? = some _ from rfl) (c_X8_of hT h8 ⟨by omega, by omega⟩) (lw_V q1525 q1527 qs52 q122 q1528) hv_X8_of ⟨by decide, by decide⟩ ⟨by decide, by decide⟩ rfl rfl (by simp [x_cr, x_c1, x_c2]) dX8_slot_33) ?_
        refine x_ist_3 B dX8_slot_36 (by first | rfl | exact x_cr _ _) ?_
        refine x_bipush B dX8_slot_37 (by decide) ?_
        refine x_istw_4 B dX8_slot_39 (by first | rfl | exact x_cr _ _) ?_
        refine x_bipush B dX8_slot_41 (by decide) ?_
        refine x_istw_5 B dX8_slot_43 (by first | rfl | exact x_cr _ _) ?_
        have hlr := m_least_r hW hi.1 hi.2
        have hu0 : u_slot (X 64 3) (t_lot X) (t_M X) i k = m_fl (fun x => decide (m_sc (t_lot X) (t_M X) i x (X 64 3).toNat = k)) (41 - m_least (t_M X) i).toNat (m_least (t_M X) i) := by unfold u_slot; rw [if_pos ⟨by omega, by omega⟩, if_pos hst]
        have w3 := (hW.2.2 i hi.1 hi.2).2.2.2.2 hst.1
        have s3 : t_M X i 3 = (x_up X 64 0 0) 72 (3 + 10 * i + 0) := by rw [t_M_s hi (w := 0) (by decide) (by omega) (by omega), x0o 72 (by omega)]
        have e0 := lp_45 _ 40 ((x_up X 64 0 0) 72 (3 + 10 * i + 0)) (-3) ⟨hi, hst, ⟨by omega, by omega⟩, ⟨by omega, by omega⟩, rfl, ⟨by omega, by omega⟩, hu0⟩ (Nat.lt_succ_self _)
        rw [x_up_self] at e0
        exact e0
      · refine x_bipush B dX8_slot_27 (by decide) ?_
        refine x_iret B (fun _ _ h => h) ?_ dX8_slot_29
        exact ⟨congrArg (fun z => some (vi z)) (by unfold u_slot; rw [if_pos ⟨by omega, by omega⟩, if_neg (fun q => by rw [if_pos q] at h_24; omega)]), rfl⟩
    · refine x_iconst B dX8_slot_17 ?_
      refine x_iret B (fun _ _ h => h) ?_ dX8_slot_18
      exact ⟨congrArg (fun z => some (vi z)) (by unfold u_slot; rw [if_neg (by omega)]), rfl⟩
