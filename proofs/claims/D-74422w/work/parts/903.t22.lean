theorem r_sn_r {N : Int → Int → Int → Int × Int × Int} {T : Int → Int} {n : Int} (hN : r_N N n) (c lo hi p : Int) (hp : 0 ≤ p ∧ p ≤ n) : ((r_sn N T n c lo hi p).1 = 0 ∨ (r_sn N T n c lo hi p).1 = 1) ∧ (p ≤ (r_sn N T n c lo hi p).2.1 ∧ (r_sn N T n c lo hi p).2.1 ≤ n) ∧ ((r_sn N T n c lo hi p).1 = 1 → lo ≤ (r_sn N T n c lo hi p).2.2 ∧ (r_sn N T n c lo hi p).2.2 ≤ hi) := by
  unfold r_sn
  by_cases q : p < n ∧ T p = c
  · rw [if_pos q]
    have := hN lo hi (p + 1) (by omega)
    exact ⟨this.1, ⟨by omega, this.2.1.2⟩, this.2.2⟩
  · rw [if_neg q]; exact ⟨Or.inl rfl, ⟨Int.le_refl _, hp.2⟩, fun h => by dsimp only at h; omega⟩
theorem r_pln_0 {N : Int → Int → Int → Int × Int × Int} {T : Int → Int} {n p : Int} {A : Int × Int × Int} (hA : r_sn N T n 47 1 40 p = A) (h : A.1 = 0) : r_pln N T n p = (0, A.2.1, fun _ => 0) := by unfold r_pln; rw [hA, if_pos h]
theorem r_pln_1 {N : Int → Int → Int → Int × Int × Int} {T : Int → Int} {n p : Int} {A B : Int × Int × Int} (hA : r_sn N T n 47 1 40 p = A) (h : A.1 ≠ 0) (hB : r_sn N T n 43 1 9 A.2.1 = B) (h2 : B.1 = 0) : r_pln N T n p = (0, B.2.1, fun _ => 0) := by unfold r_pln; rw [hA, if_neg h, hB, if_pos h2]
theorem r_pln_2 {N : Int → Int → Int → Int × Int × Int} {T : Int → Int} {n p : Int} {A B C : Int × Int × Int} (hA : r_sn N T n 47 1 40 p = A) (h : A.1 ≠ 0) (hB : r_sn N T n 43 1 9 A.2.1 = B) (h2 : B.1 ≠ 0) (hC : r_sn N T n 43 0 9 B.2.1 = C) (h3 : C.1 = 0) : r_pln N T n p = (0, C.2.1, fun _ => 0) := by unfold r_pln; rw [hA, if_neg h, hB, if_neg h2, hC, if_pos h3]
theorem r_pln_3 {N : Int → Int → Int → Int × Int × Int} {T : Int → Int} {n p : Int} {A B C : Int × Int × Int} (hA : r_sn N T n 47 1 40 p = A) (h : A.1 ≠ 0) (hB : r_sn N T n 43 1 9 A.2.1 = B) (h2 : B.1 ≠ 0) (hC : r_sn N T n 43 0 9 B.2.1 = C) (h3 : C.1 ≠ 0) : r_pln N T n p = (1, C.2.1, fun w => if w = 0 then A.2.2 else if w = 1 then B.2.2 else C.2.2) := by unfold r_pln; rw [hA, if_neg h, hB, if_neg h2, hC, if_neg h3]
theorem n8.k64 {X Y : x_X} {t : Int} (h : n8 X Y t) {z : Int} : n8 X (x_up Y 64 19 z) t := h.k ((k8.rf Y).up (Or.inl rfl))
theorem c_X8_takesPlan {l : Launch} {E : x_E} {κ : x_Ka} {X : x_X} {T : Int → Int} {z0 w0 : Int} {t : Int} (h : q8 κ X T z0 w0) (ht : 0 ≤ t ∧ t ≤ 2) : x_Met l yX8_takesPlan cX8_takesPlan 2 (some .boolean) 4 0 0 E κ X [x_rf E 64, vi t] κ (fun v_ Y_ => v_ = some (vi (r_pln (r8_num T z0) T z0 w0).1) ∧ n8 X Y_ t ∧ (Y_ 76 = X 76 ∧ Y_ 77 = X 77 ∧ Y_ 78 = X 78) ∧ Y_ 64 19 = (r_pln (r8_num T z0) T z0 w0).2.1 ∧ (0 ≤ (r_pln (r8_num T z0) T z0 w0).2.1 ∧ (r_pln (r8_num T z0) T z0 w0).2.1 ≤ z0) ∧ ((r_pln (r8_num T z0) T z0 w0).1 = 1 → ∀ w, 0 ≤ w → w ≤ 2 → Y_ 79 (3 * t + w) = (r_pln (r8_num T z0) T z0 w0).2.2 w)) := by
  refine x_Met.of [(false, x_rf E 64), (false, vi t)] [some (x_rf E 64), some (vi t)] 0 (by decide) rfl rfl ⟨x_cr E (64), rfl, trivial⟩ rfl rfl ?_
  intro p e s m args below meth c hargs hin B
  obtain ⟨⟨hT, h8⟩, e75, e20, e19, hp, hn⟩ := id h
  have hNr := r8_num_r T z0
  have hn0 := n8.rf X t
  have hq0 := h
  have o76_0 : X 76 = X 76 ∧ X 77 = X 77 ∧ X 78 = X 78 := ⟨rfl, rfl, rfl⟩
  obtain ⟨A0, hA0⟩ : ∃ A_, r_sn (r8_num T z0) T z0 47 1 40 w0 = A_ := ⟨_, rfl⟩
  have rA0 := r_sn_r (T := T) hNr 47 1 40 w0 ⟨by omega, by omega⟩
  rw [hA0] at rA0
  refine x_aload_n B dX8_takesPlan_0 rfl ?_
  refine x_bipush B dX8_takesPlan_1 (by decide) ?_
  refine x_go (x_rV B h8 (show x_cl[7]? = some _ from rfl) (c_X8_takes hq0 ⟨by omega, by omega⟩) (lw_V q1493 q1495 qs44 q122 q1496) hv_X8_takes ⟨by decide, by decide⟩ ⟨by decide, by decide⟩ rfl rfl (by simp [x_cr, x_c1, x_c2]) dX8_takesPlan_3) (fun v_3 X_3 p_3 => ?_)
  obtain ⟨s0, rfl, hs0⟩ := p_3
  have hsr0 : 0 ≤ s0 ∧ s0 ≤ 1 := by rcases hs0 with q | q <;> omega
  refine x_if_eq B (tgt := 19) dX8_takesPlan_6 (by decide) ⟨by omega, by omega⟩ (fun h_6 => ?_) (fun h_6 => ?_)
  · refine x_iconst B dX8_takesPlan_19 ?_
    refine x_zret B (fun _ _ h => h) ⟨by omega, by omega⟩ ?_ dX8_takesPlan_20
    obtain ⟨-, hC0, hX0⟩ := hs0.resolve_left (fun q => by omega)
    have hX0 := hX0.symm
    subst hX0
    have e0 : A0 = (0, w0, 0) := by rw [← hA0]; unfold r_sn; rw [if_neg hC0]
    have h0 : A0.1 = 0 := by rw [e0]
    have er : (r_pln (r8_num T z0) T z0 w0) = (0, A0.2.1, fun _ => 0) := (r_pln_0 hA0 h0)
    rw [er, e0]
    exact ⟨rfl, hn0, o76_0, hq0.2.2.2.1, ⟨by dsimp only; omega, by dsimp only; omega⟩, fun q => by dsimp only at q; omega⟩
  · obtain ⟨-, hC0, hX0⟩ := hs0.resolve_right (fun q => h_6 q.1)
    subst hX0
    have hN0 : r8_num T z0 1 40 (w0 + 1) = A0 := by rw [← hA0]; unfold r_sn; rw [if_pos hC0]
    have hqs0 := hq0.k ((k8.rf X).up (i := 19) (z := w0 + 1) (Or.inl rfl)) (x_up_s _ _ _ _) ⟨by omega, by omega⟩
    refine x_aload_n B dX8_takesPlan_9 rfl ?_
    refine x_iconst B dX8_takesPlan_10 ?_
    refine x_bipush B dX8_takesPlan_11 (by decide) ?_
    refine x_go (x_rV B h8 (show x_cl[7]? = some _ from rfl) (c_X8_takesNumber hqs0 ⟨by omega, by omega⟩ ⟨by omega, by omega⟩) (lw_V q1479 q1481 qs41 q122 q1482) hv_X8_takesNumber ⟨by decide, by decide⟩ ⟨by decide, by decide⟩ rfl rfl (by simp [x_cr, x_c1, x_c2]) dX8_takesPlan_13) (fun v_13 X_13 p_13 => ?_)
    rw [hN0] at p_13
    obtain ⟨rfl, hk0, m19_0, m21_0⟩ := p_13
    refine x_if_ne B (tgt := 21) dX8_takesPlan_16 (by decide) ⟨by omega, by omega⟩ (fun h_16 => ?_) (fun h_16 => ?_)
    · refine x_aload_n B dX8_takesPlan_21 rfl ?_
      refine x_getC0 B (k := 27) hT rfl rfl xc_7 (by decide) h8 (Or.inl q1362) (fun _ h => h) dX8_takesPlan_22 (fun k_22 => ?_)
      refine x_iconst B dX8_takesPlan_25 ?_
      refine x_iload_n B dX8_takesPlan_26 rfl ?_
      refine x_imul B dX8_takesPlan_27 ?_
      have h1A0 : A0.1 = 1 := by omega
      have vA0 := rA0.2.2 h1A0
      refine x_aload_n B dX8_takesPlan_28 rfl ?_
      refine x_getI B (k := 21) 21 rfl rfl xc_7 (by decide) h8 (Or.inl q1356) (fun _ h => h) dX8_takesPlan_29 (fun r_29 => ?_)
      rw [m21_0 h1A0] at r_29 ⊢
      refine x_iast B k_22 ⟨by omega, by omega⟩ ⟨by omega, by omega⟩ dX8_takesPlan_32 ?_
      have hn1 : n8 X (x_up X_13 79 (3 * t) A0.2.2) t := (hn0.k64.k hk0).up (Or.inr (Or.inr ⟨rfl, by omega, by omega⟩))
      have p19_1 : (x_up X_13 79 (3 * t) A0.2.2) 64 19 = A0.2.1 := by rw [x_up_o _ (by omega)]; exact m19_0
      have w79_1 : (x_up X_13 79 (3 * t) A0.2.2) 79 (3 * t) = A0.2.2 := x_up_s _ _ _ _
      have o79_1 : ∀ i, i ≠ 3 * t → (x_up X_13 79 (3 * t) A0.2.2) 79 i = X 79 i := fun i hi => by rw [x_up_n _ (Or.inr hi), hk0.1 79 (by omega), x_up_o _ (by omega)]
      have o76_1 : (x_up X_13 79 (3 * t) A0.2.2) 76 = X 76 ∧ (x_up X_13 79 (3 * t) A0.2.2) 77 = X 77 ∧ (x_up X_13 79 (3 * t) A0.2.2) 78 = X 78 := by rw [x_up_o _ (by omega), x_up_o _ (by omega), x_up_o _ (by omega), hk0.1 76 (by omega), hk0.1 77 (by omega), hk0.1 78 (by omega), x_up_o _ (by omega), x_up_o _ (by omega), x_up_o _ (by omega)]; exact o76_0
      generalize (x_up X_13 79 (3 * t) A0.2.2) = S1 at hn1 p19_1 w79_1 o79_1 o76_1 ⊢
      have hq1 := h.n hn1 p19_1 ⟨by omega, by omega⟩
      obtain ⟨A1, hA1⟩ : ∃ A_, r_sn (r8_num T z0) T z0 43 1 9 A0.2.1 = A_ := ⟨_, rfl⟩
      have rA1 := r_sn_r (T := T) hNr 43 1 9 A0.2.1 ⟨by omega, by omega⟩
      rw [hA1] at rA1
      refine x_aload_n B dX8_takesPlan_33 rfl ?_
      refine x_bipush B dX8_takesPlan_34 (by decide) ?_
      refine x_go (x_rV B h8 (show x_cl[7]? = some _ from rfl) (c_X8_takes hq1 ⟨by omega, by omega⟩) (lw_V q1493 q1495 qs44 q122 q1496) hv_X8_takes ⟨by decide, by decide⟩ ⟨by decide, by decide⟩ rfl rfl (by simp [x_cr, x_c1, x_c2]) dX8_takesPlan_36) (fun v_36 X_36 p_36 => ?_)
      obtain ⟨s1, rfl, hs1⟩ := p_36
      have hsr1 : 0 ≤ s1 ∧ s1 ≤ 1 := by rcases hs1 with q | q <;> omega
      refine x_if_eq B (tgt := 52) dX8_takesPlan_39 (by decide) ⟨by omega, by omega⟩ (fun h_39 => ?_) (fun h_39 => ?_)
      · refine x_iconst B dX8_takesPlan_52 ?_
        refine x_zret B (fun _ _ h => h) ⟨by omega, by omega⟩ ?_ dX8_takesPlan_53
        obtain ⟨-, hC1, hX1⟩ := hs1.resolve_left (fun q => by omega)
        have hX1 := hX1.symm
        subst hX1
        have e0 : A1 = (0, A0.2.1, 0) := by rw [← hA1]; unfold r_sn; rw [if_neg hC1]
        have h0 : A1.1 = 0 := by rw [e0]
        have er : (r_pln (r8_num T z0) T z0 w0) = (0, A1.2.1, fun _ => 0) := (r_pln_1 hA0 (by omega) hA1 h0)
        rw [er, e0]
        exact ⟨rfl, hn1, o76_1, hq1.2.2.2.1, ⟨by dsimp only; omega, by dsimp only; omega⟩, fun q => by dsimp only at q; omega⟩
      · obtain ⟨-, hC1, hX1⟩ := hs1.resolve_right (fun q => h_39 q.1)
        subst hX1
        have hN1 : r8_num T z0 1 9 (A0.2.1 + 1) = A1 := by rw [← hA1]; unfold r_sn; rw [if_pos hC1]
        have hqs1 := hq1.k ((k8.rf S1).up (i := 19) (z := A0.2.1 + 1) (Or.inl rfl)) (x_up_s _ _ _ _) ⟨by omega, by omega⟩
        refine x_aload_n B dX8_takesPlan_42 rfl ?_
        refine x_iconst B dX8_takesPlan_43 ?_
        refine x_bipush B dX8_takesPlan_44 (by decide) ?_
        refine x_go (x_rV B h8 (show x_cl[7]? = some _ from rfl) (c_X8_takesNumber hqs1 ⟨by omega, by omega⟩ ⟨by omega, by omega⟩) (lw_V q1479 q1481 qs41 q122 q1482) hv_X8_takesNumber ⟨by decide, by decide⟩ ⟨by decide, by decide⟩ rfl rfl (by simp [x_cr, x_c1, x_c2]) dX8_takesPlan_46) (fun v_46 X_46 p_46 => ?_)
        rw [hN1] at p_46
        obtain ⟨rfl, hk1, m19_1, m21_1⟩ := p_46
        refine x_if_ne B (tgt := 54) dX8_takesPlan_49 (by decide) ⟨by omega, by omega⟩ (fun h_49 => ?_) (fun h_49 => ?_)
        · refine x_aload_n B dX8_takesPlan_54 rfl ?_
          refine x_getC0 B (k := 27) hT rfl rfl xc_7 (by decide) h8 (Or.inl q1362) (fun _ h => h) dX8_takesPlan_55 (fun k_55 => ?_)
          refine x_iconst B dX8_takesPlan_58 ?_
          refine x_iload_n B dX8_takesPlan_59 rfl ?_
          refine x_imul B dX8_takesPlan_60 ?_
          refine x_iconst B dX8_takesPlan_61 ?_
          refine x_iadd B dX8_takesPlan_62 ?_
          have h1A1 : A1.1 = 1 := by omega
          have vA1 := rA1.2.2 h1A1
          refine x_aload_n B dX8_takesPlan_63 rfl ?_
          refine x_getI B (k := 21) 21 rfl rfl xc_7 (by decide) h8 (Or.inl q1356) (fun _ h => h) dX8_takesPlan_64 (fun r_64 => ?_)
          rw [m21_1 h1A1] at r_64 ⊢
          refine x_iast B k_55 ⟨by omega, by omega⟩ ⟨by omega, by omega⟩ dX8_takesPlan_67 ?_
          have hn2 : n8 X (x_up X_46 79 (3 * t + 1) A1.2.2) t := (hn1.k64.k hk1).up (Or.inr (Or.inr ⟨rfl, by omega, by omega⟩))
          have p19_2 : (x_up X_46 79 (3 * t + 1) A1.2.2) 64 19 = A1.2.1 := by rw [x_up_o _ (by omega)]; exact m19_1
          have w79_2 : (x_up X_46 79 (3 * t + 1) A1.2.2) 79 (3 * t + 1) = A1.2.2 := x_up_s _ _ _ _
          have o79_2 : ∀ i, i ≠ 3 * t + 1 → (x_up X_46 79 (3 * t + 1) A1.2.2) 79 i = S1 79 i := fun i hi => by rw [x_up_n _ (Or.inr hi), hk1.1 79 (by omega), x_up_o _ (by omega)]
          have o76_2 : (x_up X_46 79 (3 * t + 1) A1.2.2) 76 = X 76 ∧ (x_up X_46 79 (3 * t + 1) A1.2.2) 77 = X 77 ∧ (x_up X_46 79 (3 * t + 1) A1.2.2) 78 = X 78 := by rw [x_up_o _ (by omega), x_up_o _ (by omega), x_up_o _ (by omega), hk1.1 76 (by omega), hk1.1 77 (by omega), hk1.1 78 (by omega), x_up_o _ (by omega), x_up_o _ (by omega), x_up_o _ (by omega)]; exact o76_1
          generalize (x_up X_46 79 (3 * t + 1) A1.2.2) = S2 at hn2 p19_2 w79_2 o79_2 o76_2 ⊢
          have hq2 := h.n hn2 p19_2 ⟨by omega, by omega⟩
          obtain ⟨A2, hA2⟩ : ∃ A_, r_sn (r8_num T z0) T z0 43 0 9 A1.2.1 = A_ := ⟨_, rfl⟩
          have rA2 := r_sn_r (T := T) hNr 43 0 9 A1.2.1 ⟨by omega, by omega⟩
          rw [hA2] at rA2
          refine x_aload_n B dX8_takesPlan_68 rfl ?_
          refine x_bipush B dX8_takesPlan_69 (by decide) ?_
          refine x_go (x_rV B h8 (show x_cl[7]? = some _ from rfl) (c_X8_takes hq2 ⟨by omega, by omega⟩) (lw_V q1493 q1495 qs44 q122 q1496) hv_X8_takes ⟨by decide, by decide⟩ ⟨by decide, by decide⟩ rfl rfl (by simp [x_cr, x_c1, x_c2]) dX8_takesPlan_71) (fun v_71 X_71 p_71 => ?_)
          obtain ⟨s2, rfl, hs2⟩ := p_71
          have hsr2 : 0 ≤ s2 ∧ s2 ≤ 1 := by rcases hs2 with q | q <;> omega
          refine x_if_eq B (tgt := 87) dX8_takesPlan_74 (by decide) ⟨by omega, by omega⟩ (fun h_74 => ?_) (fun h_74 => ?_)
          · refine x_iconst B dX8_takesPlan_87 ?_
            refine x_zret B (fun _ _ h => h) ⟨by omega, by omega⟩ ?_ dX8_takesPlan_88
            obtain ⟨-, hC2, hX2⟩ := hs2.resolve_left (fun q => by omega)
            have hX2 := hX2.symm
            subst hX2
            have e0 : A2 = (0, A1.2.1, 0) := by rw [← hA2]; unfold r_sn; rw [if_neg hC2]
            have h0 : A2.1 = 0 := by rw [e0]
            have er : (r_pln (r8_num T z0) T z0 w0) = (0, A2.2.1, fun _ => 0) := (r_pln_2 hA0 (by omega) hA1 (by omega) hA2 h0)
            rw [er, e0]
            exact ⟨rfl, hn2, o76_2, hq2.2.2.2.1, ⟨by dsimp only; omega, by dsimp only; omega⟩, fun q => by dsimp only at q; omega⟩
          · obtain ⟨-, hC2, hX2⟩ := hs2.resolve_right (fun q => h_74 q.1)
            subst hX2
            have hN2 : r8_num T z0 0 9 (A1.2.1 + 1) = A2 := by rw [← hA2]; unfold r_sn; rw [if_pos hC2]
            have hqs2 := hq2.k ((k8.rf S2).up (i := 19) (z := A1.2.1 + 1) (Or.inl rfl)) (x_up_s _ _ _ _) ⟨by omega, by omega⟩
            refine x_aload_n B dX8_takesPlan_77 rfl ?_
            refine x_iconst B dX8_takesPlan_78 ?_
            refine x_bipush B dX8_takesPlan_79 (by decide) ?_
            refine x_go (x_rV B h8 (show x_cl[7]? = some _ from rfl) (c_X8_takesNumber hqs2 ⟨by omega, by omega⟩ ⟨by omega, by omega⟩) (lw_V q1479 q1481 qs41 q122 q1482) hv_X8_takesNumber ⟨by decide, by decide⟩ ⟨by decide, by decide⟩ rfl rfl (by simp [x_cr, x_c1, x_c2]) dX8_takesPlan_81) (fun v_81 X_81 p_81 => ?_)
            rw [hN2] at p_81
            obtain ⟨rfl, hk2, m19_2, m21_2⟩ := p_81
            refine x_if_ne B (tgt := 89) dX8_takesPlan_84 (by decide) ⟨by omega, by omega⟩ (fun h_84 => ?_) (fun h_84 => ?_)
            · refine x_aload_n B dX8_takesPlan_89 rfl ?_
              refine x_getC0 B (k := 27) hT rfl rfl xc_7 (by decide) h8 (Or.inl q1362) (fun _ h => h) dX8_takesPlan_90 (fun k_90 => ?_)
              refine x_iconst B dX8_takesPlan_93 ?_
              refine x_iload_n B dX8_takesPlan_94 rfl ?_
              refine x_imul B dX8_takesPlan_95 ?_
              refine x_iconst B dX8_takesPlan_96 ?_
              refine x_iadd B dX8_takesPlan_97 ?_
              have h1A2 : A2.1 = 1 := by omega
              have vA2 := rA2.2.2 h1A2
              refine x_aload_n B dX8_takesPlan_98 rfl ?_
              refine x_getI B (k := 21) 21 rfl rfl xc_7 (by decide) h8 (Or.inl q1356) (fun _ h => h) dX8_takesPlan_99 (fun r_99 => ?_)
              rw [m21_2 h1A2] at r_99 ⊢
              refine x_iast B k_90 ⟨by omega, by omega⟩ ⟨by omega, by omega⟩ dX8_takesPlan_102 ?_
              have hn3 : n8 X (x_up X_81 79 (3 * t + 2) A2.2.2) t := (hn2.k64.k hk2).up (Or.inr (Or.inr ⟨rfl, by omega, by omega⟩))
              have p19_3 : (x_up X_81 79 (3 * t + 2) A2.2.2) 64 19 = A2.2.1 := by rw [x_up_o _ (by omega)]; exact m19_2
              have w79_3 : (x_up X_81 79 (3 * t + 2) A2.2.2) 79 (3 * t + 2) = A2.2.2 := x_up_s _ _ _ _
              have o79_3 : ∀ i, i ≠ 3 * t + 2 → (x_up X_81 79 (3 * t + 2) A2.2.2) 79 i = S2 79 i := fun i hi => by rw [x_up_n _ (Or.inr hi), hk2.1 79 (by omega), x_up_o _ (by omega)]
              have o76_3 : (x_up X_81 79 (3 * t + 2) A2.2.2) 76 = X 76 ∧ (x_up X_81 79 (3 * t + 2) A2.2.2) 77 = X 77 ∧ (x_up X_81 79 (3 * t + 2) A2.2.2) 78 = X 78 := by rw [x_up_o _ (by omega), x_up_o _ (by omega), x_up_o _ (by omega), hk2.1 76 (by omega), hk2.1 77 (by omega), hk2.1 78 (by omega), x_up_o _ (by omega), x_up_o _ (by omega), x_up_o _ (by omega)]; exact o76_2
              generalize (x_up X_81 79 (3 * t + 2) A2.2.2) = S3 at hn3 p19_3 w79_3 o79_3 o76_3 ⊢
              have hq3 := h.n hn3 p19_3 ⟨by omega, by omega⟩
              refine x_iconst B dX8_takesPlan_103 ?_
              refine x_zret B (fun _ _ h => h) ⟨by omega, by omega⟩ ?_ dX8_takesPlan_104
              have er : (r_pln (r8_num T z0) T z0 w0) = (1, A2.2.1, fun w => if w = 0 then A0.2.2 else if w = 1 then A1.2.2 else A2.2.2) := r_pln_3 hA0 (by omega) hA1 (by omega) hA2 (by omega)
              rw [er]
              refine ⟨rfl, hn3, o76_3, p19_3, ⟨by dsimp only; omega, by dsimp only; omega⟩, fun _ w w1 w2 => ?_⟩
              dsimp only
              rcases (show w = 0 ∨ w = 1 ∨ w = 2 by omega) with e | e | e
              · rw [e, if_pos rfl, Int.add_zero, o79_3 _ (by omega), o79_2 _ (by omega)]; exact w79_1
              · rw [e, if_neg (by omega), if_pos rfl, o79_3 _ (by omega)]; exact w79_2
              · rw [e, if_neg (by omega), if_neg (by omega)]; exact w79_3
            · refine x_iconst B dX8_takesPlan_87 ?_
              refine x_zret B (fun _ _ h => h) ⟨by omega, by omega⟩ ?_ dX8_takesPlan_88
              have h0 : A2.1 = 0 := by omega
              have er : (r_pln (r8_num T z0) T z0 w0) = (0, A2.2.1, fun _ => 0) := (r_pln_2 hA0 (by omega) hA1 (by omega) hA2 h0)
              rw [er]
              exact ⟨rfl, hn2.k64.k hk2, by rw [hk2.1 76 (by omega), hk2.1 77 (by omega), hk2.1 78 (by omega), x_up_o _ (by omega), x_up_o _ (by omega), x_up_o _ (by omega)]; exact o76_2, m19_2, ⟨by dsimp only; omega, by dsimp only; omega⟩, fun q => by dsimp only at q; omega⟩
        · refine x_iconst B dX8_takesPlan_52 ?_
          refine x_zret B (fun _ _ h => h) ⟨by omega, by omega⟩ ?_ dX8_takesPlan_53
          have h0 : A1.1 = 0 := by omega
          have er : (r_pln (r8_num T z0) T z0 w0) = (0, A1.2.1, fun _ => 0) := (r_pln_1 hA0 (by omega) hA1 h0)
          rw [er]
          exact ⟨rfl, hn1.k64.k hk1, by rw [hk1.1 76 (by omega), hk1.1 77 (by omega), hk1.1 78 (by omega), x_up_o _ (by omega), x_up_o _ (by omega), x_up_o _ (by omega)]; exact o76_1, m19_1, ⟨by dsimp only; omega, by dsimp only; omega⟩, fun q => by dsimp only at q; omega⟩
    · refine x_iconst B dX8_takesPlan_19 ?_
      refine x_zret B (fun _ _ h => h) ⟨by omega, by omega⟩ ?_ dX8_takesPlan_20
      have h0 : A0.1 = 0 := by omega
      have er : (r_pln (r8_num T z0) T z0 w0) = (0, A0.2.1, fun _ => 0) := (r_pln_0 hA0 h0)
      rw [er]
      exact ⟨rfl, hn0.k64.k hk0, by rw [hk0.1 76 (by omega), hk0.1 77 (by omega), hk0.1 78 (by omega), x_up_o _ (by omega), x_up_o _ (by omega), x_up_o _ (by omega)]; exact o76_0, m19_0, ⟨by dsimp only; omega, by dsimp only; omega⟩, fun q => by dsimp only at q; omega⟩
