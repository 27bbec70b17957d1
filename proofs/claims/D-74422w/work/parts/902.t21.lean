theorem r_tab_A {N : Int → Int → Int → Int × Int × Int} {T : Int → Int} {n : Int} {k : Nat} {j p : Int} {L D : Int → Int} {A : Int × Int × Int} (hA : N (if j = 0 then 1 else L (j - 1) + 1) 40 p = A) (h : A.1 = 0) : r_tab N T n (k + 1) j p L D = (0, A.2.1, 0, fun _ => 0, fun _ => 0) := by
  unfold r_tab
  rw [hA, if_pos h]
theorem r_tab_E {N : Int → Int → Int → Int × Int × Int} {T : Int → Int} {n : Int} {k : Nat} {j p : Int} {L D : Int → Int} {A : Int × Int × Int} (hA : N (if j = 0 then 1 else L (j - 1) + 1) 40 p = A) (h : A.1 ≠ 0) (he : ¬ (A.2.1 < n ∧ T A.2.1 = 61)) : r_tab N T n (k + 1) j p L D = (0, A.2.1, 0, fun _ => 0, fun _ => 0) := by
  unfold r_tab
  rw [hA, if_neg h, if_pos he]
theorem r_tab_B {N : Int → Int → Int → Int × Int × Int} {T : Int → Int} {n : Int} {k : Nat} {j p : Int} {L D : Int → Int} {A B : Int × Int × Int} (hA : N (if j = 0 then 1 else L (j - 1) + 1) 40 p = A) (h : A.1 ≠ 0) (he : A.2.1 < n ∧ T A.2.1 = 61) (hB : N 0 (if j = 0 then 1000 else D (j - 1)) (A.2.1 + 1) = B) (h2 : B.1 = 0) : r_tab N T n (k + 1) j p L D = (0, B.2.1, 0, fun _ => 0, fun _ => 0) := by
  unfold r_tab
  rw [hA, if_neg h, if_neg (fun q => q he), hB, if_pos h2]
theorem r_tab_C {N : Int → Int → Int → Int × Int × Int} {T : Int → Int} {n : Int} {k : Nat} {j p : Int} {L D : Int → Int} {A B : Int × Int × Int} (hA : N (if j = 0 then 1 else L (j - 1) + 1) 40 p = A) (h : A.1 ≠ 0) (he : A.2.1 < n ∧ T A.2.1 = 61) (hB : N 0 (if j = 0 then 1000 else D (j - 1)) (A.2.1 + 1) = B) (h2 : B.1 ≠ 0) (hc : j + 1 < 6 ∧ B.2.1 < n ∧ T B.2.1 = 44) : r_tab N T n (k + 1) j p L D = r_tab N T n k (j + 1) (B.2.1 + 1) (r_u L j A.2.2) (r_u D j B.2.2) := by
  conv => lhs; unfold r_tab
  rw [hA, if_neg h, if_neg (fun q => q he), hB, if_neg h2, if_pos hc]
theorem r_tab_D {N : Int → Int → Int → Int × Int × Int} {T : Int → Int} {n : Int} {k : Nat} {j p : Int} {L D : Int → Int} {A B : Int × Int × Int} (hA : N (if j = 0 then 1 else L (j - 1) + 1) 40 p = A) (h : A.1 ≠ 0) (he : A.2.1 < n ∧ T A.2.1 = 61) (hB : N 0 (if j = 0 then 1000 else D (j - 1)) (A.2.1 + 1) = B) (h2 : B.1 ≠ 0) (hc : ¬ (j + 1 < 6 ∧ B.2.1 < n ∧ T B.2.1 = 44)) : r_tab N T n (k + 1) j p L D = (1, B.2.1, j + 1, r_u L j A.2.2, r_u D j B.2.2) := by
  unfold r_tab
  rw [hA, if_neg h, if_neg (fun q => q he), hB, if_neg h2, if_neg hc]
theorem r_u_s (L : Int → Int) (j z : Int) : r_u L j z j = z := by unfold r_u; rw [if_pos rfl]
theorem r_u_n {L : Int → Int} {j z i : Int} (h : i ≠ j) : r_u L j z i = L i := by unfold r_u; rw [if_neg h]
theorem c_X8_takesTable {l : Launch} {E : x_E} {κ : x_Ka} {X : x_X} {T : Int → Int} {z0 w0 : Int} {t : Int} (h : q8 κ X T z0 w0) (ht : 0 ≤ t ∧ t ≤ 2) : x_Met l yX8_takesTable cX8_takesTable 5 (some .boolean) 4 0 0 E κ X [x_rf E 64, vi t] κ (fun v_ Y_ => v_ = some (vi (r_tab (r8_num T z0) T z0 6 0 w0 (fun _ => 0) (fun _ => 0)).1) ∧ n8 X Y_ t ∧ Y_ 79 = X 79 ∧ Y_ 64 19 = (r_tab (r8_num T z0) T z0 6 0 w0 (fun _ => 0) (fun _ => 0)).2.1 ∧ (0 ≤ (r_tab (r8_num T z0) T z0 6 0 w0 (fun _ => 0) (fun _ => 0)).2.1 ∧ (r_tab (r8_num T z0) T z0 6 0 w0 (fun _ => 0) (fun _ => 0)).2.1 ≤ z0) ∧ ((r_tab (r8_num T z0) T z0 6 0 w0 (fun _ => 0) (fun _ => 0)).1 = 1 → (Y_ 76 t = (r_tab (r8_num T z0) T z0 6 0 w0 (fun _ => 0) (fun _ => 0)).2.2.1 ∧ (1 ≤ (r_tab (r8_num T z0) T z0 6 0 w0 (fun _ => 0) (fun _ => 0)).2.2.1 ∧ (r_tab (r8_num T z0) T z0 6 0 w0 (fun _ => 0) (fun _ => 0)).2.2.1 ≤ 6) ∧ ∀ i, 0 ≤ i → i < (r_tab (r8_num T z0) T z0 6 0 w0 (fun _ => 0) (fun _ => 0)).2.2.1 → Y_ 77 (6 * t + i) = (r_tab (r8_num T z0) T z0 6 0 w0 (fun _ => 0) (fun _ => 0)).2.2.2.1 i ∧ Y_ 78 (6 * t + i) = (r_tab (r8_num T z0) T z0 6 0 w0 (fun _ => 0) (fun _ => 0)).2.2.2.2 i))) := by
  refine x_Met.of [(false, x_rf E 64), (false, vi t)] [some (x_rf E 64), some (vi t), none, none, none] 3 (by decide) rfl rfl ⟨x_cr E (64), rfl, trivial⟩ rfl rfl ?_
  intro p e s m args below meth c hargs hin B
  obtain ⟨⟨hT, h8⟩, e75, e20, e19, hp, hn⟩ := id h
  have hNr := r8_num_r T z0
  have lp_4 : ∀ (n : Nat) (j more w1 : Int) (L D : Int → Int) (Y : x_X), ((0 ≤ j ∧ j ≤ 6) ∧ (0 ≤ w1 ∧ w1 ≤ z0) ∧ (n8 X Y t ∧ Y 79 = X 79 ∧ Y 64 19 = w1 ∧ (∀ i, 0 ≤ i → i < j → Y 77 (6 * t + i) = L i ∧ Y 78 (6 * t + i) = D i)) ∧ (1 ≤ j → (1 ≤ L (j - 1) ∧ L (j - 1) ≤ 40) ∧ (0 ≤ D (j - 1) ∧ D (j - 1) ≤ 1000)) ∧ ((more = 1 ∧ j < 6 ∧ (r_tab (r8_num T z0) T z0 6 0 w0 (fun _ => 0) (fun _ => 0)) = r_tab (r8_num T z0) T z0 (6 - j).toNat j w1 L D) ∨ (more = 0 ∧ 1 ≤ j ∧ (r_tab (r8_num T z0) T z0 6 0 w0 (fun _ => 0) (fun _ => 0)) = (1, w1, j, L, D)))) → ((14 - 2 * j + more).toNat < n) → x_G p l e (x_rm 4 0 0) s m args below meth c 5 E 0 0 (MQ below (x_Q E κ (fun v_ Y_ => v_ = some (vi (r_tab (r8_num T z0) T z0 6 0 w0 (fun _ => 0) (fun _ => 0)).1) ∧ n8 X Y_ t ∧ Y_ 79 = X 79 ∧ Y_ 64 19 = (r_tab (r8_num T z0) T z0 6 0 w0 (fun _ => 0) (fun _ => 0)).2.1 ∧ (0 ≤ (r_tab (r8_num T z0) T z0 6 0 w0 (fun _ => 0) (fun _ => 0)).2.1 ∧ (r_tab (r8_num T z0) T z0 6 0 w0 (fun _ => 0) (fun _ => 0)).2.1 ≤ z0) ∧ ((r_tab (r8_num T z0) T z0 6 0 w0 (fun _ => 0) (fun _ => 0)).1 = 1 → (Y_ 76 t = (r_tab (r8_num T z0) T z0 6 0 w0 (fun _ => 0) (fun _ => 0)).2.2.1 ∧ (1 ≤ (r_tab (r8_num T z0) T z0 6 0 w0 (fun _ => 0) (fun _ => 0)).2.2.1 ∧ (r_tab (r8_num T z0) T z0 6 0 w0 (fun _ => 0) (fun _ => 0)).2.2.1 ≤ 6) ∧ ∀ i, 0 ≤ i → i < (r_tab (r8_num T z0) T z0 6 0 w0 (fun _ => 0) (fun _ => 0)).2.2.1 → Y_ 77 (6 * t + i) = (r_tab (r8_num T z0) T z0 6 0 w0 (fun _ => 0) (fun _ => 0)).2.2.2.1 i ∧ Y_ 78 (6 * t + i) = (r_tab (r8_num T z0) T z0 6 0 w0 (fun _ => 0) (fun _ => 0)).2.2.2.2 i)))) args s 0 0 (fun q => E.1 ≤ q)) κ 4 [some (x_rf E 64), some (vi t), some (vi j), some (vi more), none] [] Y := by
    intro n
    induction n with
    | zero => intro j more w1 L D Y hinv hme; exfalso; omega
    | succ n ih =>
      intro j more w1 L D Y hinv hme
      obtain ⟨hj, hw, ⟨hY, y79, y19, hrow⟩, hLD, hmo⟩ := hinv
      have hq := h.n hY y19 hw
      have hmr : 0 ≤ more ∧ more ≤ 1 := by rcases hmo with q | q <;> omega
      refine x_iload_n B dX8_takesTable_4 rfl ?_
      refine x_if_eq B (tgt := 133) dX8_takesTable_5 (by decide) ⟨by omega, by omega⟩ (fun h_5 => ?_) (fun h_5 => ?_)
      · obtain ⟨hm0, hj1, he⟩ := hmo.resolve_left (fun q => by omega)
        refine x_aload_n B dX8_takesTable_133 rfl ?_
        refine x_getC0 B (k := 24) hT rfl rfl xc_7 (by decide) h8 (Or.inl q1359) (fun _ h => h) dX8_takesTable_134 (fun k_134 => ?_)
        refine x_iload_n B dX8_takesTable_137 rfl ?_
        refine x_iload_n B dX8_takesTable_138 rfl ?_
        refine x_iast B k_134 ⟨by omega, by omega⟩ ⟨by omega, by omega⟩ dX8_takesTable_139 ?_
        refine x_iconst B dX8_takesTable_140 ?_
        refine x_zret B (fun _ _ h => h) ⟨by omega, by omega⟩ ?_ dX8_takesTable_141
        rw [he]
        exact ⟨rfl, hY.up (Or.inl ⟨rfl, rfl⟩), (x_up_o _ (by omega)).trans y79, by rw [x_up_o _ (by omega)]; exact y19, hw, fun _ => ⟨x_up_s _ _ _ _, ⟨hj1, hj.2⟩, fun i i1 i2 => by rw [x_up_o _ (by omega), x_up_o _ (by omega)]; exact hrow i i1 i2⟩⟩
      · obtain ⟨hm1, hj6, he⟩ := hmo.resolve_right (fun q => h_5 q.1)
        have ht6 : (6 - j).toNat = (6 - (j + 1)).toNat + 1 := by omega
        obtain ⟨A1, hA⟩ : ∃ A1, r8_num T z0 (if j = 0 then 1 else L (j - 1) + 1) 40 w1 = A1 := ⟨_, rfl⟩
        have hAr := hNr (if j = 0 then 1 else L (j - 1) + 1) 40 w1 hw
        rw [hA] at hAr
        have hA2 := hAr.2.2
        have hlow : 1 ≤ (if j = 0 then 1 else L (j - 1) + 1) := by split; omega; have := hLD (by omega); omega
        refine x_bipush B dX8_takesTable_8 (by decide) ?_
        refine x_iload_n B dX8_takesTable_10 rfl ?_
        refine x_imul B dX8_takesTable_11 ?_
        refine x_iload_n B dX8_takesTable_12 rfl ?_
        refine x_iadd B dX8_takesTable_13 ?_
        refine x_istw_4 B dX8_takesTable_14 (by first | rfl | exact x_cr _ _) ?_
        refine x_aload_n B dX8_takesTable_16 rfl ?_
        refine x_iload_n B dX8_takesTable_17 rfl ?_
        refine x_if_ne B (tgt := 25) dX8_takesTable_18 (by decide) ⟨by omega, by omega⟩ (fun h_18 => ?_) (fun h_18 => ?_)
        · have hlo1 : r8_num T z0 (L (j - 1) + 1) 40 w1 = A1 := by rw [← hA, if_neg (show ¬ j = 0 by omega)]
          have hLD1 := hLD (by omega)
          refine x_aload_n B dX8_takesTable_25 rfl ?_
          refine x_getC0 B (k := 25) hT rfl rfl xc_7 (by decide) h8 (Or.inl q1360) (fun _ h => h) dX8_takesTable_26 (fun k_26 => ?_)
          refine x_iload B dX8_takesTable_29 rfl ?_
          refine x_iconst B dX8_takesTable_31 ?_
          refine x_isub B dX8_takesTable_32 ?_
          refine x_iald B k_26 ⟨by omega, by omega⟩ dX8_takesTable_33 (fun r_33 => ?_)
          have e33 : Y 77 (6 * t + j - 1) = L (j - 1) := by rw [show 6 * t + j - 1 = 6 * t + (j - 1) by omega]; exact (hrow (j - 1) (by omega) (by omega)).1
          rw [e33] at r_33 ⊢
          refine x_iconst B dX8_takesTable_34 ?_
          refine x_iadd B dX8_takesTable_35 ?_
          refine x_bipush B dX8_takesTable_36 (by decide) ?_
          refine x_go (x_rV B h8 (show x_cl[7]? = some _ from rfl) (c_X8_takesNumber hq ⟨by omega, by omega⟩ ⟨by omega, by omega⟩) (lw_V q1479 q1481 qs41 q122 q1482) hv_X8_takesNumber ⟨by decide, by decide⟩ ⟨by decide, by decide⟩ rfl rfl (by simp [x_cr, x_c1, x_c2]) dX8_takesTable_38) (fun v_38 X_38 p_38 => ?_)
          rw [hlo1] at p_38
          obtain ⟨rfl, hk38, k19, k21⟩ := p_38
          refine x_if_ne B (tgt := 46) dX8_takesTable_41 (by decide) ⟨by omega, by omega⟩ (fun h_41 => ?_) (fun h_41 => ?_)
          · have hA1 : A1.1 = 1 := by omega
            have hA3 := hA2 hA1
            refine x_aload_n B dX8_takesTable_46 rfl ?_
            refine x_getC0 B (k := 25) hT rfl rfl xc_7 (by decide) h8 (Or.inl q1360) (fun _ h => h) dX8_takesTable_47 (fun k_47 => ?_)
            refine x_iload B dX8_takesTable_50 rfl ?_
            refine x_aload_n B dX8_takesTable_52 rfl ?_
            refine x_getI B (k := 21) 21 rfl rfl xc_7 (by decide) h8 (Or.inl q1356) (fun _ h => h) dX8_takesTable_53 (fun r_53 => ?_)
            rw [k21 hA1] at r_53 ⊢
            refine x_iast B k_47 ⟨by omega, by omega⟩ ⟨by omega, by omega⟩ dX8_takesTable_56 ?_
            have hZ1 : n8 X (x_up X_38 77 (6 * t + j) A1.2.2) t := (hY.k hk38).up (Or.inr (Or.inl ⟨Or.inl rfl, by omega, by omega⟩))
            have z119 : (x_up X_38 77 (6 * t + j) A1.2.2) 64 19 = A1.2.1 := by rw [x_up_o _ (by omega)]; exact k19
            have z179 : (x_up X_38 77 (6 * t + j) A1.2.2) 79 = X 79 := (x_up_o _ (by omega)).trans ((hk38.1 79 (by omega)).trans y79)
            have z1j : (x_up X_38 77 (6 * t + j) A1.2.2) 77 (6 * t + j) = A1.2.2 := x_up_s _ _ _ _
            have z1r : (∀ i, 0 ≤ i → i < j → (x_up X_38 77 (6 * t + j) A1.2.2) 77 (6 * t + i) = L i ∧ (x_up X_38 77 (6 * t + j) A1.2.2) 78 (6 * t + i) = D i) := fun i i1 i2 => by rw [x_up_n _ (Or.inr (by omega)), x_up_o _ (by omega), hk38.1 77 (by omega), hk38.1 78 (by omega)]; exact hrow i i1 i2
            generalize (x_up X_38 77 (6 * t + j) A1.2.2) = Z1 at hZ1 z119 z179 z1j z1r ⊢
            have hq1 := h.n hZ1 z119 ⟨by omega, by omega⟩
            refine x_aload_n B dX8_takesTable_57 rfl ?_
            refine x_bipush B dX8_takesTable_58 (by decide) ?_
            refine x_go (x_rV B h8 (show x_cl[7]? = some _ from rfl) (c_X8_takes hq1 ⟨by omega, by omega⟩) (lw_V q1493 q1495 qs44 q122 q1496) hv_X8_takes ⟨by decide, by decide⟩ ⟨by decide, by decide⟩ rfl rfl (by simp [x_cr, x_c1, x_c2]) dX8_takesTable_60) (fun v_60 X_60 p_60 => ?_)
            obtain ⟨s60, rfl, hs60⟩ := p_60
            have hsr60 : 0 ≤ s60 ∧ s60 ≤ 1 := by rcases hs60 with q | q <;> omega
            refine x_if_eq B (tgt := 93) dX8_takesTable_63 (by decide) ⟨by omega, by omega⟩ (fun h_63 => ?_) (fun h_63 => ?_)
            · refine x_iconst B dX8_takesTable_93 ?_
              refine x_zret B (fun _ _ h => h) ⟨by omega, by omega⟩ ?_ dX8_takesTable_94
              obtain ⟨-, hC60, hX60⟩ := hs60.resolve_left (fun q => by omega)
              have hX60 := hX60.symm
              subst hX60
              have er : (r_tab (r8_num T z0) T z0 6 0 w0 (fun _ => 0) (fun _ => 0)) = (0, A1.2.1, 0, fun _ => 0, fun _ => 0) := by rw [he, ht6]; exact (r_tab_E hA (by omega) hC60)
              rw [er]
              exact ⟨rfl, hZ1, z179, z119, ⟨by dsimp only; omega, by dsimp only; omega⟩, fun q => by dsimp only at q; omega⟩
            · obtain ⟨-, hC60, hX60⟩ := hs60.resolve_right (fun q => h_63 q.1)
              subst hX60
              have hZ6 : n8 X (x_up Z1 64 19 (A1.2.1 + 1)) t := hZ1.k ((k8.rf Z1).up (Or.inl rfl))
              have z69 : (x_up Z1 64 19 (A1.2.1 + 1)) 64 19 = A1.2.1 + 1 := x_up_s _ _ _ _
              have z6o : ∀ c, c ≠ 64 → (x_up Z1 64 19 (A1.2.1 + 1)) c = Z1 c := fun c hc => x_up_o _ hc
              generalize (x_up Z1 64 19 (A1.2.1 + 1)) = Z6 at hZ6 z69 z6o ⊢
              have hq6 := h.n hZ6 z69 ⟨by omega, by omega⟩
              obtain ⟨B1, hB⟩ : ∃ B1, r8_num T z0 0 (if j = 0 then 1000 else D (j - 1)) (A1.2.1 + 1) = B1 := ⟨_, rfl⟩
              have hBr := hNr 0 (if j = 0 then 1000 else D (j - 1)) (A1.2.1 + 1) ⟨by omega, by omega⟩
              rw [hB] at hBr
              have hB2 := hBr.2.2
              have hDh : (if j = 0 then 1000 else D (j - 1)) ≤ 1000 := by split; omega; have := hLD (by omega); omega
              refine x_aload_n B dX8_takesTable_66 rfl ?_
              refine x_iconst B dX8_takesTable_67 ?_
              refine x_iload_n B dX8_takesTable_68 rfl ?_
              refine x_if_ne B (tgt := 78) dX8_takesTable_69 (by decide) ⟨by omega, by omega⟩ (fun h_69 => ?_) (fun h_69 => ?_)
              · have hlo2 : r8_num T z0 0 (D (j - 1)) (A1.2.1 + 1) = B1 := by rw [← hB, if_neg (show ¬ j = 0 by omega)]
                have hLD2 := hLD (by omega)
                have e86 : Z6 78 (6 * t + j - 1) = D (j - 1) := by rw [z6o 78 (by omega), show 6 * t + j - 1 = 6 * t + (j - 1) by omega]; exact (z1r (j - 1) (by omega) (by omega)).2
                refine x_aload_n B dX8_takesTable_78 rfl ?_
                refine x_getC0 B (k := 26) hT rfl rfl xc_7 (by decide) h8 (Or.inl q1361) (fun _ h => h) dX8_takesTable_79 (fun k_79 => ?_)
                refine x_iload B dX8_takesTable_82 rfl ?_
                refine x_iconst B dX8_takesTable_84 ?_
                refine x_isub B dX8_takesTable_85 ?_
                refine x_iald B k_79 ⟨by omega, by omega⟩ dX8_takesTable_86 (fun r_86 => ?_)
                rw [e86] at r_86 ⊢
                refine x_go (x_rV B h8 (show x_cl[7]? = some _ from rfl) (c_X8_takesNumber hq6 ⟨by omega, by omega⟩ ⟨by omega, by omega⟩) (lw_V q1479 q1481 qs41 q122 q1482) hv_X8_takesNumber ⟨by decide, by decide⟩ ⟨by decide, by decide⟩ rfl rfl (by simp [x_cr, x_c1, x_c2]) dX8_takesTable_87) (fun v_87 X_87 p_87 => ?_)
                rw [hlo2] at p_87
                obtain ⟨rfl, hk87, m19, m21⟩ := p_87
                refine x_if_ne B (tgt := 95) dX8_takesTable_90 (by decide) ⟨by omega, by omega⟩ (fun h_90 => ?_) (fun h_90 => ?_)
                · have hB1 : B1.1 = 1 := by omega
                  have hB3 := hB2 hB1
                  refine x_aload_n B dX8_takesTable_95 rfl ?_
                  refine x_getC0 B (k := 26) hT rfl rfl xc_7 (by decide) h8 (Or.inl q1361) (fun _ h => h) dX8_takesTable_96 (fun k_96 => ?_)
                  refine x_iload B dX8_takesTable_99 rfl ?_
                  refine x_aload_n B dX8_takesTable_101 rfl ?_
                  refine x_getI B (k := 21) 21 rfl rfl xc_7 (by decide) h8 (Or.inl q1356) (fun _ h => h) dX8_takesTable_102 (fun r_102 => ?_)
                  rw [m21 hB1] at r_102 ⊢
                  refine x_iast B k_96 ⟨by omega, by omega⟩ ⟨by omega, by omega⟩ dX8_takesTable_105 ?_
                  have hZ2 : n8 X (x_up X_87 78 (6 * t + j) B1.2.2) t := (hZ6.k hk87).up (Or.inr (Or.inl ⟨Or.inr rfl, by omega, by omega⟩))
                  have z219 : (x_up X_87 78 (6 * t + j) B1.2.2) 64 19 = B1.2.1 := by rw [x_up_o _ (by omega)]; exact m19
                  have z279 : (x_up X_87 78 (6 * t + j) B1.2.2) 79 = X 79 := (x_up_o _ (by omega)).trans ((hk87.1 79 (by omega)).trans ((z6o 79 (by omega)).trans z179))
                  have z2r : (∀ i, 0 ≤ i → i < (j + 1) → (x_up X_87 78 (6 * t + j) B1.2.2) 77 (6 * t + i) = (r_u L j A1.2.2) i ∧ (x_up X_87 78 (6 * t + j) B1.2.2) 78 (6 * t + i) = (r_u D j B1.2.2) i) := fun i i1 i2 => by
                    rw [show (x_up X_87 78 (6 * t + j) B1.2.2) 77 = Z1 77 from (x_up_o _ (by omega)).trans ((hk87.1 77 (by omega)).trans (z6o 77 (by omega)))]
                    by_cases e : i = j
                    · rw [e, x_up_s, r_u_s, r_u_s]; exact ⟨z1j, rfl⟩
                    · rw [x_up_n _ (Or.inr (by omega)), r_u_n e, r_u_n e, hk87.1 78 (by omega), z6o 78 (by omega)]; exact z1r i i1 (by omega)
                  generalize (x_up X_87 78 (6 * t + j) B1.2.2) = Z2 at hZ2 z219 z279 z2r ⊢
                  have hq2 := h.n hZ2 z219 ⟨by omega, by omega⟩
                  have hlr : (1 ≤ (r_u L j A1.2.2) (j + 1 - 1) ∧ (r_u L j A1.2.2) (j + 1 - 1) ≤ 40) ∧ (0 ≤ (r_u D j B1.2.2) (j + 1 - 1) ∧ (r_u D j B1.2.2) (j + 1 - 1) ≤ 1000) := by rw [show j + 1 - 1 = j by omega, r_u_s, r_u_s]; omega
                  refine x_iinc_2 B dX8_takesTable_106 (by first | rfl | exact x_cr _ _) ?_
                  refine x_iload_n B dX8_takesTable_109 rfl ?_
                  refine x_bipush B dX8_takesTable_110 (by decide) ?_
                  refine x_icmp_ge B (tgt := 128) dX8_takesTable_112 (by decide) ⟨by omega, by omega⟩ ⟨by omega, by omega⟩ (fun h_112 => ?_) (fun h_112 => ?_)
                  · have hcn : ¬ (j + 1 < 6 ∧ B1.2.1 < z0 ∧ T B1.2.1 = 44) := by omega
                    have hnx0 : (0 ≤ (j + 1) ∧ (j + 1) ≤ 6) ∧ (0 ≤ B1.2.1 ∧ B1.2.1 ≤ z0) ∧ (n8 X Z2 t ∧ Z2 79 = X 79 ∧ Z2 64 19 = B1.2.1 ∧ (∀ i, 0 ≤ i → i < (j + 1) → Z2 77 (6 * t + i) = (r_u L j A1.2.2) i ∧ Z2 78 (6 * t + i) = (r_u D j B1.2.2) i)) ∧ (1 ≤ (j + 1) → (1 ≤ (r_u L j A1.2.2) ((j + 1) - 1) ∧ (r_u L j A1.2.2) ((j + 1) - 1) ≤ 40) ∧ (0 ≤ (r_u D j B1.2.2) ((j + 1) - 1) ∧ (r_u D j B1.2.2) ((j + 1) - 1) ≤ 1000)) ∧ (((0 : Int) = 1 ∧ (j + 1) < 6 ∧ (r_tab (r8_num T z0) T z0 6 0 w0 (fun _ => 0) (fun _ => 0)) = r_tab (r8_num T z0) T z0 (6 - (j + 1)).toNat (j + 1) B1.2.1 (r_u L j A1.2.2) (r_u D j B1.2.2)) ∨ ((0 : Int) = 0 ∧ 1 ≤ (j + 1) ∧ (r_tab (r8_num T z0) T z0 6 0 w0 (fun _ => 0) (fun _ => 0)) = (1, B1.2.1, (j + 1), (r_u L j A1.2.2), (r_u D j B1.2.2)))) := ⟨⟨by omega, by omega⟩, ⟨by omega, by omega⟩, ⟨hZ2, z279, z219, z2r⟩, fun _ => hlr, Or.inr ⟨rfl, by omega, by rw [he, ht6]; exact r_tab_D hA (by omega) hC60 hB (by omega) hcn⟩⟩
                    refine x_iconst B dX8_takesTable_128 ?_
                    refine x_ist_3 B dX8_takesTable_129 (by first | rfl | exact x_cr _ _) ?_
                    refine x_goto B (tgt := 4) dX8_takesTable_130 (by decide) ?_
                    refine x_fg_4 ?_
                    first
                    | exact ih _ _ _ _ _ _ hnx1 (by omega)
                    | exact ih _ _ _ _ _ _ hnx0 (by omega)
                  · refine x_aload_n B dX8_takesTable_115 rfl ?_
                    refine x_bipush B dX8_takesTable_116 (by decide) ?_
                    refine x_go (x_rV B h8 (show x_cl[7]? = some _ from rfl) (c_X8_takes hq2 ⟨by omega, by omega⟩) (lw_V q1493 q1495 qs44 q122 q1496) hv_X8_takes ⟨by decide, by decide⟩ ⟨by decide, by decide⟩ rfl rfl (by simp [x_cr, x_c1, x_c2]) dX8_takesTable_118) (fun v_118 X_118 p_118 => ?_)
                    obtain ⟨s118, rfl, hs118⟩ := p_118
                    have hsr118 : 0 ≤ s118 ∧ s118 ≤ 1 := by rcases hs118 with q | q <;> omega
                    refine x_if_eq B (tgt := 128) dX8_takesTable_121 (by decide) ⟨by omega, by omega⟩ (fun h_121 => ?_) (fun h_121 => ?_)
                    · obtain ⟨-, hC118, hX118⟩ := hs118.resolve_left (fun q => by omega)
                      have hX118 := hX118.symm
                      subst hX118
                      have hcn : ¬ (j + 1 < 6 ∧ B1.2.1 < z0 ∧ T B1.2.1 = 44) := by omega
                      have hnx0 : (0 ≤ (j + 1) ∧ (j + 1) ≤ 6) ∧ (0 ≤ B1.2.1 ∧ B1.2.1 ≤ z0) ∧ (n8 X Z2 t ∧ Z2 79 = X 79 ∧ Z2 64 19 = B1.2.1 ∧ (∀ i, 0 ≤ i → i < (j + 1) → Z2 77 (6 * t + i) = (r_u L j A1.2.2) i ∧ Z2 78 (6 * t + i) = (r_u D j B1.2.2) i)) ∧ (1 ≤ (j + 1) → (1 ≤ (r_u L j A1.2.2) ((j + 1) - 1) ∧ (r_u L j A1.2.2) ((j + 1) - 1) ≤ 40) ∧ (0 ≤ (r_u D j B1.2.2) ((j + 1) - 1) ∧ (r_u D j B1.2.2) ((j + 1) - 1) ≤ 1000)) ∧ (((0 : Int) = 1 ∧ (j + 1) < 6 ∧ (r_tab (r8_num T z0) T z0 6 0 w0 (fun _ => 0) (fun _ => 0)) = r_tab (r8_num T z0) T z0 (6 - (j + 1)).toNat (j + 1) B1.2.1 (r_u L j A1.2.2) (r_u D j B1.2.2)) ∨ ((0 : Int) = 0 ∧ 1 ≤ (j + 1) ∧ (r_tab (r8_num T z0) T z0 6 0 w0 (fun _ => 0) (fun _ => 0)) = (1, B1.2.1, (j + 1), (r_u L j A1.2.2), (r_u D j B1.2.2)))) := ⟨⟨by omega, by omega⟩, ⟨by omega, by omega⟩, ⟨hZ2, z279, z219, z2r⟩, fun _ => hlr, Or.inr ⟨rfl, by omega, by rw [he, ht6]; exact r_tab_D hA (by omega) hC60 hB (by omega) hcn⟩⟩
                      refine x_iconst B dX8_takesTable_128 ?_
                      refine x_ist_3 B dX8_takesTable_129 (by first | rfl | exact x_cr _ _) ?_
                      refine x_goto B (tgt := 4) dX8_takesTable_130 (by decide) ?_
                      refine x_fg_4 ?_
                      first
                      | exact ih _ _ _ _ _ _ hnx1 (by omega)
                      | exact ih _ _ _ _ _ _ hnx0 (by omega)
                    · obtain ⟨-, hC118, hX118⟩ := hs118.resolve_right (fun q => h_121 q.1)
                      subst hX118
                      have hZ3 : n8 X (x_up Z2 64 19 (B1.2.1 + 1)) t := hZ2.k ((k8.rf Z2).up (Or.inl rfl))
                      have hnx1 : (0 ≤ (j + 1) ∧ (j + 1) ≤ 6) ∧ (0 ≤ (B1.2.1 + 1) ∧ (B1.2.1 + 1) ≤ z0) ∧ (n8 X (x_up Z2 64 19 (B1.2.1 + 1)) t ∧ (x_up Z2 64 19 (B1.2.1 + 1)) 79 = X 79 ∧ (x_up Z2 64 19 (B1.2.1 + 1)) 64 19 = (B1.2.1 + 1) ∧ (∀ i, 0 ≤ i → i < (j + 1) → (x_up Z2 64 19 (B1.2.1 + 1)) 77 (6 * t + i) = (r_u L j A1.2.2) i ∧ (x_up Z2 64 19 (B1.2.1 + 1)) 78 (6 * t + i) = (r_u D j B1.2.2) i)) ∧ (1 ≤ (j + 1) → (1 ≤ (r_u L j A1.2.2) ((j + 1) - 1) ∧ (r_u L j A1.2.2) ((j + 1) - 1) ≤ 40) ∧ (0 ≤ (r_u D j B1.2.2) ((j + 1) - 1) ∧ (r_u D j B1.2.2) ((j + 1) - 1) ≤ 1000)) ∧ (((1 : Int) = 1 ∧ (j + 1) < 6 ∧ (r_tab (r8_num T z0) T z0 6 0 w0 (fun _ => 0) (fun _ => 0)) = r_tab (r8_num T z0) T z0 (6 - (j + 1)).toNat (j + 1) (B1.2.1 + 1) (r_u L j A1.2.2) (r_u D j B1.2.2)) ∨ ((1 : Int) = 0 ∧ 1 ≤ (j + 1) ∧ (r_tab (r8_num T z0) T z0 6 0 w0 (fun _ => 0) (fun _ => 0)) = (1, (B1.2.1 + 1), (j + 1), (r_u L j A1.2.2), (r_u D j B1.2.2)))) := ⟨⟨by omega, by omega⟩, ⟨by omega, by omega⟩, ⟨hZ3, (x_up_o _ (by omega)).trans z279, x_up_s _ _ _ _, fun i i1 i2 => by rw [x_up_o _ (by omega), x_up_o _ (by omega)]; exact z2r i i1 i2⟩, fun _ => hlr, Or.inl ⟨rfl, by omega, by rw [he, ht6]; exact r_tab_C hA (by omega) hC60 hB (by omega) ⟨by omega, hC118.1, hC118.2⟩⟩⟩
                      refine x_iconst B dX8_takesTable_124 ?_
                      refine x_goto B (tgt := 129) dX8_takesTable_125 (by decide) ?_
                      refine x_ist_3 B dX8_takesTable_129 (by first | rfl | exact x_cr _ _) ?_
                      refine x_goto B (tgt := 4) dX8_takesTable_130 (by decide) ?_
                      refine x_fg_4 ?_
                      first
                      | exact ih _ _ _ _ _ _ hnx1 (by omega)
                      | exact ih _ _ _ _ _ _ hnx0 (by omega)
                · refine x_iconst B dX8_takesTable_93 ?_
                  refine x_zret B (fun _ _ h => h) ⟨by omega, by omega⟩ ?_ dX8_takesTable_94
                  have er : (r_tab (r8_num T z0) T z0 6 0 w0 (fun _ => 0) (fun _ => 0)) = (0, B1.2.1, 0, fun _ => 0, fun _ => 0) := by rw [he, ht6]; exact (r_tab_B hA (by omega) hC60 hB (by omega))
                  rw [er]
                  exact ⟨rfl, hZ6.k hk87, (hk87.1 79 (by omega)).trans ((z6o 79 (by omega)).trans z179), m19, ⟨by dsimp only; omega, by dsimp only; omega⟩, fun q => by dsimp only at q; omega⟩
              · have hlo2 : r8_num T z0 0 1000 (A1.2.1 + 1) = B1 := by rw [← hB, if_pos (show j = 0 by omega)]
                refine x_sipush B dX8_takesTable_72 (by decide) ?_
                refine x_goto B (tgt := 87) dX8_takesTable_75 (by decide) ?_
                refine x_go (x_rV B h8 (show x_cl[7]? = some _ from rfl) (c_X8_takesNumber hq6 ⟨by omega, by omega⟩ ⟨by omega, by omega⟩) (lw_V q1479 q1481 qs41 q122 q1482) hv_X8_takesNumber ⟨by decide, by decide⟩ ⟨by decide, by decide⟩ rfl rfl (by simp [x_cr, x_c1, x_c2]) dX8_takesTable_87) (fun v_87 X_87 p_87 => ?_)
                rw [hlo2] at p_87
                obtain ⟨rfl, hk87, m19, m21⟩ := p_87
                refine x_if_ne B (tgt := 95) dX8_takesTable_90 (by decide) ⟨by omega, by omega⟩ (fun h_90 => ?_) (fun h_90 => ?_)
                · have hB1 : B1.1 = 1 := by omega
                  have hB3 := hB2 hB1
                  refine x_aload_n B dX8_takesTable_95 rfl ?_
                  refine x_getC0 B (k := 26) hT rfl rfl xc_7 (by decide) h8 (Or.inl q1361) (fun _ h => h) dX8_takesTable_96 (fun k_96 => ?_)
                  refine x_iload B dX8_takesTable_99 rfl ?_
                  refine x_aload_n B dX8_takesTable_101 rfl ?_
                  refine x_getI B (k := 21) 21 rfl rfl xc_7 (by decide) h8 (Or.inl q1356) (fun _ h => h) dX8_takesTable_102 (fun r_102 => ?_)
                  rw [m21 hB1] at r_102 ⊢
                  refine x_iast B k_96 ⟨by omega, by omega⟩ ⟨by omega, by omega⟩ dX8_takesTable_105 ?_
                  have hZ2 : n8 X (x_up X_87 78 (6 * t + j) B1.2.2) t := (hZ6.k hk87).up (Or.inr (Or.inl ⟨Or.inr rfl, by omega, by omega⟩))
                  have z219 : (x_up X_87 78 (6 * t + j) B1.2.2) 64 19 = B1.2.1 := by rw [x_up_o _ (by omega)]; exact m19
                  have z279 : (x_up X_87 78 (6 * t + j) B1.2.2) 79 = X 79 := (x_up_o _ (by omega)).trans ((hk87.1 79 (by omega)).trans ((z6o 79 (by omega)).trans z179))
                  have z2r : (∀ i, 0 ≤ i → i < (j + 1) → (x_up X_87 78 (6 * t + j) B1.2.2) 77 (6 * t + i) = (r_u L j A1.2.2) i ∧ (x_up X_87 78 (6 * t + j) B1.2.2) 78 (6 * t + i) = (r_u D j B1.2.2) i) := fun i i1 i2 => by
                    rw [show (x_up X_87 78 (6 * t + j) B1.2.2) 77 = Z1 77 from (x_up_o _ (by omega)).trans ((hk87.1 77 (by omega)).trans (z6o 77 (by omega)))]
                    by_cases e : i = j
                    · rw [e, x_up_s, r_u_s, r_u_s]; exact ⟨z1j, rfl⟩
                    · rw [x_up_n _ (Or.inr (by omega)), r_u_n e, r_u_n e, hk87.1 78 (by omega), z6o 78 (by omega)]; exact z1r i i1 (by omega)
                  generalize (x_up X_87 78 (6 * t + j) B1.2.2) = Z2 at hZ2 z219 z279 z2r ⊢
                  have hq2 := h.n hZ2 z219 ⟨by omega, by omega⟩
                  have hlr : (1 ≤ (r_u L j A1.2.2) (j + 1 - 1) ∧ (r_u L j A1.2.2) (j + 1 - 1) ≤ 40) ∧ (0 ≤ (r_u D j B1.2.2) (j + 1 - 1) ∧ (r_u D j B1.2.2) (j + 1 - 1) ≤ 1000) := by rw [show j + 1 - 1 = j by omega, r_u_s, r_u_s]; omega
                  refine x_iinc_2 B dX8_takesTable_106 (by first | rfl | exact x_cr _ _) ?_
                  refine x_iload_n B dX8_takesTable_109 rfl ?_
                  refine x_bipush B dX8_takesTable_110 (by decide) ?_
                  refine x_icmp_ge B (tgt := 128) dX8_takesTable_112 (by decide) ⟨by omega, by omega⟩ ⟨by omega, by omega⟩ (fun h_112 => ?_) (fun h_112 => ?_)
                  · have hcn : ¬ (j + 1 < 6 ∧ B1.2.1 < z0 ∧ T B1.2.1 = 44) := by omega
                    have hnx0 : (0 ≤ (j + 1) ∧ (j + 1) ≤ 6) ∧ (0 ≤ B1.2.1 ∧ B1.2.1 ≤ z0) ∧ (n8 X Z2 t ∧ Z2 79 = X 79 ∧ Z2 64 19 = B1.2.1 ∧ (∀ i, 0 ≤ i → i < (j + 1) → Z2 77 (6 * t + i) = (r_u L j A1.2.2) i ∧ Z2 78 (6 * t + i) = (r_u D j B1.2.2) i)) ∧ (1 ≤ (j + 1) → (1 ≤ (r_u L j A1.2.2) ((j + 1) - 1) ∧ (r_u L j A1.2.2) ((j + 1) - 1) ≤ 40) ∧ (0 ≤ (r_u D j B1.2.2) ((j + 1) - 1) ∧ (r_u D j B1.2.2) ((j + 1) - 1) ≤ 1000)) ∧ (((0 : Int) = 1 ∧ (j + 1) < 6 ∧ (r_tab (r8_num T z0) T z0 6 0 w0 (fun _ => 0) (fun _ => 0)) = r_tab (r8_num T z0) T z0 (6 - (j + 1)).toNat (j + 1) B1.2.1 (r_u L j A1.2.2) (r_u D j B1.2.2)) ∨ ((0 : Int) = 0 ∧ 1 ≤ (j + 1) ∧ (r_tab (r8_num T z0) T z0 6 0 w0 (fun _ => 0) (fun _ => 0)) = (1, B1.2.1, (j + 1), (r_u L j A1.2.2), (r_u D j B1.2.2)))) := ⟨⟨by omega, by omega⟩, ⟨by omega, by omega⟩, ⟨hZ2, z279, z219, z2r⟩, fun _ => hlr, Or.inr ⟨rfl, by omega, by rw [he, ht6]; exact r_tab_D hA (by omega) hC60 hB (by omega) hcn⟩⟩
                    refine x_iconst B dX8_takesTable_128 ?_
                    refine x_ist_3 B dX8_takesTable_129 (by first | rfl | exact x_cr _ _) ?_
                    refine x_goto B (tgt := 4) dX8_takesTable_130 (by decide) ?_
                    refine x_fg_4 ?_
                    first
                    | exact ih _ _ _ _ _ _ hnx1 (by omega)
                    | exact ih _ _ _ _ _ _ hnx0 (by omega)
                  · refine x_aload_n B dX8_takesTable_115 rfl ?_
                    refine x_bipush B dX8_takesTable_116 (by decide) ?_
                    refine x_go (x_rV B h8 (show x_cl[7]? = some _ from rfl) (c_X8_takes hq2 ⟨by omega, by omega⟩) (lw_V q1493 q1495 qs44 q122 q1496) hv_X8_takes ⟨by decide, by decide⟩ ⟨by decide, by decide⟩ rfl rfl (by simp [x_cr, x_c1, x_c2]) dX8_takesTable_118) (fun v_118 X_118 p_118 => ?_)
                    obtain ⟨s118, rfl, hs118⟩ := p_118
                    have hsr118 : 0 ≤ s118 ∧ s118 ≤ 1 := by rcases hs118 with q | q <;> omega
                    refine x_if_eq B (tgt := 128) dX8_takesTable_121 (by decide) ⟨by omega, by omega⟩ (fun h_121 => ?_) (fun h_121 => ?_)
                    · obtain ⟨-, hC118, hX118⟩ := hs118.resolve_left (fun q => by omega)
                      have hX118 := hX118.symm
                      subst hX118
                      have hcn : ¬ (j + 1 < 6 ∧ B1.2.1 < z0 ∧ T B1.2.1 = 44) := by omega
                      have hnx0 : (0 ≤ (j + 1) ∧ (j + 1) ≤ 6) ∧ (0 ≤ B1.2.1 ∧ B1.2.1 ≤ z0) ∧ (n8 X Z2 t ∧ Z2 79 = X 79 ∧ Z2 64 19 = B1.2.1 ∧ (∀ i, 0 ≤ i → i < (j + 1) → Z2 77 (6 * t + i) = (r_u L j A1.2.2) i ∧ Z2 78 (6 * t + i) = (r_u D j B1.2.2) i)) ∧ (1 ≤ (j + 1) → (1 ≤ (r_u L j A1.2.2) ((j + 1) - 1) ∧ (r_u L j A1.2.2) ((j + 1) - 1) ≤ 40) ∧ (0 ≤ (r_u D j B1.2.2) ((j + 1) - 1) ∧ (r_u D j B1.2.2) ((j + 1) - 1) ≤ 1000)) ∧ (((0 : Int) = 1 ∧ (j + 1) < 6 ∧ (r_tab (r8_num T z0) T z0 6 0 w0 (fun _ => 0) (fun _ => 0)) = r_tab (r8_num T z0) T z0 (6 - (j + 1)).toNat (j + 1) B1.2.1 (r_u L j A1.2.2) (r_u D j B1.2.2)) ∨ ((0 : Int) = 0 ∧ 1 ≤ (j + 1) ∧ (r_tab (r8_num T z0) T z0 6 0 w0 (fun _ => 0) (fun _ => 0)) = (1, B1.2.1, (j + 1), (r_u L j A1.2.2), (r_u D j B1.2.2)))) := ⟨⟨by omega, by omega⟩, ⟨by omega, by omega⟩, ⟨hZ2, z279, z219, z2r⟩, fun _ => hlr, Or.inr ⟨rfl, by omega, by rw [he, ht6]; exact r_tab_D hA (by omega) hC60 hB (by omega) hcn⟩⟩
                      refine x_iconst B dX8_takesTable_128 ?_
                      refine x_ist_3 B dX8_takesTable_129 (by first | rfl | exact x_cr _ _) ?_
                      refine x_goto B (tgt := 4) dX8_takesTable_130 (by decide) ?_
                      refine x_fg_4 ?_
                      first
                      | exact ih _ _ _ _ _ _ hnx1 (by omega)
                      | exact ih _ _ _ _ _ _ hnx0 (by omega)
                    · obtain ⟨-, hC118, hX118⟩ := hs118.resolve_right (fun q => h_121 q.1)
                      subst hX118
                      have hZ3 : n8 X (x_up Z2 64 19 (B1.2.1 + 1)) t := hZ2.k ((k8.rf Z2).up (Or.inl rfl))
                      have hnx1 : (0 ≤ (j + 1) ∧ (j + 1) ≤ 6) ∧ (0 ≤ (B1.2.1 + 1) ∧ (B1.2.1 + 1) ≤ z0) ∧ (n8 X (x_up Z2 64 19 (B1.2.1 + 1)) t ∧ (x_up Z2 64 19 (B1.2.1 + 1)) 79 = X 79 ∧ (x_up Z2 64 19 (B1.2.1 + 1)) 64 19 = (B1.2.1 + 1) ∧ (∀ i, 0 ≤ i → i < (j + 1) → (x_up Z2 64 19 (B1.2.1 + 1)) 77 (6 * t + i) = (r_u L j A1.2.2) i ∧ (x_up Z2 64 19 (B1.2.1 + 1)) 78 (6 * t + i) = (r_u D j B1.2.2) i)) ∧ (1 ≤ (j + 1) → (1 ≤ (r_u L j A1.2.2) ((j + 1) - 1) ∧ (r_u L j A1.2.2) ((j + 1) - 1) ≤ 40) ∧ (0 ≤ (r_u D j B1.2.2) ((j + 1) - 1) ∧ (r_u D j B1.2.2) ((j + 1) - 1) ≤ 1000)) ∧ (((1 : Int) = 1 ∧ (j + 1) < 6 ∧ (r_tab (r8_num T z0) T z0 6 0 w0 (fun _ => 0) (fun _ => 0)) = r_tab (r8_num T z0) T z0 (6 - (j + 1)).toNat (j + 1) (B1.2.1 + 1) (r_u L j A1.2.2) (r_u D j B1.2.2)) ∨ ((1 : Int) = 0 ∧ 1 ≤ (j + 1) ∧ (r_tab (r8_num T z0) T z0 6 0 w0 (fun _ => 0) (fun _ => 0)) = (1, (B1.2.1 + 1), (j + 1), (r_u L j A1.2.2), (r_u D j B1.2.2)))) := ⟨⟨by omega, by omega⟩, ⟨by omega, by omega⟩, ⟨hZ3, (x_up_o _ (by omega)).trans z279, x_up_s _ _ _ _, fun i i1 i2 => by rw [x_up_o _ (by omega), x_up_o _ (by omega)]; exact z2r i i1 i2⟩, fun _ => hlr, Or.inl ⟨rfl, by omega, by rw [he, ht6]; exact r_tab_C hA (by omega) hC60 hB (by omega) ⟨by omega, hC118.1, hC118.2⟩⟩⟩
                      refine x_iconst B dX8_takesTable_124 ?_
                      refine x_goto B (tgt := 129) dX8_takesTable_125 (by decide) ?_
                      refine x_ist_3 B dX8_takesTable_129 (by first | rfl | exact x_cr _ _) ?_
                      refine x_goto B (tgt := 4) dX8_takesTable_130 (by decide) ?_
                      refine x_fg_4 ?_
                      first
                      | exact ih _ _ _ _ _ _ hnx1 (by omega)
                      | exact ih _ _ _ _ _ _ hnx0 (by omega)
                · refine x_iconst B dX8_takesTable_93 ?_
                  refine x_zret B (fun _ _ h => h) ⟨by omega, by omega⟩ ?_ dX8_takesTable_94
                  have er : (r_tab (r8_num T z0) T z0 6 0 w0 (fun _ => 0) (fun _ => 0)) = (0, B1.2.1, 0, fun _ => 0, fun _ => 0) := by rw [he, ht6]; exact (r_tab_B hA (by omega) hC60 hB (by omega))
                  rw [er]
                  exact ⟨rfl, hZ6.k hk87, (hk87.1 79 (by omega)).trans ((z6o 79 (by omega)).trans z179), m19, ⟨by dsimp only; omega, by dsimp only; omega⟩, fun q => by dsimp only at q; omega⟩
          · refine x_iconst B dX8_takesTable_44 ?_
            refine x_zret B (fun _ _ h => h) ⟨by omega, by omega⟩ ?_ dX8_takesTable_45
            have er : (r_tab (r8_num T z0) T z0 6 0 w0 (fun _ => 0) (fun _ => 0)) = (0, A1.2.1, 0, fun _ => 0, fun _ => 0) := by rw [he, ht6]; exact (r_tab_A hA (by omega))
            rw [er]
            exact ⟨rfl, hY.k hk38, (hk38.1 79 (by omega)).trans y79, k19, ⟨by dsimp only; omega, by dsimp only; omega⟩, fun q => by dsimp only at q; omega⟩
        · have hlo1 : r8_num T z0 1 40 w1 = A1 := by rw [← hA, if_pos (show j = 0 by omega)]
          refine x_iconst B dX8_takesTable_21 ?_
          refine x_goto B (tgt := 36) dX8_takesTable_22 (by decide) ?_
          refine x_bipush B dX8_takesTable_36 (by decide) ?_
          refine x_go (x_rV B h8 (show x_cl[7]? = some _ from rfl) (c_X8_takesNumber hq ⟨by omega, by omega⟩ ⟨by omega, by omega⟩) (lw_V q1479 q1481 qs41 q122 q1482) hv_X8_takesNumber ⟨by decide, by decide⟩ ⟨by decide, by decide⟩ rfl rfl (by simp [x_cr, x_c1, x_c2]) dX8_takesTable_38) (fun v_38 X_38 p_38 => ?_)
          rw [hlo1] at p_38
          obtain ⟨rfl, hk38, k19, k21⟩ := p_38
          refine x_if_ne B (tgt := 46) dX8_takesTable_41 (by decide) ⟨by omega, by omega⟩ (fun h_41 => ?_) (fun h_41 => ?_)
          · have hA1 : A1.1 = 1 := by omega
            have hA3 := hA2 hA1
            refine x_aload_n B dX8_takesTable_46 rfl ?_
            refine x_getC0 B (k := 25) hT rfl rfl xc_7 (by decide) h8 (Or.inl q1360) (fun _ h => h) dX8_takesTable_47 (fun k_47 => ?_)
            refine x_iload B dX8_takesTable_50 rfl ?_
            refine x_aload_n B dX8_takesTable_52 rfl ?_
            refine x_getI B (k := 21) 21 rfl rfl xc_7 (by decide) h8 (Or.inl q1356) (fun _ h => h) dX8_takesTable_53 (fun r_53 => ?_)
            rw [k21 hA1] at r_53 ⊢
            refine x_iast B k_47 ⟨by omega, by omega⟩ ⟨by omega, by omega⟩ dX8_takesTable_56 ?_
            have hZ1 : n8 X (x_up X_38 77 (6 * t + j) A1.2.2) t := (hY.k hk38).up (Or.inr (Or.inl ⟨Or.inl rfl, by omega, by omega⟩))
            have z119 : (x_up X_38 77 (6 * t + j) A1.2.2) 64 19 = A1.2.1 := by rw [x_up_o _ (by omega)]; exact k19
            have z179 : (x_up X_38 77 (6 * t + j) A1.2.2) 79 = X 79 := (x_up_o _ (by omega)).trans ((hk38.1 79 (by omega)).trans y79)
            have z1j : (x_up X_38 77 (6 * t + j) A1.2.2) 77 (6 * t + j) = A1.2.2 := x_up_s _ _ _ _
            have z1r : (∀ i, 0 ≤ i → i < j → (x_up X_38 77 (6 * t + j) A1.2.2) 77 (6 * t + i) = L i ∧ (x_up X_38 77 (6 * t + j) A1.2.2) 78 (6 * t + i) = D i) := fun i i1 i2 => by rw [x_up_n _ (Or.inr (by omega)), x_up_o _ (by omega), hk38.1 77 (by omega), hk38.1 78 (by omega)]; exact hrow i i1 i2
            generalize (x_up X_38 77 (6 * t + j) A1.2.2) = Z1 at hZ1 z119 z179 z1j z1r ⊢
            have hq1 := h.n hZ1 z119 ⟨by omega, by omega⟩
            refine x_aload_n B dX8_takesTable_57 rfl ?_
            refine x_bipush B dX8_takesTable_58 (by decide) ?_
            refine x_go (x_rV B h8 (show x_cl[7]? = some _ from rfl) (c_X8_takes hq1 ⟨by omega, by omega⟩) (lw_V q1493 q1495 qs44 q122 q1496) hv_X8_takes ⟨by decide, by decide⟩ ⟨by decide, by decide⟩ rfl rfl (by simp [x_cr, x_c1, x_c2]) dX8_takesTable_60) (fun v_60 X_60 p_60 => ?_)
            obtain ⟨s60, rfl, hs60⟩ := p_60
            have hsr60 : 0 ≤ s60 ∧ s60 ≤ 1 := by rcases hs60 with q | q <;> omega
            refine x_if_eq B (tgt := 93) dX8_takesTable_63 (by decide) ⟨by omega, by omega⟩ (fun h_63 => ?_) (fun h_63 => ?_)
            · refine x_iconst B dX8_takesTable_93 ?_
              refine x_zret B (fun _ _ h => h) ⟨by omega, by omega⟩ ?_ dX8_takesTable_94
              obtain ⟨-, hC60, hX60⟩ := hs60.resolve_left (fun q => by omega)
              have hX60 := hX60.symm
              subst hX60
              have er : (r_tab (r8_num T z0) T z0 6 0 w0 (fun _ => 0) (fun _ => 0)) = (0, A1.2.1, 0, fun _ => 0, fun _ => 0) := by rw [he, ht6]; exact (r_tab_E hA (by omega) hC60)
              rw [er]
              exact ⟨rfl, hZ1, z179, z119, ⟨by dsimp only; omega, by dsimp only; omega⟩, fun q => by dsimp only at q; omega⟩
            · obtain ⟨-, hC60, hX60⟩ := hs60.resolve_right (fun q => h_63 q.1)
              subst hX60
              have hZ6 : n8 X (x_up Z1 64 19 (A1.2.1 + 1)) t := hZ1.k ((k8.rf Z1).up (Or.inl rfl))
              have z69 : (x_up Z1 64 19 (A1.2.1 + 1)) 64 19 = A1.2.1 + 1 := x_up_s _ _ _ _
              have z6o : ∀ c, c ≠ 64 → (x_up Z1 64 19 (A1.2.1 + 1)) c = Z1 c := fun c hc => x_up_o _ hc
              generalize (x_up Z1 64 19 (A1.2.1 + 1)) = Z6 at hZ6 z69 z6o ⊢
              have hq6 := h.n hZ6 z69 ⟨by omega, by omega⟩
              obtain ⟨B1, hB⟩ : ∃ B1, r8_num T z0 0 (if j = 0 then 1000 else D (j - 1)) (A1.2.1 + 1) = B1 := ⟨_, rfl⟩
              have hBr := hNr 0 (if j = 0 then 1000 else D (j - 1)) (A1.2.1 + 1) ⟨by omega, by omega⟩
              rw [hB] at hBr
              have hB2 := hBr.2.2
              have hDh : (if j = 0 then 1000 else D (j - 1)) ≤ 1000 := by split; omega; have := hLD (by omega); omega
              refine x_aload_n B dX8_takesTable_66 rfl ?_
              refine x_iconst B dX8_takesTable_67 ?_
              refine x_iload_n B dX8_takesTable_68 rfl ?_
              refine x_if_ne B (tgt := 78) dX8_takesTable_69 (by decide) ⟨by omega, by omega⟩ (fun h_69 => ?_) (fun h_69 => ?_)
              · have hlo2 : r8_num T z0 0 (D (j - 1)) (A1.2.1 + 1) = B1 := by rw [← hB, if_neg (show ¬ j = 0 by omega)]
                have hLD2 := hLD (by omega)
                have e86 : Z6 78 (6 * t + j - 1) = D (j - 1) := by rw [z6o 78 (by omega), show 6 * t + j - 1 = 6 * t + (j - 1) by omega]; exact (z1r (j - 1) (by omega) (by omega)).2
                refine x_aload_n B dX8_takesTable_78 rfl ?_
                refine x_getC0 B (k := 26) hT rfl rfl xc_7 (by decide) h8 (Or.inl q1361) (fun _ h => h) dX8_takesTable_79 (fun k_79 => ?_)
                refine x_iload B dX8_takesTable_82 rfl ?_
                refine x_iconst B dX8_takesTable_84 ?_
                refine x_isub B dX8_takesTable_85 ?_
                refine x_iald B k_79 ⟨by omega, by omega⟩ dX8_takesTable_86 (fun r_86 => ?_)
                rw [e86] at r_86 ⊢
                refine x_go (x_rV B h8 (show x_cl[7]? = some _ from rfl) (c_X8_takesNumber hq6 ⟨by omega, by omega⟩ ⟨by omega, by omega⟩) (lw_V q1479 q1481 qs41 q122 q1482) hv_X8_takesNumber ⟨by decide, by decide⟩ ⟨by decide, by decide⟩ rfl rfl (by simp [x_cr, x_c1, x_c2]) dX8_takesTable_87) (fun v_87 X_87 p_87 => ?_)
                rw [hlo2] at p_87
                obtain ⟨rfl, hk87, m19, m21⟩ := p_87
                refine x_if_ne B (tgt := 95) dX8_takesTable_90 (by decide) ⟨by omega, by omega⟩ (fun h_90 => ?_) (fun h_90 => ?_)
                · have hB1 : B1.1 = 1 := by omega
                  have hB3 := hB2 hB1
                  refine x_aload_n B dX8_takesTable_95 rfl ?_
                  refine x_getC0 B (k := 26) hT rfl rfl xc_7 (by decide) h8 (Or.inl q1361) (fun _ h => h) dX8_takesTable_96 (fun k_96 => ?_)
                  refine x_iload B dX8_takesTable_99 rfl ?_
                  refine x_aload_n B dX8_takesTable_101 rfl ?_
                  refine x_getI B (k := 21) 21 rfl rfl xc_7 (by decide) h8 (Or.inl q1356) (fun _ h => h) dX8_takesTable_102 (fun r_102 => ?_)
                  rw [m21 hB1] at r_102 ⊢
                  refine x_iast B k_96 ⟨by omega, by omega⟩ ⟨by omega, by omega⟩ dX8_takesTable_105 ?_
                  have hZ2 : n8 X (x_up X_87 78 (6 * t + j) B1.2.2) t := (hZ6.k hk87).up (Or.inr (Or.inl ⟨Or.inr rfl, by omega, by omega⟩))
                  have z219 : (x_up X_87 78 (6 * t + j) B1.2.2) 64 19 = B1.2.1 := by rw [x_up_o _ (by omega)]; exact m19
                  have z279 : (x_up X_87 78 (6 * t + j) B1.2.2) 79 = X 79 := (x_up_o _ (by omega)).trans ((hk87.1 79 (by omega)).trans ((z6o 79 (by omega)).trans z179))
                  have z2r : (∀ i, 0 ≤ i → i < (j + 1) → (x_up X_87 78 (6 * t + j) B1.2.2) 77 (6 * t + i) = (r_u L j A1.2.2) i ∧ (x_up X_87 78 (6 * t + j) B1.2.2) 78 (6 * t + i) = (r_u D j B1.2.2) i) := fun i i1 i2 => by
                    rw [show (x_up X_87 78 (6 * t + j) B1.2.2) 77 = Z1 77 from (x_up_o _ (by omega)).trans ((hk87.1 77 (by omega)).trans (z6o 77 (by omega)))]
                    by_cases e : i = j
                    · rw [e, x_up_s, r_u_s, r_u_s]; exact ⟨z1j, rfl⟩
                    · rw [x_up_n _ (Or.inr (by omega)), r_u_n e, r_u_n e, hk87.1 78 (by omega), z6o 78 (by omega)]; exact z1r i i1 (by omega)
                  generalize (x_up X_87 78 (6 * t + j) B1.2.2) = Z2 at hZ2 z219 z279 z2r ⊢
                  have hq2 := h.n hZ2 z219 ⟨by omega, by omega⟩
                  have hlr : (1 ≤ (r_u L j A1.2.2) (j + 1 - 1) ∧ (r_u L j A1.2.2) (j + 1 - 1) ≤ 40) ∧ (0 ≤ (r_u D j B1.2.2) (j + 1 - 1) ∧ (r_u D j B1.2.2) (j + 1 - 1) ≤ 1000) := by rw [show j + 1 - 1 = j by omega, r_u_s, r_u_s]; omega
                  refine x_iinc_2 B dX8_takesTable_106 (by first | rfl | exact x_cr _ _) ?_
                  refine x_iload_n B dX8_takesTable_109 rfl ?_
                  refine x_bipush B dX8_takesTable_110 (by decide) ?_
                  refine x_icmp_ge B (tgt := 128) dX8_takesTable_112 (by decide) ⟨by omega, by omega⟩ ⟨by omega, by omega⟩ (fun h_112 => ?_) (fun h_112 => ?_)
                  · have hcn : ¬ (j + 1 < 6 ∧ B1.2.1 < z0 ∧ T B1.2.1 = 44) := by omega
                    have hnx0 : (0 ≤ (j + 1) ∧ (j + 1) ≤ 6) ∧ (0 ≤ B1.2.1 ∧ B1.2.1 ≤ z0) ∧ (n8 X Z2 t ∧ Z2 79 = X 79 ∧ Z2 64 19 = B1.2.1 ∧ (∀ i, 0 ≤ i → i < (j + 1) → Z2 77 (6 * t + i) = (r_u L j A1.2.2) i ∧ Z2 78 (6 * t + i) = (r_u D j B1.2.2) i)) ∧ (1 ≤ (j + 1) → (1 ≤ (r_u L j A1.2.2) ((j + 1) - 1) ∧ (r_u L j A1.2.2) ((j + 1) - 1) ≤ 40) ∧ (0 ≤ (r_u D j B1.2.2) ((j + 1) - 1) ∧ (r_u D j B1.2.2) ((j + 1) - 1) ≤ 1000)) ∧ (((0 : Int) = 1 ∧ (j + 1) < 6 ∧ (r_tab (r8_num T z0) T z0 6 0 w0 (fun _ => 0) (fun _ => 0)) = r_tab (r8_num T z0) T z0 (6 - (j + 1)).toNat (j + 1) B1.2.1 (r_u L j A1.2.2) (r_u D j B1.2.2)) ∨ ((0 : Int) = 0 ∧ 1 ≤ (j + 1) ∧ (r_tab (r8_num T z0) T z0 6 0 w0 (fun _ => 0) (fun _ => 0)) = (1, B1.2.1, (j + 1), (r_u L j A1.2.2), (r_u D j B1.2.2)))) := ⟨⟨by omega, by omega⟩, ⟨by omega, by omega⟩, ⟨hZ2, z279, z219, z2r⟩, fun _ => hlr, Or.inr ⟨rfl, by omega, by rw [he, ht6]; exact r_tab_D hA (by omega) hC60 hB (by omega) hcn⟩⟩
                    refine x_iconst B dX8_takesTable_128 ?_
                    refine x_ist_3 B dX8_takesTable_129 (by first | rfl | exact x_cr _ _) ?_
                    refine x_goto B (tgt := 4) dX8_takesTable_130 (by decide) ?_
                    refine x_fg_4 ?_
                    first
                    | exact ih _ _ _ _ _ _ hnx1 (by omega)
                    | exact ih _ _ _ _ _ _ hnx0 (by omega)
                  · refine x_aload_n B dX8_takesTable_115 rfl ?_
                    refine x_bipush B dX8_takesTable_116 (by decide) ?_
                    refine x_go (x_rV B h8 (show x_cl[7]? = some _ from rfl) (c_X8_takes hq2 ⟨by omega, by omega⟩) (lw_V q1493 q1495 qs44 q122 q1496) hv_X8_takes ⟨by decide, by decide⟩ ⟨by decide, by decide⟩ rfl rfl (by simp [x_cr, x_c1, x_c2]) dX8_takesTable_118) (fun v_118 X_118 p_118 => ?_)
                    obtain ⟨s118, rfl, hs118⟩ := p_118
                    have hsr118 : 0 ≤ s118 ∧ s118 ≤ 1 := by rcases hs118 with q | q <;> omega
                    refine x_if_eq B (tgt := 128) dX8_takesTable_121 (by decide) ⟨by omega, by omega⟩ (fun h_121 => ?_) (fun h_121 => ?_)
                    · obtain ⟨-, hC118, hX118⟩ := hs118.resolve_left (fun q => by omega)
                      have hX118 := hX118.symm
                      subst hX118
                      have hcn : ¬ (j + 1 < 6 ∧ B1.2.1 < z0 ∧ T B1.2.1 = 44) := by omega
                      have hnx0 : (0 ≤ (j + 1) ∧ (j + 1) ≤ 6) ∧ (0 ≤ B1.2.1 ∧ B1.2.1 ≤ z0) ∧ (n8 X Z2 t ∧ Z2 79 = X 79 ∧ Z2 64 19 = B1.2.1 ∧ (∀ i, 0 ≤ i → i < (j + 1) → Z2 77 (6 * t + i) = (r_u L j A1.2.2) i ∧ Z2 78 (6 * t + i) = (r_u D j B1.2.2) i)) ∧ (1 ≤ (j + 1) → (1 ≤ (r_u L j A1.2.2) ((j + 1) - 1) ∧ (r_u L j A1.2.2) ((j + 1) - 1) ≤ 40) ∧ (0 ≤ (r_u D j B1.2.2) ((j + 1) - 1) ∧ (r_u D j B1.2.2) ((j + 1) - 1) ≤ 1000)) ∧ (((0 : Int) = 1 ∧ (j + 1) < 6 ∧ (r_tab (r8_num T z0) T z0 6 0 w0 (fun _ => 0) (fun _ => 0)) = r_tab (r8_num T z0) T z0 (6 - (j + 1)).toNat (j + 1) B1.2.1 (r_u L j A1.2.2) (r_u D j B1.2.2)) ∨ ((0 : Int) = 0 ∧ 1 ≤ (j + 1) ∧ (r_tab (r8_num T z0) T z0 6 0 w0 (fun _ => 0) (fun _ => 0)) = (1, B1.2.1, (j + 1), (r_u L j A1.2.2), (r_u D j B1.2.2)))) := ⟨⟨by omega, by omega⟩, ⟨by omega, by omega⟩, ⟨hZ2, z279, z219, z2r⟩, fun _ => hlr, Or.inr ⟨rfl, by omega, by rw [he, ht6]; exact r_tab_D hA (by omega) hC60 hB (by omega) hcn⟩⟩
                      refine x_iconst B dX8_takesTable_128 ?_
                      refine x_ist_3 B dX8_takesTable_129 (by first | rfl | exact x_cr _ _) ?_
                      refine x_goto B (tgt := 4) dX8_takesTable_130 (by decide) ?_
                      refine x_fg_4 ?_
                      first
                      | exact ih _ _ _ _ _ _ hnx1 (by omega)
                      | exact ih _ _ _ _ _ _ hnx0 (by omega)
                    · obtain ⟨-, hC118, hX118⟩ := hs118.resolve_right (fun q => h_121 q.1)
                      subst hX118
                      have hZ3 : n8 X (x_up Z2 64 19 (B1.2.1 + 1)) t := hZ2.k ((k8.rf Z2).up (Or.inl rfl))
                      have hnx1 : (0 ≤ (j + 1) ∧ (j + 1) ≤ 6) ∧ (0 ≤ (B1.2.1 + 1) ∧ (B1.2.1 + 1) ≤ z0) ∧ (n8 X (x_up Z2 64 19 (B1.2.1 + 1)) t ∧ (x_up Z2 64 19 (B1.2.1 + 1)) 79 = X 79 ∧ (x_up Z2 64 19 (B1.2.1 + 1)) 64 19 = (B1.2.1 + 1) ∧ (∀ i, 0 ≤ i → i < (j + 1) → (x_up Z2 64 19 (B1.2.1 + 1)) 77 (6 * t + i) = (r_u L j A1.2.2) i ∧ (x_up Z2 64 19 (B1.2.1 + 1)) 78 (6 * t + i) = (r_u D j B1.2.2) i)) ∧ (1 ≤ (j + 1) → (1 ≤ (r_u L j A1.2.2) ((j + 1) - 1) ∧ (r_u L j A1.2.2) ((j + 1) - 1) ≤ 40) ∧ (0 ≤ (r_u D j B1.2.2) ((j + 1) - 1) ∧ (r_u D j B1.2.2) ((j + 1) - 1) ≤ 1000)) ∧ (((1 : Int) = 1 ∧ (j + 1) < 6 ∧ (r_tab (r8_num T z0) T z0 6 0 w0 (fun _ => 0) (fun _ => 0)) = r_tab (r8_num T z0) T z0 (6 - (j + 1)).toNat (j + 1) (B1.2.1 + 1) (r_u L j A1.2.2) (r_u D j B1.2.2)) ∨ ((1 : Int) = 0 ∧ 1 ≤ (j + 1) ∧ (r_tab (r8_num T z0) T z0 6 0 w0 (fun _ => 0) (fun _ => 0)) = (1, (B1.2.1 + 1), (j + 1), (r_u L j A1.2.2), (r_u D j B1.2.2)))) := ⟨⟨by omega, by omega⟩, ⟨by omega, by omega⟩, ⟨hZ3, (x_up_o _ (by omega)).trans z279, x_up_s _ _ _ _, fun i i1 i2 => by rw [x_up_o _ (by omega), x_up_o _ (by omega)]; exact z2r i i1 i2⟩, fun _ => hlr, Or.inl ⟨rfl, by omega, by rw [he, ht6]; exact r_tab_C hA (by omega) hC60 hB (by omega) ⟨by omega, hC118.1, hC118.2⟩⟩⟩
                      refine x_iconst B dX8_takesTable_124 ?_
                      refine x_goto B (tgt := 129) dX8_takesTable_125 (by decide) ?_
                      refine x_ist_3 B dX8_takesTable_129 (by first | rfl | exact x_cr _ _) ?_
                      refine x_goto B (tgt := 4) dX8_takesTable_130 (by decide) ?_
                      refine x_fg_4 ?_
                      first
                      | exact ih _ _ _ _ _ _ hnx1 (by omega)
                      | exact ih _ _ _ _ _ _ hnx0 (by omega)
                · refine x_iconst B dX8_takesTable_93 ?_
                  refine x_zret B (fun _ _ h => h) ⟨by omega, by omega⟩ ?_ dX8_takesTable_94
                  have er : (r_tab (r8_num T z0) T z0 6 0 w0 (fun _ => 0) (fun _ => 0)) = (0, B1.2.1, 0, fun _ => 0, fun _ => 0) := by rw [he, ht6]; exact (r_tab_B hA (by omega) hC60 hB (by omega))
                  rw [er]
                  exact ⟨rfl, hZ6.k hk87, (hk87.1 79 (by omega)).trans ((z6o 79 (by omega)).trans z179), m19, ⟨by dsimp only; omega, by dsimp only; omega⟩, fun q => by dsimp only at q; omega⟩
              · have hlo2 : r8_num T z0 0 1000 (A1.2.1 + 1) = B1 := by rw [← hB, if_pos (show j = 0 by omega)]
                refine x_sipush B dX8_takesTable_72 (by decide) ?_
                refine x_goto B (tgt := 87) dX8_takesTable_75 (by decide) ?_
                refine x_go (x_rV B h8 (show x_cl[7]? = some _ from rfl) (c_X8_takesNumber hq6 ⟨by omega, by omega⟩ ⟨by omega, by omega⟩) (lw_V q1479 q1481 qs41 q122 q1482) hv_X8_takesNumber ⟨by decide, by decide⟩ ⟨by decide, by decide⟩ rfl rfl (by simp [x_cr, x_c1, x_c2]) dX8_takesTable_87) (fun v_87 X_87 p_87 => ?_)
                rw [hlo2] at p_87
                obtain ⟨rfl, hk87, m19, m21⟩ := p_87
                refine x_if_ne B (tgt := 95) dX8_takesTable_90 (by decide) ⟨by omega, by omega⟩ (fun h_90 => ?_) (fun h_90 => ?_)
                · have hB1 : B1.1 = 1 := by omega
                  have hB3 := hB2 hB1
                  refine x_aload_n B dX8_takesTable_95 rfl ?_
                  refine x_getC0 B (k := 26) hT rfl rfl xc_7 (by decide) h8 (Or.inl q1361) (fun _ h => h) dX8_takesTable_96 (fun k_96 => ?_)
                  refine x_iload B dX8_takesTable_99 rfl ?_
                  refine x_aload_n B dX8_takesTable_101 rfl ?_
                  refine x_getI B (k := 21) 21 rfl rfl xc_7 (by decide) h8 (Or.inl q1356) (fun _ h => h) dX8_takesTable_102 (fun r_102 => ?_)
                  rw [m21 hB1] at r_102 ⊢
                  refine x_iast B k_96 ⟨by omega, by omega⟩ ⟨by omega, by omega⟩ dX8_takesTable_105 ?_
                  have hZ2 : n8 X (x_up X_87 78 (6 * t + j) B1.2.2) t := (hZ6.k hk87).up (Or.inr (Or.inl ⟨Or.inr rfl, by omega, by omega⟩))
                  have z219 : (x_up X_87 78 (6 * t + j) B1.2.2) 64 19 = B1.2.1 := by rw [x_up_o _ (by omega)]; exact m19
                  have z279 : (x_up X_87 78 (6 * t + j) B1.2.2) 79 = X 79 := (x_up_o _ (by omega)).trans ((hk87.1 79 (by omega)).trans ((z6o 79 (by omega)).trans z179))
                  have z2r : (∀ i, 0 ≤ i → i < (j + 1) → (x_up X_87 78 (6 * t + j) B1.2.2) 77 (6 * t + i) = (r_u L j A1.2.2) i ∧ (x_up X_87 78 (6 * t + j) B1.2.2) 78 (6 * t + i) = (r_u D j B1.2.2) i) := fun i i1 i2 => by
                    rw [show (x_up X_87 78 (6 * t + j) B1.2.2) 77 = Z1 77 from (x_up_o _ (by omega)).trans ((hk87.1 77 (by omega)).trans (z6o 77 (by omega)))]
                    by_cases e : i = j
                    · rw [e, x_up_s, r_u_s, r_u_s]; exact ⟨z1j, rfl⟩
                    · rw [x_up_n _ (Or.inr (by omega)), r_u_n e, r_u_n e, hk87.1 78 (by omega), z6o 78 (by omega)]; exact z1r i i1 (by omega)
                  generalize (x_up X_87 78 (6 * t + j) B1.2.2) = Z2 at hZ2 z219 z279 z2r ⊢
                  have hq2 := h.n hZ2 z219 ⟨by omega, by omega⟩
                  have hlr : (1 ≤ (r_u L j A1.2.2) (j + 1 - 1) ∧ (r_u L j A1.2.2) (j + 1 - 1) ≤ 40) ∧ (0 ≤ (r_u D j B1.2.2) (j + 1 - 1) ∧ (r_u D j B1.2.2) (j + 1 - 1) ≤ 1000) := by rw [show j + 1 - 1 = j by omega, r_u_s, r_u_s]; omega
                  refine x_iinc_2 B dX8_takesTable_106 (by first | rfl | exact x_cr _ _) ?_
                  refine x_iload_n B dX8_takesTable_109 rfl ?_
                  refine x_bipush B dX8_takesTable_110 (by decide) ?_
                  refine x_icmp_ge B (tgt := 128) dX8_takesTable_112 (by decide) ⟨by omega, by omega⟩ ⟨by omega, by omega⟩ (fun h_112 => ?_) (fun h_112 => ?_)
                  · have hcn : ¬ (j + 1 < 6 ∧ B1.2.1 < z0 ∧ T B1.2.1 = 44) := by omega
                    have hnx0 : (0 ≤ (j + 1) ∧ (j + 1) ≤ 6) ∧ (0 ≤ B1.2.1 ∧ B1.2.1 ≤ z0) ∧ (n8 X Z2 t ∧ Z2 79 = X 79 ∧ Z2 64 19 = B1.2.1 ∧ (∀ i, 0 ≤ i → i < (j + 1) → Z2 77 (6 * t + i) = (r_u L j A1.2.2) i ∧ Z2 78 (6 * t + i) = (r_u D j B1.2.2) i)) ∧ (1 ≤ (j + 1) → (1 ≤ (r_u L j A1.2.2) ((j + 1) - 1) ∧ (r_u L j A1.2.2) ((j + 1) - 1) ≤ 40) ∧ (0 ≤ (r_u D j B1.2.2) ((j + 1) - 1) ∧ (r_u D j B1.2.2) ((j + 1) - 1) ≤ 1000)) ∧ (((0 : Int) = 1 ∧ (j + 1) < 6 ∧ (r_tab (r8_num T z0) T z0 6 0 w0 (fun _ => 0) (fun _ => 0)) = r_tab (r8_num T z0) T z0 (6 - (j + 1)).toNat (j + 1) B1.2.1 (r_u L j A1.2.2) (r_u D j B1.2.2)) ∨ ((0 : Int) = 0 ∧ 1 ≤ (j + 1) ∧ (r_tab (r8_num T z0) T z0 6 0 w0 (fun _ => 0) (fun _ => 0)) = (1, B1.2.1, (j + 1), (r_u L j A1.2.2), (r_u D j B1.2.2)))) := ⟨⟨by omega, by omega⟩, ⟨by omega, by omega⟩, ⟨hZ2, z279, z219, z2r⟩, fun _ => hlr, Or.inr ⟨rfl, by omega, by rw [he, ht6]; exact r_tab_D hA (by omega) hC60 hB (by omega) hcn⟩⟩
                    refine x_iconst B dX8_takesTable_128 ?_
                    refine x_ist_3 B dX8_takesTable_129 (by first | rfl | exact x_cr _ _) ?_
                    refine x_goto B (tgt := 4) dX8_takesTable_130 (by decide) ?_
                    refine x_fg_4 ?_
                    first
                    | exact ih _ _ _ _ _ _ hnx1 (by omega)
                    | exact ih _ _ _ _ _ _ hnx0 (by omega)
                  · refine x_aload_n B dX8_takesTable_115 rfl ?_
                    refine x_bipush B dX8_takesTable_116 (by decide) ?_
                    refine x_go (x_rV B h8 (show x_cl[7]? = some _ from rfl) (c_X8_takes hq2 ⟨by omega, by omega⟩) (lw_V q1493 q1495 qs44 q122 q1496) hv_X8_takes ⟨by decide, by decide⟩ ⟨by decide, by decide⟩ rfl rfl (by simp [x_cr, x_c1, x_c2]) dX8_takesTable_118) (fun v_118 X_118 p_118 => ?_)
                    obtain ⟨s118, rfl, hs118⟩ := p_118
                    have hsr118 : 0 ≤ s118 ∧ s118 ≤ 1 := by rcases hs118 with q | q <;> omega
                    refine x_if_eq B (tgt := 128) dX8_takesTable_121 (by decide) ⟨by omega, by omega⟩ (fun h_121 => ?_) (fun h_121 => ?_)
                    · obtain ⟨-, hC118, hX118⟩ := hs118.resolve_left (fun q => by omega)
                      have hX118 := hX118.symm
                      subst hX118
                      have hcn : ¬ (j + 1 < 6 ∧ B1.2.1 < z0 ∧ T B1.2.1 = 44) := by omega
                      have hnx0 : (0 ≤ (j + 1) ∧ (j + 1) ≤ 6) ∧ (0 ≤ B1.2.1 ∧ B1.2.1 ≤ z0) ∧ (n8 X Z2 t ∧ Z2 79 = X 79 ∧ Z2 64 19 = B1.2.1 ∧ (∀ i, 0 ≤ i → i < (j + 1) → Z2 77 (6 * t + i) = (r_u L j A1.2.2) i ∧ Z2 78 (6 * t + i) = (r_u D j B1.2.2) i)) ∧ (1 ≤ (j + 1) → (1 ≤ (r_u L j A1.2.2) ((j + 1) - 1) ∧ (r_u L j A1.2.2) ((j + 1) - 1) ≤ 40) ∧ (0 ≤ (r_u D j B1.2.2) ((j + 1) - 1) ∧ (r_u D j B1.2.2) ((j + 1) - 1) ≤ 1000)) ∧ (((0 : Int) = 1 ∧ (j + 1) < 6 ∧ (r_tab (r8_num T z0) T z0 6 0 w0 (fun _ => 0) (fun _ => 0)) = r_tab (r8_num T z0) T z0 (6 - (j + 1)).toNat (j + 1) B1.2.1 (r_u L j A1.2.2) (r_u D j B1.2.2)) ∨ ((0 : Int) = 0 ∧ 1 ≤ (j + 1) ∧ (r_tab (r8_num T z0) T z0 6 0 w0 (fun _ => 0) (fun _ => 0)) = (1, B1.2.1, (j + 1), (r_u L j A1.2.2), (r_u D j B1.2.2)))) := ⟨⟨by omega, by omega⟩, ⟨by omega, by omega⟩, ⟨hZ2, z279, z219, z2r⟩, fun _ => hlr, Or.inr ⟨rfl, by omega, by rw [he, ht6]; exact r_tab_D hA (by omega) hC60 hB (by omega) hcn⟩⟩
                      refine x_iconst B dX8_takesTable_128 ?_
                      refine x_ist_3 B dX8_takesTable_129 (by first | rfl | exact x_cr _ _) ?_
                      refine x_goto B (tgt := 4) dX8_takesTable_130 (by decide) ?_
                      refine x_fg_4 ?_
                      first
                      | exact ih _ _ _ _ _ _ hnx1 (by omega)
                      | exact ih _ _ _ _ _ _ hnx0 (by omega)
                    · obtain ⟨-, hC118, hX118⟩ := hs118.resolve_right (fun q => h_121 q.1)
                      subst hX118
                      have hZ3 : n8 X (x_up Z2 64 19 (B1.2.1 + 1)) t := hZ2.k ((k8.rf Z2).up (Or.inl rfl))
                      have hnx1 : (0 ≤ (j + 1) ∧ (j + 1) ≤ 6) ∧ (0 ≤ (B1.2.1 + 1) ∧ (B1.2.1 + 1) ≤ z0) ∧ (n8 X (x_up Z2 64 19 (B1.2.1 + 1)) t ∧ (x_up Z2 64 19 (B1.2.1 + 1)) 79 = X 79 ∧ (x_up Z2 64 19 (B1.2.1 + 1)) 64 19 = (B1.2.1 + 1) ∧ (∀ i, 0 ≤ i → i < (j + 1) → (x_up Z2 64 19 (B1.2.1 + 1)) 77 (6 * t + i) = (r_u L j A1.2.2) i ∧ (x_up Z2 64 19 (B1.2.1 + 1)) 78 (6 * t + i) = (r_u D j B1.2.2) i)) ∧ (1 ≤ (j + 1) → (1 ≤ (r_u L j A1.2.2) ((j + 1) - 1) ∧ (r_u L j A1.2.2) ((j + 1) - 1) ≤ 40) ∧ (0 ≤ (r_u D j B1.2.2) ((j + 1) - 1) ∧ (r_u D j B1.2.2) ((j + 1) - 1) ≤ 1000)) ∧ (((1 : Int) = 1 ∧ (j + 1) < 6 ∧ (r_tab (r8_num T z0) T z0 6 0 w0 (fun _ => 0) (fun _ => 0)) = r_tab (r8_num T z0) T z0 (6 - (j + 1)).toNat (j + 1) (B1.2.1 + 1) (r_u L j A1.2.2) (r_u D j B1.2.2)) ∨ ((1 : Int) = 0 ∧ 1 ≤ (j + 1) ∧ (r_tab (r8_num T z0) T z0 6 0 w0 (fun _ => 0) (fun _ => 0)) = (1, (B1.2.1 + 1), (j + 1), (r_u L j A1.2.2), (r_u D j B1.2.2)))) := ⟨⟨by omega, by omega⟩, ⟨by omega, by omega⟩, ⟨hZ3, (x_up_o _ (by omega)).trans z279, x_up_s _ _ _ _, fun i i1 i2 => by rw [x_up_o _ (by omega), x_up_o _ (by omega)]; exact z2r i i1 i2⟩, fun _ => hlr, Or.inl ⟨rfl, by omega, by rw [he, ht6]; exact r_tab_C hA (by omega) hC60 hB (by omega) ⟨by omega, hC118.1, hC118.2⟩⟩⟩
                      refine x_iconst B dX8_takesTable_124 ?_
                      refine x_goto B (tgt := 129) dX8_takesTable_125 (by decide) ?_
                      refine x_ist_3 B dX8_takesTable_129 (by first | rfl | exact x_cr _ _) ?_
                      refine x_goto B (tgt := 4) dX8_takesTable_130 (by decide) ?_
                      refine x_fg_4 ?_
                      first
                      | exact ih _ _ _ _ _ _ hnx1 (by omega)
                      | exact ih _ _ _ _ _ _ hnx0 (by omega)
                · refine x_iconst B dX8_takesTable_93 ?_
                  refine x_zret B (fun _ _ h => h) ⟨by omega, by omega⟩ ?_ dX8_takesTable_94
                  have er : (r_tab (r8_num T z0) T z0 6 0 w0 (fun _ => 0) (fun _ => 0)) = (0, B1.2.1, 0, fun _ => 0, fun _ => 0) := by rw [he, ht6]; exact (r_tab_B hA (by omega) hC60 hB (by omega))
                  rw [er]
                  exact ⟨rfl, hZ6.k hk87, (hk87.1 79 (by omega)).trans ((z6o 79 (by omega)).trans z179), m19, ⟨by dsimp only; omega, by dsimp only; omega⟩, fun q => by dsimp only at q; omega⟩
          · refine x_iconst B dX8_takesTable_44 ?_
            refine x_zret B (fun _ _ h => h) ⟨by omega, by omega⟩ ?_ dX8_takesTable_45
            have er : (r_tab (r8_num T z0) T z0 6 0 w0 (fun _ => 0) (fun _ => 0)) = (0, A1.2.1, 0, fun _ => 0, fun _ => 0) := by rw [he, ht6]; exact (r_tab_A hA (by omega))
            rw [er]
            exact ⟨rfl, hY.k hk38, (hk38.1 79 (by omega)).trans y79, k19, ⟨by dsimp only; omega, by dsimp only; omega⟩, fun q => by dsimp only at q; omega⟩
  refine x_iconst B dX8_takesTable_0 ?_
  refine x_ist_2 B dX8_takesTable_1 (by first | rfl | exact x_cr _ _) ?_
  refine x_iconst B dX8_takesTable_2 ?_
  refine x_ist_3 B dX8_takesTable_3 (by first | rfl | exact x_cr _ _) ?_
  exact lp_4 _ 0 1 w0 (fun _ => 0) (fun _ => 0) X ⟨⟨by omega, by omega⟩, hp, ⟨n8.rf X t, rfl, e19, fun i i1 i2 => by omega⟩, fun q => by omega, Or.inl ⟨rfl, by omega, rfl⟩⟩ (Nat.lt_succ_self _)
