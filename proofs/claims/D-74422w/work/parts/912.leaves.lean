theorem c_J2_fastRemove {l : Launch} {E : x_E} {κ : x_Ka} {X : x_X} {i : Int} (hT : x_T κ) (hk : κ 1 = some (.inl (1, 1))) (hmc : 0 ≤ X 1 0 ∧ X 1 0 ≤ 100000) (hn : 0 < X 1 2 ∧ X 1 2 ≤ 6) (hi : i = X 1 2 - 1) : x_Vo l yJ2_fastRemove cJ2_fastRemove 4 0 E κ X [x_rf E 1, x_rf E 2, vi i] ((x_up (x_up (x_up X 1 0 (X 1 0 + 1)) 1 2 (X 1 2 - 1)) 2 (X 1 2 - 1) (-1))) := by
  refine x_Met.of [(false, x_rf E 1), (false, x_rf E 2), (false, vi i)] [some (x_rf E 1), some (x_rf E 2), some (vi i), none] 1 (by decide) rfl rfl ⟨x_cr E (1), x_cr E (2), rfl, trivial⟩ rfl rfl ?_
  intro p e s m args below meth c hargs hin B
  have hk2 : κ 2 = some (.inr (4, 6)) := hT.1 1 1 hk 1 (0, 2, .inr (4, 6)) rfl
  refine x_aload_n B dJ2_fastRemove_0 rfl ?_
  refine x_dup B dJ2_fastRemove_1 (by first | rfl | exact x_cr _ _) ?_
  refine x_getI B (k := 0) 0 rfl rfl xc_1 (by decide) hk (Or.inl q169) (u_same (B.1.2.2.2.2 _ q170)) dJ2_fastRemove_2 (fun r_2 => ?_)
  refine x_iconst B dJ2_fastRemove_5 ?_
  refine x_iadd B dJ2_fastRemove_6 ?_
  refine x_putI B (k := 0) 0 rfl rfl rfl ⟨by omega, by omega⟩ xc_1 (by decide) rfl nn_1_0 (fun _ => rfl) hk (Or.inl q169) (u_same (B.1.2.2.2.2 _ q170)) dJ2_fastRemove_7 ?_
  refine x_aload_n B dJ2_fastRemove_10 rfl ?_
  refine x_getI B (k := 2) 2 rfl rfl xc_1 (by decide) hk (Or.inl q167) (fun _ h => h) dJ2_fastRemove_11 (fun r_11 => ?_)
  rw [x_up_n _ (Or.inr (by omega))] at r_11 ⊢
  refine x_iconst B dJ2_fastRemove_14 ?_
  refine x_isub B dJ2_fastRemove_15 ?_
  refine x_dup B dJ2_fastRemove_16 (by first | rfl | exact x_cr _ _) ?_
  refine x_ist_3 B dJ2_fastRemove_17 (by first | rfl | exact x_cr _ _) ?_
  refine x_iload_n B dJ2_fastRemove_18 rfl ?_
  refine x_icmp_le B (tgt := 34) dJ2_fastRemove_19 (by decide) ⟨by omega, by omega⟩ ⟨by omega, by omega⟩ (fun h_19 => ?_) (fun h_19 => (by exfalso; omega))
  refine x_aload_n B dJ2_fastRemove_34 rfl ?_
  refine x_aload_n B dJ2_fastRemove_35 rfl ?_
  refine x_iload_n B dJ2_fastRemove_36 rfl ?_
  refine x_dup_x1 B dJ2_fastRemove_37 (by first | rfl | exact x_cr _ _) (by first | rfl | exact x_cr _ _) ?_
  refine x_putI B (k := 2) 2 rfl rfl rfl ⟨by omega, by omega⟩ xc_1 (by decide) rfl nn_1_2 (fun _ => rfl) hk (Or.inl q167) (fun _ h => h) dJ2_fastRemove_38 ?_
  refine x_null B dJ2_fastRemove_41 ?_
  refine x_aastN B (t := 4) hk2 rfl rfl rfl ⟨by omega, by omega⟩ dJ2_fastRemove_42 ?_
  refine x_vret B (fun _ _ h => h) ?_ dJ2_fastRemove_43
  exact ⟨rfl, rfl⟩
theorem c_J2_remove {l : Launch} {E : x_E} {κ : x_Ka} {X : x_X} {i : Int} (hT : x_T κ) (hk : κ 1 = some (.inl (1, 1))) (hmc : 0 ≤ X 1 0 ∧ X 1 0 ≤ 100000) (hn : 0 < X 1 2 ∧ X 1 2 ≤ 6) (hi : i = X 1 2 - 1) : x_De l yJ2_remove cJ2_remove 4 (some (.object "java/lang/Object")) 2 E κ X [x_rf E 1, vi i] (x_rf E (X 2 i)) ((x_up (x_up (x_up X 1 0 (X 1 0 + 1)) 1 2 (X 1 2 - 1)) 2 (X 1 2 - 1) (-1))) := by
  refine x_Met.of [(false, x_rf E 1), (false, vi i)] [some (x_rf E 1), some (vi i), none, none] 2 (by decide) rfl rfl ⟨x_cr E (1), rfl, trivial⟩ rfl rfl ?_
  intro p e s m args below meth c hargs hin B
  have hk2 : κ 2 = some (.inr (4, 6)) := hT.1 1 1 hk 1 (0, 2, .inr (4, 6)) rfl
  refine x_iload_n B dJ2_remove_0 rfl ?_
  refine x_aload_n B dJ2_remove_1 rfl ?_
  refine x_getI B (k := 2) 2 rfl rfl xc_1 (by decide) hk (Or.inl q167) (fun _ h => h) dJ2_remove_2 (fun r_2 => ?_)
  refine x_goP (x_rS B (c_J3_checkIndex ⟨by omega, by omega⟩ ⟨by omega, by omega⟩) (lw_S q375 q376 q120 q377) hd_J3_checkIndex ⟨by decide, by decide⟩ ⟨by decide, by decide⟩ rfl rfl (by simp [x_cr, x_c1, x_c2]) dJ2_remove_5) ?_
  refine x_pop B dJ2_remove_8 (by first | rfl | exact x_cr _ _) ?_
  refine x_aload_n B dJ2_remove_9 rfl ?_
  refine x_getC0 B (k := 1) hT rfl rfl xc_1 (by decide) hk (Or.inl q166) (fun _ h => h) dJ2_remove_10 (fun k_10 => ?_)
  refine x_ast_2 B dJ2_remove_13 (by first | rfl | exact x_cr _ _) ?_
  refine x_aload_n B dJ2_remove_14 rfl ?_
  refine x_iload_n B dJ2_remove_15 rfl ?_
  refine x_aald B (t := 4) k_10 rfl rfl rfl ⟨by omega, by omega⟩ dJ2_remove_16 ?_
  refine x_ast_3 B dJ2_remove_17 (by first | rfl | exact x_cr _ _) ?_
  refine x_aload_n B dJ2_remove_18 rfl ?_
  refine x_aload_n B dJ2_remove_19 rfl ?_
  refine x_iload_n B dJ2_remove_20 rfl ?_
  refine x_goV (x_rV B hk (show x_cl[1]? = some _ from rfl) (c_J2_fastRemove hT hk hmc hn hi) (lw_V q726 q728 qs12 q113 q729) hv_J2_fastRemove ⟨by decide, by decide⟩ ⟨by decide, by decide⟩ rfl rfl (by simp [x_cr, x_c1, x_c2]) dJ2_remove_21) ?_
  refine x_aload_n B dJ2_remove_24 rfl ?_
  refine x_aret B (Or.inl ⟨_, rfl⟩) (fun _ _ h => h) ?_ dJ2_remove_25
  exact ⟨rfl, rfl⟩
theorem n_I.rem {κ : x_Ka} {X : x_X} (h : n_I κ X) (hn : 0 < X 1 2) : n_I κ (x_up (x_up (x_up X 1 0 (X 1 0 + 1)) 1 2 (X 1 2 - 1)) 2 (X 1 2 - 1) (-1)) := by
  obtain ⟨h1, h2, h3, h4, h5⟩ := h
  have e12 : (x_up (x_up (x_up X 1 0 (X 1 0 + 1)) 1 2 (X 1 2 - 1)) 2 (X 1 2 - 1) (-1)) 1 2 = X 1 2 - 1 := by rw [x_up_o _ (by omega), x_up_s]
  have e2 : ∀ l, l < X 1 2 - 1 → (x_up (x_up (x_up X 1 0 (X 1 0 + 1)) 1 2 (X 1 2 - 1)) 2 (X 1 2 - 1) (-1)) 2 l = X 2 l := fun l hl => by rw [x_up_n _ (Or.inr (by omega)), x_up_o _ (by omega), x_up_o _ (by omega)]
  refine ⟨h1, h2, by rw [e12]; omega, fun l l1 l2 => ?_, fun l l1 l2 => ?_⟩
  · rw [e12] at l2; rw [e2 l l2]; exact h4 l l1 (by omega)
  · rw [e12] at l2; rw [e2 l l2]; exact h5 l l1 (by omega)
theorem c_X1_leaves {l : Launch} {E : x_E} {κ : x_Ka} {X : x_X}  (hI : n_I κ X) (hmc : 0 ≤ X 1 0 ∧ X 1 0 ≤ 100000) : x_Met l yX1_leaves cX1_leaves 1 (some .int) 6 0 0 E κ X [x_rf E 0] κ (fun v_ Y_ => if X 1 2 = 0 then (v_ = some (vi (-2)) ∧ Y_ = X) else (v_ = some (vi (X 1 2 - 1)) ∧ (∀ a, (a < 3 ∨ 17 ≤ a) → a ≠ 0 → Y_ a = (x_up (x_up (x_up X 1 0 (X 1 0 + 1)) 1 2 (X 1 2 - 1)) 2 (X 1 2 - 1) (-1)) a) ∧ (∀ i9, i9 ≠ 12 → Y_ 0 i9 = (x_up (x_up (x_up X 1 0 (X 1 0 + 1)) 1 2 (X 1 2 - 1)) 2 (X 1 2 - 1) (-1)) 0 i9) ∧ Y_ 0 12 = 0 ∧ c_M Y_ 3 = m_beg ((x_up (x_up (x_up X 1 0 (X 1 0 + 1)) 1 2 (X 1 2 - 1)) 2 (X 1 2 - 1) (-1)) 1 2) (c_op (x_up (x_up (x_up X 1 0 (X 1 0 + 1)) 1 2 (X 1 2 - 1)) 2 (X 1 2 - 1) (-1))) (c_M (x_up (x_up (x_up X 1 0 (X 1 0 + 1)) 1 2 (X 1 2 - 1)) 2 (X 1 2 - 1) (-1)) 3) ∧ ∀ l, 0 ≤ l → l < (x_up (x_up (x_up X 1 0 (X 1 0 + 1)) 1 2 (X 1 2 - 1)) 2 (X 1 2 - 1) (-1)) 1 2 → Y_ (3 + 1 + 1 + 2 * l) 1 = 0)) := by
  refine x_Met.of [(false, x_rf E 0)] [some (x_rf E 0)] 0 (by decide) rfl rfl ⟨x_cr E (0), trivial⟩ rfl rfl ?_
  intro p e s m args below meth c hargs hin B
  obtain ⟨hT, h0, hn, hl, hla⟩ := id hI
  refine x_aload_n B dX1_leaves_0 rfl ?_
  refine x_getC0 B (k := 0) hT rfl rfl xc_0 (by decide) h0 (Or.inl q394) (fun _ h => h) dX1_leaves_1 (fun k_1 => ?_)
  refine x_goP (x_rV B k_1 (show x_cl[1]? = some _ from rfl) (c_J2_isEmpty hT (by assumption)) (lw_V q718 q719 q720 q113 q721) hv_J2_isEmpty ⟨by decide, by decide⟩ ⟨by decide, by decide⟩ rfl rfl (by simp [x_cr, x_c1, x_c2]) dX1_leaves_4) ?_
  refine x_if_eq B (tgt := 13) dX1_leaves_7 (by decide) ⟨by split <;> omega, by split <;> omega⟩ (fun h_7 => ?_) (fun h_7 => ?_)
  · have hne : X 1 2 ≠ 0 := by intro q; rw [if_pos q] at h_7; omega
    refine x_aload_n B dX1_leaves_13 rfl ?_
    refine x_getC0 B (k := 0) hT rfl rfl xc_0 (by decide) h0 (Or.inl q394) (fun _ h => h) dX1_leaves_14 (fun k_14 => ?_)
    refine x_aload_n B dX1_leaves_17 rfl ?_
    refine x_getC0 B (k := 0) hT rfl rfl xc_0 (by decide) h0 (Or.inl q394) (fun _ h => h) dX1_leaves_18 (fun k_18 => ?_)
    refine x_goP (x_rV B k_18 (show x_cl[1]? = some _ from rfl) (c_J2_size hT (by assumption)) (lw_V q643 q364 q365 q113 q366) hv_J2_size ⟨by decide, by decide⟩ ⟨by decide, by decide⟩ rfl rfl (by simp [x_cr, x_c1, x_c2]) dX1_leaves_21) ?_
    refine x_iconst B dX1_leaves_24 ?_
    refine x_isub B dX1_leaves_25 ?_
    refine x_goP (x_rV B k_14 (show x_cl[1]? = some _ from rfl) (c_J2_remove hT k_14 hmc ⟨by omega, by omega⟩ rfl) (lw_V q722 q723 q724 q113 q725) hv_J2_remove ⟨by decide, by decide⟩ ⟨by decide, by decide⟩ rfl rfl (by simp [x_cr, x_c1, x_c2]) dX1_leaves_26) ?_
    refine x_pop B dX1_leaves_29 (by first | rfl | exact x_cr _ _) ?_
    have hIx := hI.rem (by omega)
    refine x_aload_n B dX1_leaves_30 rfl ?_
    refine x_go (x_rV B h0 (show x_cl[0]? = some _ from rfl) (c_X1_beginsAnew hIx) (lw_V q710 q712 qs11 q110 q713) hv_X1_beginsAnew ⟨by decide, by decide⟩ ⟨by decide, by decide⟩ rfl rfl (by simp [x_cr, x_c1, x_c2]) dX1_leaves_31) (fun v_31 X_31 p_31 => ?_)
    obtain ⟨rfl, hp⟩ := p_31
    have e12 : (x_up (x_up (x_up X 1 0 (X 1 0 + 1)) 1 2 (X 1 2 - 1)) 2 (X 1 2 - 1) (-1)) 1 2 = X 1 2 - 1 := by rw [x_up_o _ (by omega), x_up_s]
    rw [e12]
    refine x_iret B (fun _ _ h => h) ?_ dX1_leaves_34
    rw [if_neg hne]; exact ⟨rfl, hp⟩
  · have h00 : X 1 2 = 0 := by by_cases q : X 1 2 = 0; exact q; rw [if_neg q] at h_7; omega
    refine x_bipush B dX1_leaves_10 (by decide) ?_
    refine x_iret B (fun _ _ h => h) ?_ dX1_leaves_12
    rw [if_pos h00]; exact ⟨rfl, rfl⟩
theorem c_J2_add_2 {l : Launch} {E : x_E} {κ : x_Ka} {X : x_X} {v i : Int} (hT : x_T κ) (hk : κ 1 = some (.inl (1, 1))) (hv : κ v = some (.inl (8, 1))) (hn : 0 ≤ i ∧ i < 6) : x_Vo l yJ2_add_2 cJ2_add_2 4 0 E κ X [x_rf E 1, x_rf E v, x_rf E 2, vi i] (x_up (x_up X 2 i v) 1 2 (i + 1)) := by
  refine x_Met.of [(false, x_rf E 1), (false, x_rf E v), (false, x_rf E 2), (false, vi i)] [some (x_rf E 1), some (x_rf E v), some (x_rf E 2), some (vi i)] 0 (by decide) rfl rfl ⟨x_cr E (1), x_cr E (v), x_cr E (2), rfl, trivial⟩ rfl rfl ?_
  intro p e s m args below meth c hargs hin B
  have hk2 : κ 2 = some (.inr (4, 6)) := hT.1 1 1 hk 1 (0, 2, .inr (4, 6)) rfl
  refine x_iload_n B dJ2_add_2_0 rfl ?_
  refine x_aload_n B dJ2_add_2_1 rfl ?_
  refine x_alen B (t := 4) (i := 0) hk2 rfl dJ2_add_2_2 ?_
  refine x_icmp_ne B (tgt := 11) dJ2_add_2_3 (by decide) ⟨by omega, by omega⟩ ⟨by decide, by decide⟩ (fun h_3 => ?_) (fun h_3 => (by exfalso; omega))
  refine x_aload_n B dJ2_add_2_11 rfl ?_
  refine x_iload_n B dJ2_add_2_12 rfl ?_
  refine x_aload_n B dJ2_add_2_13 rfl ?_
  refine x_aastO B (t := 4) hk2 rfl rfl rfl hv (show x_cl[8]? = some _ from rfl) q1941 ⟨by omega, by omega⟩ dJ2_add_2_14 ?_
  refine x_aload_n B dJ2_add_2_15 rfl ?_
  refine x_iload_n B dJ2_add_2_16 rfl ?_
  refine x_iconst B dJ2_add_2_17 ?_
  refine x_iadd B dJ2_add_2_18 ?_
  refine x_putI B (k := 2) 2 rfl rfl rfl ⟨by omega, by omega⟩ xc_1 (by decide) rfl nn_1_2 (fun _ => rfl) hk (Or.inl q167) (fun _ h => h) dJ2_add_2_19 ?_
  refine x_vret B (fun _ _ h => h) ?_ dJ2_add_2_22
  exact ⟨rfl, rfl⟩
theorem c_J2_add {l : Launch} {E : x_E} {κ : x_Ka} {X : x_X} {v : Int} (hT : x_T κ) (hk : κ 1 = some (.inl (1, 1))) (hmc : 0 ≤ X 1 0 ∧ X 1 0 ≤ 100000) (hv : κ v = some (.inl (8, 1))) (hn : 0 ≤ X 1 2 ∧ X 1 2 < 6) : x_De l yJ2_add cJ2_add 2 (some .boolean) 1 E κ X [x_rf E 1, x_rf E v] (vi 1) ((x_up (x_up (x_up X 1 0 (X 1 0 + 1)) 2 (X 1 2) v) 1 2 (X 1 2 + 1))) := by
  refine x_Met.of [(false, x_rf E 1), (false, x_rf E v)] [some (x_rf E 1), some (x_rf E v)] 0 (by decide) rfl rfl ⟨x_cr E (1), x_cr E (v), trivial⟩ rfl rfl ?_
  intro p e s m args below meth c hargs hin B
  have hk2 : κ 2 = some (.inr (4, 6)) := hT.1 1 1 hk 1 (0, 2, .inr (4, 6)) rfl
  refine x_aload_n B dJ2_add_0 rfl ?_
  refine x_dup B dJ2_add_1 (by first | rfl | exact x_cr _ _) ?_
  refine x_getI B (k := 0) 0 rfl rfl xc_1 (by decide) hk (Or.inl q169) (u_same (B.1.2.2.2.2 _ q170)) dJ2_add_2 (fun r_2 => ?_)
  refine x_iconst B dJ2_add_5 ?_
  refine x_iadd B dJ2_add_6 ?_
  refine x_putI B (k := 0) 0 rfl rfl rfl ⟨by omega, by omega⟩ xc_1 (by decide) rfl nn_1_0 (fun _ => rfl) hk (Or.inl q169) (u_same (B.1.2.2.2.2 _ q170)) dJ2_add_7 ?_
  refine x_aload_n B dJ2_add_10 rfl ?_
  refine x_aload_n B dJ2_add_11 rfl ?_
  refine x_aload_n B dJ2_add_12 rfl ?_
  refine x_getC0 B (k := 1) hT rfl rfl xc_1 (by decide) hk (Or.inl q166) (fun _ h => h) dJ2_add_13 (fun k_13 => ?_)
  refine x_aload_n B dJ2_add_16 rfl ?_
  refine x_getI B (k := 2) 2 rfl rfl xc_1 (by decide) hk (Or.inl q167) (fun _ h => h) dJ2_add_17 (fun r_17 => ?_)
  rw [x_up_n _ (Or.inr (by omega))] at r_17 ⊢
  refine x_goV (x_rV B hk (show x_cl[1]? = some _ from rfl) (c_J2_add_2 hT hk hv hn) (lw_V q648 q650 qs8 q113 q651) hv_J2_add_2 ⟨by decide, by decide⟩ ⟨by decide, by decide⟩ rfl rfl (by simp [x_cr, x_c1, x_c2]) dJ2_add_20) ?_
  refine x_iconst B dJ2_add_23 ?_
  refine x_zret B (fun _ _ h => h) ⟨by omega, by omega⟩ ?_ dJ2_add_24
  exact ⟨rfl, rfl⟩
