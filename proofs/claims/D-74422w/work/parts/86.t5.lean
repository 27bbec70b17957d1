theorem x_up_self (X : x_X) (a i : Int) : x_up X a i (X a i) = X := by
  funext b j
  unfold x_up
  by_cases e : b = a ∧ j = i
  · rw [if_pos e, e.1, e.2]
  · rw [if_neg e]
theorem i_shl_0 {k : Int} (h : 0 ≤ k ∧ k ≤ 5) : i_shl 0 k = 0 := by
  rcases (show k = 0 ∨ k = 1 ∨ k = 2 ∨ k = 3 ∨ k = 4 ∨ k = 5 by omega) with e | e | e | e | e | e <;> subst e <;> decide
theorem m_W_up3 {n : Int} {M : x_X} {i z : Int} (h : m_W n M) (hi : 0 ≤ i ∧ i < n) (h3 : M i 3 > 0) (hz : M i 4 ≤ z ∧ z ≤ 40) : m_W n (x_up M i 3 z) := by
  obtain ⟨hG, hR, hS⟩ := h
  have hr := hR i hi.1 hi.2
  have hs := hS i hi.1 hi.2
  have g : ∀ f, x_up M i 3 z (-1) f = M (-1) f := fun f => x_up_n _ (Or.inl (by omega))
  have o : ∀ l f, f ≠ 3 → x_up M i 3 z l f = M l f := fun l f hf => x_up_n _ (Or.inr hf)
  refine ⟨by rw [g, g, g]; exact hG, fun l l1 l2 => ?_, fun l l1 l2 => ?_⟩
  · rw [o l 2 (by omega), o l 4 (by omega), o l 5 (by omega), o l 6 (by omega), o l 7 (by omega), o l 10 (by omega), o l 11 (by omega), o l 12 (by omega)]
    by_cases e : l = i
    · subst e; rw [x_up_s]; exact ⟨hr.1, by omega, hr.2.2⟩
    · rw [x_up_n _ (Or.inl e)]; exact hR l l1 l2
  · rw [g, g, o l 2 (by omega), o l 4 (by omega), o l 6 (by omega), o l 7 (by omega), o l 11 (by omega), o l 12 (by omega), o l (10 + M (-1) 1) (by omega)]
    by_cases e : l = i
    · subst e; rw [x_up_s]
      have hq := hs.2.2.2.2 h3
      exact ⟨fun q => by have := hs.1 q; omega, fun q => by have := hs.2.1 q; omega, hs.2.2.1, hs.2.2.2.1, fun _ => ⟨hz.1, hq.2⟩⟩
    · rw [x_up_n _ (Or.inl e)]; exact hS l l1 l2
theorem m_sc_c {lot : Int → Int} {M N : x_X} {i x : Int} : ∀ k : Nat, (∀ l : Int, 0 ≤ l → l < k → l ≠ i → N l 3 = M l 3 ∧ N l 6 = M l 6) → m_sc lot N i x k = m_sc lot M i x k
  | 0, _ => rfl
  | k + 1, h => by
    unfold m_sc
    rw [m_sc_c k (fun l l1 l2 l3 => h l l1 (by omega) l3)]
    by_cases e : (k : Int) = i
    · rw [if_neg (fun q => q.1 e), if_neg (fun q => q.1 e)]
    · rw [(h k (by omega) (by omega) e).1, (h k (by omega) (by omega) e).2]
theorem c_X8_sign {l : Launch} {E : x_E} {κ : x_Ka} {X : x_X} {z : Int} (hT : x_T κ) (h8 : κ 64 = some (.inl (7, 1))) (h5 : 0 ≤ X 64 18 ∧ X 64 18 ≤ 240) (hz : xR z) : x_Met l yX8_sign cX8_sign 3 (some .int) 0 0 0 E κ X [x_rf E 64, vi z] κ (fun v Y => if X 64 18 > 236 then (v = some (vi (-1)) ∧ Y = x_up X 64 0 0) else (v = some (vi (X 64 18 + 4)) ∧ (∀ a, a ≠ 64 → a ≠ 75 → Y a = X a) ∧ (∀ i, i ≠ 0 → i ≠ 18 → Y 64 i = X 64 i) ∧ Y 64 18 = X 64 18 + 4 ∧ (∀ i, i < X 64 18 → Y 75 i = X 75 i) ∧ ∀ k, 0 ≤ k → k < 4 → Y 75 (X 64 18 + k) = i_and (i_shr z (24 - 8 * k)) 255)) := by
  refine x_Met.of [(false, x_rf E 64), (false, vi z)] [some (x_rf E 64), some (vi z), none] 1 (by decide) rfl rfl ⟨x_cr E (64), rfl, trivial⟩ rfl rfl ?_
  intro p e s m args below meth c hargs hin B
  have lp_19 : ∀ (n : Nat) (j : Int) (Y : x_X), ((0 ≤ j ∧ j ≤ 4) ∧ X 64 18 ≤ 236 ∧ (∀ a, a ≠ 64 → a ≠ 75 → Y a = X a) ∧ (∀ i, i ≠ 0 → Y 64 i = X 64 i) ∧ (∀ i, i < X 64 18 → Y 75 i = X 75 i) ∧ ∀ k, 0 ≤ k → k < j → Y 75 (X 64 18 + k) = i_and (i_shr z (24 - 8 * k)) 255) → ((5 - j).toNat < n) → x_G p l e (x_rm 0 0 0) s m args below meth c 3 E 0 0 (MQ below (x_Q E κ (fun v Y => if X 64 18 > 236 then (v = some (vi (-1)) ∧ Y = x_up X 64 0 0) else (v = some (vi (X 64 18 + 4)) ∧ (∀ a, a ≠ 64 → a ≠ 75 → Y a = X a) ∧ (∀ i, i ≠ 0 → i ≠ 18 → Y 64 i = X 64 i) ∧ Y 64 18 = X 64 18 + 4 ∧ (∀ i, i < X 64 18 → Y 75 i = X 75 i) ∧ ∀ k, 0 ≤ k → k < 4 → Y 75 (X 64 18 + k) = i_and (i_shr z (24 - 8 * k)) 255))) args s 0 0 (fun q => E.1 ≤ q)) κ 19 [some (x_rf E 64), some (vi z), some (vi j)] [] Y := by
    intro n
    induction n with
    | zero => intro j Y hinv hme; exfalso; omega
    | succ n ih =>
      intro j Y hinv hme
      obtain ⟨hj, h4, ho, h64, hb, hk⟩ := hinv
      have y18 := h64 18 (by omega)
      refine x_iload_n B dX8_sign_19 rfl ?_
      refine x_iconst B dX8_sign_20 ?_
      refine x_icmp_ge B (tgt := 54) dX8_sign_21 (by decide) ⟨by omega, by omega⟩ ⟨by omega, by omega⟩ (fun h_21 => ?_) (fun h_21 => ?_)
      · obtain rfl : j = 4 := by omega
        refine x_aload_n B dX8_sign_54 rfl ?_
        refine x_dup B dX8_sign_55 (by first | rfl | exact x_cr _ _) ?_
        refine x_getI B (k := 18) 18 rfl rfl xc_7 (by decide) h8 (Or.inl q1353) (fun _ h => h) dX8_sign_56 (fun r_56 => ?_)
        rw [y18] at r_56 ⊢
        refine x_iconst B dX8_sign_59 ?_
        refine x_iadd B dX8_sign_60 ?_
        refine x_putI B (k := 18) 18 rfl rfl rfl ⟨by omega, by omega⟩ xc_7 (by decide) rfl nn_7_18 (fun _ => rfl) h8 (Or.inl q1353) (fun _ h => h) dX8_sign_61 ?_
        refine x_aload_n B dX8_sign_64 rfl ?_
        refine x_getI B (k := 18) 18 rfl rfl xc_7 (by decide) h8 (Or.inl q1353) (fun _ h => h) dX8_sign_65 (fun r_65 => ?_)
        rw [x_up_s]
        refine x_iret B (fun _ _ h => h) ?_ dX8_sign_68
        rw [if_neg (by omega)]
        refine ⟨rfl, fun a a1 a2 => by rw [x_up_o _ a1]; exact ho a a1 a2, fun i i1 i2 => by rw [x_up_n _ (Or.inr i2)]; exact h64 i i1, x_up_s _ _ _ _, fun i i1 => by rw [x_up_o _ (by omega)]; exact hb i i1, fun k k1 k2 => by rw [x_up_o _ (by omega)]; exact hk k k1 k2⟩
      · refine x_aload_n B dX8_sign_24 rfl ?_
        refine x_getC0 B (k := 17) hT rfl rfl xc_7 (by decide) h8 (Or.inl q1352) (fun _ h => h) dX8_sign_25 (fun k_25 => ?_)
        refine x_aload_n B dX8_sign_28 rfl ?_
        refine x_getI B (k := 18) 18 rfl rfl xc_7 (by decide) h8 (Or.inl q1353) (fun _ h => h) dX8_sign_29 (fun r_29 => ?_)
        rw [y18] at r_29 ⊢
        refine x_iload_n B dX8_sign_32 rfl ?_
        refine x_iadd B dX8_sign_33 ?_
        refine x_iload_n B dX8_sign_34 rfl ?_
        refine x_bipush B dX8_sign_35 (by decide) ?_
        refine x_bipush B dX8_sign_37 (by decide) ?_
        refine x_iload_n B dX8_sign_39 rfl ?_
        refine x_imul B dX8_sign_40 ?_
        refine x_isub B dX8_sign_41 ?_
        refine x_ishr B dX8_sign_42 ?_
        refine x_sipush B dX8_sign_43 (by decide) ?_
        refine x_iand B dX8_sign_46 ?_
        refine x_iast B k_25 ⟨by omega, by omega⟩ (i_and_R _ _) dX8_sign_47 ?_
        refine x_iinc_2 B dX8_sign_48 (by first | rfl | exact x_cr _ _) ?_
        refine x_goto B (tgt := 19) dX8_sign_51 (by decide) ?_
        refine ih _ _ ⟨⟨by omega, by omega⟩, h4, fun a a1 a2 => by rw [x_up_o _ a2]; exact ho a a1 a2, fun i i1 => by rw [x_up_o _ (by omega)]; exact h64 i i1, fun i i1 => by rw [x_up_n _ (Or.inr (by omega))]; exact hb i i1, fun k k1 k2 => ?_⟩ (by omega)
        by_cases e : k = j
        · rw [e, x_up_s]
        · rw [x_up_n _ (Or.inr (by omega))]; exact hk k k1 (by omega)
  refine x_aload_n B dX8_sign_0 rfl ?_
  refine x_iconst B dX8_sign_1 ?_
  refine x_putI B (k := 0) 0 rfl rfl rfl ⟨by omega, by omega⟩ xc_7 (by decide) rfl nn_7_0 (fun _ => rfl) h8 (Or.inl q1335) (fun _ h => h) dX8_sign_2 ?_
  refine x_aload_n B dX8_sign_5 rfl ?_
  refine x_getI B (k := 18) 18 rfl rfl xc_7 (by decide) h8 (Or.inl q1353) (fun _ h => h) dX8_sign_6 (fun r_6 => ?_)
  rw [x_up_n _ (Or.inr (by omega))] at r_6 ⊢
  refine x_sipush B dX8_sign_9 (by decide) ?_
  refine x_icmp_le B (tgt := 17) dX8_sign_12 (by decide) ⟨by omega, by omega⟩ ⟨by omega, by omega⟩ (fun h_12 => ?_) (fun h_12 => ?_)
  · refine x_iconst B dX8_sign_17 ?_
    refine x_ist_2 B dX8_sign_18 (by first | rfl | exact x_cr _ _) ?_
    exact lp_19 _ 0 _ ⟨⟨by omega, by omega⟩, by omega, fun a a1 a2 => x_up_o _ a1, fun i i1 => x_up_n _ (Or.inr i1), fun i i1 => by rw [x_up_o _ (by omega)], fun k k1 k2 => by omega⟩ (Nat.lt_succ_self _)
  · refine x_iconst B dX8_sign_15 ?_
    refine x_iret B (fun _ _ h => h) ?_ dX8_sign_16
    rw [if_pos (by omega)]; exact ⟨rfl, rfl⟩
theorem c_X8_end {l : Launch} {E : x_E} {κ : x_Ka} {X : x_X} {z : Int} (hT : x_T κ) (h8 : κ 64 = some (.inl (7, 1))) (h5 : 0 ≤ X 64 18 ∧ X 64 18 ≤ 240) (hz : xR z) : x_Met l yX8_end cX8_end 2 (some .boolean) 1 0 0 E κ X [x_rf E 64, vi z] κ (fun v_ Y_ => if x_in z 0 (X 64 18) = 1 then (v_ = some (vi 1) ∧ Y_ = x_up (x_up X 64 0 0) 64 18 z) else (v_ = some (vi 0) ∧ Y_ = x_up X 64 0 0)) := by
  refine x_Met.of [(false, x_rf E 64), (false, vi z)] [some (x_rf E 64), some (vi z)] 0 (by decide) rfl rfl ⟨x_cr E (64), rfl, trivial⟩ rfl rfl ?_
  intro p e s m args below meth c hargs hin B
  have z1 := x_in_01 z 0 (X 64 18)
  refine x_aload_n B dX8_end_0 rfl ?_
  refine x_iconst B dX8_end_1 ?_
  refine x_putI B (k := 0) 0 rfl rfl rfl ⟨by omega, by omega⟩ xc_7 (by decide) rfl nn_7_0 (fun _ => rfl) h8 (Or.inl q1335) (fun _ h => h) dX8_end_2 ?_
  refine x_iload_n B dX8_end_5 rfl ?_
  refine x_i2l B dX8_end_6 ⟨by omega, by omega⟩ ?_
  refine x_lconst B 0 dX8_end_7 (by decide) ?_
  refine x_aload_n B dX8_end_8 rfl ?_
  refine x_getI B (k := 18) 18 rfl rfl xc_7 (by decide) h8 (Or.inl q1353) (fun _ h => h) dX8_end_9 (fun r_9 => ?_)
  rw [x_up_n _ (Or.inr (by omega))] at r_9 ⊢
  refine x_i2l B dX8_end_12 ⟨by omega, by omega⟩ ?_
  refine x_goP (x_rS B (c_X8_in ⟨by omega, by omega⟩ ⟨by omega, by omega⟩ ⟨by omega, by omega⟩) (lw_S q1468 q1469 q122 q1470) hd_X8_in ⟨by decide, by decide⟩ ⟨by decide, by decide⟩ rfl rfl (by simp [x_cr, x_c1, x_c2]) dX8_end_13) ?_
  refine x_if_ne B (tgt := 21) dX8_end_16 (by decide) ⟨by omega, by omega⟩ (fun h_16 => ?_) (fun h_16 => ?_)
  · refine x_aload_n B dX8_end_21 rfl ?_
    refine x_iload_n B dX8_end_22 rfl ?_
    refine x_putI B (k := 18) 18 rfl rfl rfl ⟨by omega, by omega⟩ xc_7 (by decide) rfl nn_7_18 (fun _ => rfl) h8 (Or.inl q1353) (fun _ h => h) dX8_end_23 ?_
    refine x_iconst B dX8_end_26 ?_
    refine x_zret B (fun _ _ h => h) ⟨by omega, by omega⟩ ?_ dX8_end_27
    rw [if_pos (by omega)]; exact ⟨rfl, rfl⟩
  · refine x_iconst B dX8_end_19 ?_
    refine x_zret B (fun _ _ h => h) ⟨by omega, by omega⟩ ?_ dX8_end_20
    rw [if_neg (by omega)]; exact ⟨rfl, rfl⟩
theorem c_X8_tires {l : Launch} {E : x_E} {κ : x_Ka} {X : x_X} {z : Int} (hT : x_T κ) (h8 : κ 64 = some (.inl (7, 1))) (hz : xR z) : x_Met l yX8_tires cX8_tires 3 (some .int) 1 0 0 E κ X [x_rf E 64, vi z] κ (fun v_ Y_ => if x_in z 0 300 = 1 then (v_ = some (vi (X 64 10)) ∧ Y_ = x_up (x_up X 64 0 0) 64 10 z) else (v_ = some (vi (-1)) ∧ Y_ = x_up X 64 0 0)) := by
  refine x_Met.of [(false, x_rf E 64), (false, vi z)] [some (x_rf E 64), some (vi z), none] 1 (by decide) rfl rfl ⟨x_cr E (64), rfl, trivial⟩ rfl rfl ?_
  intro p e s m args below meth c hargs hin B
  have z1 := x_in_01 z 0 300
  refine x_aload_n B dX8_tires_0 rfl ?_
  refine x_iconst B dX8_tires_1 ?_
  refine x_putI B (k := 0) 0 rfl rfl rfl ⟨by omega, by omega⟩ xc_7 (by decide) rfl nn_7_0 (fun _ => rfl) h8 (Or.inl q1335) (fun _ h => h) dX8_tires_2 ?_
  refine x_iload_n B dX8_tires_5 rfl ?_
  refine x_i2l B dX8_tires_6 ⟨by omega, by omega⟩ ?_
  refine x_lconst B 0 dX8_tires_7 (by decide) ?_
  refine x_ldc2 B (300) q1567 (by decide) dX8_tires_8 ?_
  refine x_goP (x_rS B (c_X8_in ⟨by omega, by omega⟩ ⟨by omega, by omega⟩ ⟨by omega, by omega⟩) (lw_S q1468 q1469 q122 q1470) hd_X8_in ⟨by decide, by decide⟩ ⟨by decide, by decide⟩ rfl rfl (by simp [x_cr, x_c1, x_c2]) dX8_tires_11) ?_
  refine x_if_ne B (tgt := 19) dX8_tires_14 (by decide) ⟨by omega, by omega⟩ (fun h_14 => ?_) (fun h_14 => ?_)
  · refine x_aload_n B dX8_tires_19 rfl ?_
    refine x_getI B (k := 10) 10 rfl rfl xc_7 (by decide) h8 (Or.inl q1345) (fun _ h => h) dX8_tires_20 (fun r_20 => ?_)
    rw [x_up_n _ (Or.inr (by omega))] at r_20 ⊢
    refine x_ist_2 B dX8_tires_23 (by first | rfl | exact x_cr _ _) ?_
    refine x_aload_n B dX8_tires_24 rfl ?_
    refine x_iload_n B dX8_tires_25 rfl ?_
    refine x_putI B (k := 10) 10 rfl rfl rfl ⟨by omega, by omega⟩ xc_7 (by decide) rfl nn_7_10 (fun _ => rfl) h8 (Or.inl q1345) (fun _ h => h) dX8_tires_26 ?_
    refine x_iload_n B dX8_tires_29 rfl ?_
    refine x_iret B (fun _ _ h => h) ?_ dX8_tires_30
    rw [if_pos (by omega)]; exact ⟨rfl, rfl⟩
  · refine x_iconst B dX8_tires_17 ?_
    refine x_iret B (fun _ _ h => h) ?_ dX8_tires_18
    rw [if_neg (by omega)]; exact ⟨rfl, rfl⟩
theorem c_X8_odds {l : Launch} {E : x_E} {κ : x_Ka} {X : x_X} {i t w f : Int} (hC : t_C κ X) (hi0 : xR i) (ht0 : xR t) (hw0 : xR w) (hf0 : xR f) : x_De l yX8_odds cX8_odds 5 (some .int) 3 E κ X [x_rf E 64, vi i, vi t, vi w, vi f] (vi (if x_in i 0 (X 64 3 - 1) = 1 ∧ x_in t 0 2 = 1 ∧ x_in w 1 40 = 1 ∧ x_in f 0 2 = 1 then t_O X i t w f else -1)) ((x_up X 64 0 0)) := by
  refine x_Met.of [(false, x_rf E 64), (false, vi i), (false, vi t), (false, vi w), (false, vi f)] [some (x_rf E 64), some (vi i), some (vi t), some (vi w), some (vi f)] 0 (by decide) rfl rfl ⟨x_cr E (64), rfl, rfl, rfl, rfl, trivial⟩ rfl rfl ?_
  intro p e s m args below meth c hargs hin B
  obtain ⟨hK, hP, hO, hW, hLa⟩ := id hC
  obtain ⟨hT, h8, hn⟩ := id hK
  have z1 := x_in_01 i 0 (X 64 3 - 1)
  have z2 := x_in_01 t 0 2
  have z3 := x_in_01 w 1 40
  have z4 := x_in_01 f 0 2
  refine x_aload_n B dX8_odds_0 rfl ?_
  refine x_iconst B dX8_odds_1 ?_
  refine x_putI B (k := 0) 0 rfl rfl rfl ⟨by omega, by omega⟩ xc_7 (by decide) rfl nn_7_0 (fun _ => rfl) h8 (Or.inl q1335) (fun _ h => h) dX8_odds_2 ?_
  have hn0 := (t_nt.rf X).z (i := 0) (Or.inl rfl) 0
  have C0 := hn0.C hC
  obtain ⟨e3, eM, el, eli, ep, eO, eG⟩ := hn0.v
  have ebo : t_body (x_up X 64 0 0) = t_body X := t_body_e e3 (x_up_o _ (by omega))
  have x0o : ∀ b, b ≠ 64 → x_up X 64 0 0 b = X b := fun b hb => x_up_o _ hb
  have x0i : ∀ i, i ≠ 0 → x_up X 64 0 0 64 i = X 64 i := fun i hi => x_up_n _ (Or.inr hi)
  generalize hX0 : x_up X 64 0 0 = X0 at hn0 C0 e3 eM el eli ep eO eG ebo x0o x0i ⊢
  obtain ⟨hK0, hP0, hO0, hW0, hL0⟩ := id C0
  refine x_aload_n B dX8_odds_5 rfl ?_
  refine x_iload_n B dX8_odds_6 rfl ?_
  refine x_goP (x_rV B h8 (show x_cl[7]? = some _ from rfl) (c_X8_isLifter hK0 hi0) (lw_V q1553 q1555 qs57 q122 q1556) hv_X8_isLifter ⟨by decide, by decide⟩ ⟨by decide, by decide⟩ rfl rfl (by simp [x_cr, x_c1, x_c2]) dX8_odds_7) ?_
  rw [e3]
  refine x_if_eq B (tgt := 57) dX8_odds_10 (by decide) ⟨by omega, by omega⟩ (fun h_10 => ?_) (fun h_10 => ?_)
  · refine x_iconst B dX8_odds_57 ?_
    refine x_iret B (fun _ _ h => h) ?_ dX8_odds_58
    exact ⟨congrArg (fun z => some (vi z)) (by first | (rw [if_neg (by omega)]; done) | (rw [if_pos ⟨by omega, by omega, by omega, by omega⟩, eO]; done)), rfl⟩
  · refine x_iload_n B dX8_odds_13 rfl ?_
    refine x_goP (x_rS B (c_X8_isLift ⟨by omega, by omega⟩) (lw_S q1557 q1558 q122 q1559) hd_X8_isLift ⟨by decide, by decide⟩ ⟨by decide, by decide⟩ rfl rfl (by simp [x_cr, x_c1, x_c2]) dX8_odds_14) ?_
    refine x_if_eq B (tgt := 57) dX8_odds_17 (by decide) ⟨by omega, by omega⟩ (fun h_17 => ?_) (fun h_17 => ?_)
    · refine x_iconst B dX8_odds_57 ?_
      refine x_iret B (fun _ _ h => h) ?_ dX8_odds_58
      exact ⟨congrArg (fun z => some (vi z)) (by first | (rw [if_neg (by omega)]; done) | (rw [if_pos ⟨by omega, by omega, by omega, by omega⟩, eO]; done)), rfl⟩
    · refine x_iload_n B dX8_odds_20 rfl ?_
      refine x_i2l B dX8_odds_21 ⟨by omega, by omega⟩ ?_
      refine x_lconst B 1 dX8_odds_22 (by decide) ?_
      refine x_ldc2 B (40) q1561 (by decide) dX8_odds_23 ?_
      refine x_goP (x_rS B (c_X8_in ⟨by omega, by omega⟩ ⟨by omega, by omega⟩ ⟨by omega, by omega⟩) (lw_S q1468 q1469 q122 q1470) hd_X8_in ⟨by decide, by decide⟩ ⟨by decide, by decide⟩ rfl rfl (by simp [x_cr, x_c1, x_c2]) dX8_odds_26) ?_
      refine x_if_eq B (tgt := 57) dX8_odds_29 (by decide) ⟨by omega, by omega⟩ (fun h_29 => ?_) (fun h_29 => ?_)
      · refine x_iconst B dX8_odds_57 ?_
        refine x_iret B (fun _ _ h => h) ?_ dX8_odds_58
        exact ⟨congrArg (fun z => some (vi z)) (by first | (rw [if_neg (by omega)]; done) | (rw [if_pos ⟨by omega, by omega, by omega, by omega⟩, eO]; done)), rfl⟩
      · refine x_iload B dX8_odds_32 rfl ?_
        refine x_i2l B dX8_odds_34 ⟨by omega, by omega⟩ ?_
        refine x_lconst B 0 dX8_odds_35 (by decide) ?_
        refine x_ldc2 B (2) q1560 (by decide) dX8_odds_36 ?_
        refine x_goP (x_rS B (c_X8_in ⟨by omega, by omega⟩ ⟨by omega, by omega⟩ ⟨by omega, by omega⟩) (lw_S q1468 q1469 q122 q1470) hd_X8_in ⟨by decide, by decide⟩ ⟨by decide, by decide⟩ rfl rfl (by simp [x_cr, x_c1, x_c2]) dX8_odds_39) ?_
        refine x_if_eq B (tgt := 57) dX8_odds_42 (by decide) ⟨by omega, by omega⟩ (fun h_42 => ?_) (fun h_42 => ?_)
        · refine x_iconst B dX8_odds_57 ?_
          refine x_iret B (fun _ _ h => h) ?_ dX8_odds_58
          exact ⟨congrArg (fun z => some (vi z)) (by first | (rw [if_neg (by omega)]; done) | (rw [if_pos ⟨by omega, by omega, by omega, by omega⟩, eO]; done)), rfl⟩
        · have hi : 0 ≤ i ∧ i < X 64 3 := by unfold x_in at h_10; split at h_10 <;> omega
          have ht : 0 ≤ t ∧ t ≤ 2 := by unfold x_in at h_17; split at h_17 <;> omega
          have hf : 0 ≤ f ∧ f ≤ 2 := by unfold x_in at h_42; split at h_42 <;> omega
          refine x_aload_n B dX8_odds_45 rfl ?_
          refine x_iload_n B dX8_odds_46 rfl ?_
          refine x_iload_n B dX8_odds_47 rfl ?_
          refine x_iload_n B dX8_odds_48 rfl ?_
          refine x_iload B dX8_odds_49 rfl ?_
          refine x_goP (x_rV B h8 (show x_cl[7]? = some _ from rfl) (c_X8_oddsOf hK0 hO0 ⟨by omega, by omega⟩ ⟨by omega, by omega⟩ hw0 ⟨by omega, by omega⟩) (lw_V q1576 q1578 qs58 q122 q1579) hv_X8_oddsOf ⟨by decide, by decide⟩ ⟨by decide, by decide⟩ rfl rfl (by simp [x_cr, x_c1, x_c2]) dX8_odds_51) ?_
          refine x_goto B (tgt := 58) dX8_odds_54 (by decide) ?_
          refine x_iret B (fun _ _ h => h) ?_ dX8_odds_58
          exact ⟨congrArg (fun z => some (vi z)) (by first | (rw [if_neg (by omega)]; done) | (rw [if_pos ⟨by omega, by omega, by omega, by omega⟩, eO]; done)), rfl⟩
theorem c_X8_lifter {l : Launch} {E : x_E} {κ : x_Ka} {X : x_X} {i t w : Int} (hC : t_C κ X) (hi0 : xR i) (ht0 : xR t) (hw0 : xR w) : x_De l yX8_lifter cX8_lifter 4 (some .int) 4 E κ X [x_rf E 64, vi i, vi t, vi w] (vi (u_lfr (X 64 3) (t_body X) (t_lot X) (t_p3 X) (t_M X) i t w)) ((x_up X 64 0 0)) := by
  refine x_Met.of [(false, x_rf E 64), (false, vi i), (false, vi t), (false, vi w)] [some (x_rf E 64), some (vi i), some (vi t), some (vi w)] 0 (by decide) rfl rfl ⟨x_cr E (64), rfl, rfl, rfl, trivial⟩ rfl rfl ?_
  intro p e s m args below meth c hargs hin B
  obtain ⟨hK, hP, hO, hW, hLa⟩ := id hC
  obtain ⟨hT, h8, hn⟩ := id hK
  have z1 := x_in_01 i 0 (X 64 3 - 1)
  have z2 := x_in_01 t 0 2
  refine x_aload_n B dX8_lifter_0 rfl ?_
  refine x_iconst B dX8_lifter_1 ?_
  refine x_putI B (k := 0) 0 rfl rfl rfl ⟨by omega, by omega⟩ xc_7 (by decide) rfl nn_7_0 (fun _ => rfl) h8 (Or.inl q1335) (fun _ h => h) dX8_lifter_2 ?_
  have hn0 := (t_nt.rf X).z (i := 0) (Or.inl rfl) 0
  have C0 := hn0.C hC
  obtain ⟨e3, eM, el, eli, ep, eO, eG⟩ := hn0.v
  have ebo : t_body (x_up X 64 0 0) = t_body X := t_body_e e3 (x_up_o _ (by omega))
  have x0o : ∀ b, b ≠ 64 → x_up X 64 0 0 b = X b := fun b hb => x_up_o _ hb
  have x0i : ∀ i, i ≠ 0 → x_up X 64 0 0 64 i = X 64 i := fun i hi => x_up_n _ (Or.inr hi)
  generalize hX0 : x_up X 64 0 0 = X0 at hn0 C0 e3 eM el eli ep eO eG ebo x0o x0i ⊢
  obtain ⟨hK0, hP0, hO0, hW0, hL0⟩ := id C0
  refine x_aload_n B dX8_lifter_5 rfl ?_
  refine x_iload_n B dX8_lifter_6 rfl ?_
  refine x_goP (x_rV B h8 (show x_cl[7]? = some _ from rfl) (c_X8_isLifter hK0 hi0) (lw_V q1553 q1555 qs57 q122 q1556) hv_X8_isLifter ⟨by decide, by decide⟩ ⟨by decide, by decide⟩ rfl rfl (by simp [x_cr, x_c1, x_c2]) dX8_lifter_7) ?_
  rw [e3]
  refine x_if_eq B (tgt := 20) dX8_lifter_10 (by decide) ⟨by omega, by omega⟩ (fun h_10 => ?_) (fun h_10 => ?_)
  · refine x_iconst B dX8_lifter_20 ?_
    refine x_iret B (fun _ _ h => h) ?_ dX8_lifter_21
    exact ⟨congrArg (fun z => some (vi z)) (by unfold u_lfr; rw [if_neg (by omega)]), rfl⟩
  · refine x_iload_n B dX8_lifter_13 rfl ?_
    refine x_goP (x_rS B (c_X8_isLift ⟨by omega, by omega⟩) (lw_S q1557 q1558 q122 q1559) hd_X8_isLift ⟨by decide, by decide⟩ ⟨by decide, by decide⟩ rfl rfl (by simp [x_cr, x_c1, x_c2]) dX8_lifter_14) ?_
    refine x_if_ne B (tgt := 22) dX8_lifter_17 (by decide) ⟨by omega, by omega⟩ (fun h_17 => ?_) (fun h_17 => ?_)
    · have hi : 0 ≤ i ∧ i < X 64 3 := by unfold x_in at h_10; split at h_10 <;> omega
      have ht : 0 ≤ t ∧ t ≤ 2 := by unfold x_in at h_17; split at h_17 <;> omega
      have hi2 : 0 ≤ i ∧ i < X0 64 3 := by rw [e3]; exact hi
      have hti : ti (10 + t) = 7 + t := by rcases (show t = 0 ∨ t = 1 ∨ t = 2 by omega) with e | e | e <;> rw [e] <;> decide
      have wi := hW.2.1 i hi.1 hi.2
      have s3 : t_M X i 3 = X 72 (3 + 10 * i + 0) := t_M_s hi (by decide) (by omega) (by omega)
      have s5 : t_M X i 5 = X 72 (3 + 10 * i + 5) := t_M_s hi (by decide) (by omega) (by omega)
      have s6 : t_M X i 6 = X 72 (3 + 10 * i + 1) := t_M_s hi (by decide) (by omega) (by omega)
      have s7 : t_M X i 7 = X 72 (3 + 10 * i + 6) := t_M_s hi (by decide) (by omega) (by omega)
      refine x_iload_n B dX8_lifter_22 rfl ?_
      by_cases hs_0 : w = 0
      · refine x_tswI B (off := 61) (tgt := 84) ⟨by omega, by omega⟩ hs_0 dX8_lifter_23 ⟨by decide, by decide⟩ (by decide) (by decide) ?_
        refine x_aload_n B dX8_lifter_84 rfl ?_
        refine x_getC0 B (k := 4) hT rfl rfl xc_7 (by decide) h8 (Or.inl q1339) (fun _ h => h) dX8_lifter_85 (fun k_85 => ?_)
        refine x_iload_n B dX8_lifter_88 rfl ?_
        refine x_iald B k_85 ⟨by omega, by omega⟩ dX8_lifter_89 (fun r_89 => ?_)
        refine x_iret B (fun _ _ h => h) ?_ dX8_lifter_90
        exact ⟨congrArg (fun z => some (vi z)) (by unfold u_lfr; rw [if_pos ⟨by omega, by omega⟩, if_pos hs_0]; unfold t_body; rw [if_pos hi, x0o 66 (by omega)]), rfl⟩
      by_cases hs_1 : w = 1
      · refine x_tswI B (off := 68) (tgt := 91) ⟨by omega, by omega⟩ hs_1 dX8_lifter_23 ⟨by decide, by decide⟩ (by decide) (by decide) ?_
        refine x_aload_n B dX8_lifter_91 rfl ?_
        refine x_getC0 B (k := 5) hT rfl rfl xc_7 (by decide) h8 (Or.inl q1340) (fun _ h => h) dX8_lifter_92 (fun k_92 => ?_)
        refine x_iload_n B dX8_lifter_95 rfl ?_
        refine x_iald B k_92 ⟨by omega, by omega⟩ dX8_lifter_96 (fun r_96 => ?_)
        refine x_iret B (fun _ _ h => h) ?_ dX8_lifter_97
        exact ⟨congrArg (fun z => some (vi z)) (by unfold u_lfr; rw [if_pos ⟨by omega, by omega⟩, if_neg (by omega), if_pos hs_1]; unfold t_lot; rw [if_pos hi, x0o 67 (by omega)]), rfl⟩
      by_cases hs_2 : w = 2
      · refine x_tswI B (off := 75) (tgt := 98) ⟨by omega, by omega⟩ hs_2 dX8_lifter_23 ⟨by decide, by decide⟩ (by decide) (by decide) ?_
        refine x_aload_n B dX8_lifter_98 rfl ?_
        refine x_iload_n B dX8_lifter_99 rfl ?_
        refine x_iload_n B dX8_lifter_100 rfl ?_
        refine x_iconst B dX8_lifter_101 ?_
        refine x_goP (x_rV B h8 (show x_cl[7]? = some _ from rfl) (c_X8_planOf hK0 hi2 ⟨by omega, by omega⟩ (by omega)) (lw_V q1529 q1531 qs53 q122 q1532) hv_X8_planOf ⟨by decide, by decide⟩ ⟨by decide, by decide⟩ rfl rfl (by simp [x_cr, x_c1, x_c2]) dX8_lifter_102) ?_
        refine x_iret B (fun _ _ h => h) ?_ dX8_lifter_105
        exact ⟨congrArg (fun z => some (vi z)) (by unfold u_lfr; rw [if_pos ⟨by omega, by omega⟩, if_neg (by omega), if_neg (by omega), if_pos hs_2]; rw [ep]), rfl⟩
      by_cases hs_3 : w = 3
      · refine x_tswI B (off := 83) (tgt := 106) ⟨by omega, by omega⟩ hs_3 dX8_lifter_23 ⟨by decide, by decide⟩ (by decide) (by decide) ?_
        refine x_aload_n B dX8_lifter_106 rfl ?_
        refine x_iload_n B dX8_lifter_107 rfl ?_
        refine x_iload_n B dX8_lifter_108 rfl ?_
        refine x_iconst B dX8_lifter_109 ?_
        refine x_goP (x_rV B h8 (show x_cl[7]? = some _ from rfl) (c_X8_planOf hK0 hi2 ⟨by omega, by omega⟩ (by omega)) (lw_V q1529 q1531 qs53 q122 q1532) hv_X8_planOf ⟨by decide, by decide⟩ ⟨by decide, by decide⟩ rfl rfl (by simp [x_cr, x_c1, x_c2]) dX8_lifter_110) ?_
        refine x_iret B (fun _ _ h => h) ?_ dX8_lifter_113
        exact ⟨congrArg (fun z => some (vi z)) (by unfold u_lfr; rw [if_pos ⟨by omega, by omega⟩, if_neg (by omega), if_neg (by omega), if_neg (by omega), if_pos hs_3]; rw [ep]), rfl⟩
      by_cases hs_4 : w = 4
      · refine x_tswI B (off := 91) (tgt := 114) ⟨by omega, by omega⟩ hs_4 dX8_lifter_23 ⟨by decide, by decide⟩ (by decide) (by decide) ?_
        refine x_aload_n B dX8_lifter_114 rfl ?_
        refine x_iload_n B dX8_lifter_115 rfl ?_
        refine x_iload_n B dX8_lifter_116 rfl ?_
        refine x_iconst B dX8_lifter_117 ?_
        refine x_goP (x_rV B h8 (show x_cl[7]? = some _ from rfl) (c_X8_planOf hK0 hi2 ⟨by omega, by omega⟩ (by omega)) (lw_V q1529 q1531 qs53 q122 q1532) hv_X8_planOf ⟨by decide, by decide⟩ ⟨by decide, by decide⟩ rfl rfl (by simp [x_cr, x_c1, x_c2]) dX8_lifter_118) ?_
        refine x_iret B (fun _ _ h => h) ?_ dX8_lifter_121
        exact ⟨congrArg (fun z => some (vi z)) (by unfold u_lfr; rw [if_pos ⟨by omega, by omega⟩, if_neg (by omega), if_neg (by omega), if_neg (by omega), if_neg (by omega), if_pos hs_4]; rw [ep]), rfl⟩
      by_cases hs_5 : w = 5
      · refine x_tswI B (off := 99) (tgt := 122) ⟨by omega, by omega⟩ hs_5 dX8_lifter_23 ⟨by decide, by decide⟩ (by decide) (by decide) ?_
        refine x_aload_n B dX8_lifter_122 rfl ?_
        refine x_iload_n B dX8_lifter_123 rfl ?_
        refine x_bipush B dX8_lifter_124 (by decide) ?_
        refine x_iload_n B dX8_lifter_126 rfl ?_
        refine x_iadd B dX8_lifter_127 ?_
        refine x_goP (x_rV B h8 (show x_cl[7]? = some _ from rfl) (c_X8_of hT h8 ⟨by omega, by omega⟩) (lw_V q1525 q1527 qs52 q122 q1528) hv_X8_of ⟨by decide, by decide⟩ ⟨by decide, by decide⟩ rfl rfl (by simp [x_cr, x_c1, x_c2]) dX8_lifter_128) ?_
        refine x_iret B (fun _ _ h => h) ?_ dX8_lifter_131
        exact ⟨congrArg (fun z => some (vi z)) (by unfold u_lfr; rw [if_pos ⟨by omega, by omega⟩, if_neg (by omega), if_neg (by omega), if_neg (by omega), if_neg (by omega), if_neg (by omega), if_pos hs_5]; rw [t_M_s hi hti (by omega) (by omega), x0o 72 (by omega)]), rfl⟩
      by_cases hs_6 : w = 6
      · refine x_tswI B (off := 109) (tgt := 132) ⟨by omega, by omega⟩ hs_6 dX8_lifter_23 ⟨by decide, by decide⟩ (by decide) (by decide) ?_
        refine x_aload_n B dX8_lifter_132 rfl ?_
        refine x_iload_n B dX8_lifter_133 rfl ?_
        refine x_iconst B dX8_lifter_134 ?_
        refine x_goP (x_rV B h8 (show x_cl[7]? = some _ from rfl) (c_X8_of hT h8 ⟨by omega, by omega⟩) (lw_V q1525 q1527 qs52 q122 q1528) hv_X8_of ⟨by decide, by decide⟩ ⟨by decide, by decide⟩ rfl rfl (by simp [x_cr, x_c1, x_c2]) dX8_lifter_135) ?_
        refine x_iret B (fun _ _ h => h) ?_ dX8_lifter_138
        exact ⟨congrArg (fun z => some (vi z)) (by unfold u_lfr; rw [if_pos ⟨by omega, by omega⟩, if_neg (by omega), if_neg (by omega), if_neg (by omega), if_neg (by omega), if_neg (by omega), if_neg (by omega), if_pos hs_6]; rw [s3, x0o 72 (by omega)]), rfl⟩
      by_cases hs_7 : w = 7
      · refine x_tswI B (off := 116) (tgt := 139) ⟨by omega, by omega⟩ hs_7 dX8_lifter_23 ⟨by decide, by decide⟩ (by decide) (by decide) ?_
        refine x_aload_n B dX8_lifter_139 rfl ?_
        refine x_iload_n B dX8_lifter_140 rfl ?_
        refine x_goP (x_rV B h8 (show x_cl[7]? = some _ from rfl) (c_X8_leastOf hK0 hW0.V hL0 hi2) (lw_V q1589 q1591 qs60 q122 q1592) hv_X8_leastOf ⟨by decide, by decide⟩ ⟨by decide, by decide⟩ rfl rfl (by simp [x_cr, x_c1, x_c2]) dX8_lifter_141) ?_
        refine x_iret B (fun _ _ h => h) ?_ dX8_lifter_144
        exact ⟨congrArg (fun z => some (vi z)) (by unfold u_lfr; rw [if_pos ⟨by omega, by omega⟩, if_neg (by omega), if_neg (by omega), if_neg (by omega), if_neg (by omega), if_neg (by omega), if_neg (by omega), if_neg (by omega), if_pos hs_7]; rw [eM]), rfl⟩
      by_cases hs_8 : w = 8
      · refine x_tswI B (off := 122) (tgt := 145) ⟨by omega, by omega⟩ hs_8 dX8_lifter_23 ⟨by decide, by decide⟩ (by decide) (by decide) ?_
        refine x_aload_n B dX8_lifter_145 rfl ?_
        refine x_iload_n B dX8_lifter_146 rfl ?_
        refine x_iconst B dX8_lifter_147 ?_
        refine x_goP (x_rV B h8 (show x_cl[7]? = some _ from rfl) (c_X8_of hT h8 ⟨by omega, by omega⟩) (lw_V q1525 q1527 qs52 q122 q1528) hv_X8_of ⟨by decide, by decide⟩ ⟨by decide, by decide⟩ rfl rfl (by simp [x_cr, x_c1, x_c2]) dX8_lifter_148) ?_
        refine x_iret B (fun _ _ h => h) ?_ dX8_lifter_151
        exact ⟨congrArg (fun z => some (vi z)) (by unfold u_lfr; rw [if_pos ⟨by omega, by omega⟩, if_neg (by omega), if_neg (by omega), if_neg (by omega), if_neg (by omega), if_neg (by omega), if_neg (by omega), if_neg (by omega), if_neg (by omega), if_pos hs_8]; rw [s5, x0o 72 (by omega)]), rfl⟩
      by_cases hs_9 : w = 9
      · refine x_tswI B (off := 129) (tgt := 152) ⟨by omega, by omega⟩ hs_9 dX8_lifter_23 ⟨by decide, by decide⟩ (by decide) (by decide) ?_
        refine x_aload_n B dX8_lifter_152 rfl ?_
        refine x_iload_n B dX8_lifter_153 rfl ?_
        refine x_goP (x_rV B h8 (show x_cl[7]? = some _ from rfl) (c_X8_isStill hK0 hW0 hi2) (lw_V q1593 q1595 qs61 q122 q1596) hv_X8_isStill ⟨by decide, by decide⟩ ⟨by decide, by decide⟩ rfl rfl (by simp [x_cr, x_c1, x_c2]) dX8_lifter_154) ?_
        have tr1 : 0 ≤ (if t_M X i 3 > 0 ∧ t_M X i 6 = 0 then (1 : Int) else 0) ∧ (if t_M X i 3 > 0 ∧ t_M X i 6 = 0 then (1 : Int) else 0) ≤ 1 := by split <;> omega
        rw [eM]
        generalize hst : (if t_M X i 3 > 0 ∧ t_M X i 6 = 0 then (1 : Int) else 0) = st9 at tr1 ⊢
        refine x_goP (x_rS B (c_X8_flag tr1) (lw_S q1597 q1598 q122 q1599) hd_X8_flag ⟨by decide, by decide⟩ ⟨by decide, by decide⟩ rfl rfl (by simp [x_cr, x_c1, x_c2]) dX8_lifter_157) ?_
        refine x_iret B (fun _ _ h => h) ?_ dX8_lifter_160
        exact ⟨congrArg (fun z => some (vi z)) (by unfold u_lfr; rw [if_pos ⟨by omega, by omega⟩, if_neg (by omega), if_neg (by omega), if_neg (by omega), if_neg (by omega), if_neg (by omega), if_neg (by omega), if_neg (by omega), if_neg (by omega), if_neg (by omega), if_pos hs_9]; exact hst.symm), rfl⟩
      by_cases hs_10 : w = 10
      · refine x_tswI B (off := 138) (tgt := 161) ⟨by omega, by omega⟩ hs_10 dX8_lifter_23 ⟨by decide, by decide⟩ (by decide) (by decide) ?_
        refine x_aload_n B dX8_lifter_161 rfl ?_
        refine x_iload_n B dX8_lifter_162 rfl ?_
        refine x_bipush B dX8_lifter_163 (by decide) ?_
        refine x_goP (x_rV B h8 (show x_cl[7]? = some _ from rfl) (c_X8_of hT h8 ⟨by omega, by omega⟩) (lw_V q1525 q1527 qs52 q122 q1528) hv_X8_of ⟨by decide, by decide⟩ ⟨by decide, by decide⟩ rfl rfl (by simp [x_cr, x_c1, x_c2]) dX8_lifter_165) ?_
        refine x_iret B (fun _ _ h => h) ?_ dX8_lifter_168
        exact ⟨congrArg (fun z => some (vi z)) (by unfold u_lfr; rw [if_pos ⟨by omega, by omega⟩, if_neg (by omega), if_neg (by omega), if_neg (by omega), if_neg (by omega), if_neg (by omega), if_neg (by omega), if_neg (by omega), if_neg (by omega), if_neg (by omega), if_neg (by omega), if_pos hs_10]; rw [s7, x0o 72 (by omega)]), rfl⟩
      by_cases hs_11 : w = 11
      · refine x_tswI B (off := 146) (tgt := 169) ⟨by omega, by omega⟩ hs_11 dX8_lifter_23 ⟨by decide, by decide⟩ (by decide) (by decide) ?_
        refine x_aload_n B dX8_lifter_169 rfl ?_
        refine x_iload_n B dX8_lifter_170 rfl ?_
        refine x_goP (x_rV B h8 (show x_cl[7]? = some _ from rfl) (c_X8_sumOf hK0 hW0.V hi2) (lw_V q1600 q1602 qs62 q122 q1603) hv_X8_sumOf ⟨by decide, by decide⟩ ⟨by decide, by decide⟩ rfl rfl (by simp [x_cr, x_c1, x_c2]) dX8_lifter_171) ?_
        refine x_iret B (fun _ _ h => h) ?_ dX8_lifter_174
        exact ⟨congrArg (fun z => some (vi z)) (by unfold u_lfr; rw [if_pos ⟨by omega, by omega⟩, if_neg (by omega), if_neg (by omega), if_neg (by omega), if_neg (by omega), if_neg (by omega), if_neg (by omega), if_neg (by omega), if_neg (by omega), if_neg (by omega), if_neg (by omega), if_neg (by omega), if_pos hs_11]; rw [eM]), rfl⟩
      refine x_tswO B (tgt := 175) ⟨by omega, by omega⟩ dX8_lifter_23 (by omega) (by decide) ?_
      refine x_iconst B dX8_lifter_175 ?_
      refine x_iret B (fun _ _ h => h) ?_ dX8_lifter_176
      exact ⟨congrArg (fun z => some (vi z)) (by unfold u_lfr; rw [if_pos ⟨by omega, by omega⟩, if_neg (by omega), if_neg (by omega), if_neg (by omega), if_neg (by omega), if_neg (by omega), if_neg (by omega), if_neg (by omega), if_neg (by omega), if_neg (by omega), if_neg (by omega), if_neg (by omega), if_neg (by omega)]), rfl⟩
    · refine x_iconst B dX8_lifter_20 ?_
      refine x_iret B (fun _ _ h => h) ?_ dX8_lifter_21
      exact ⟨congrArg (fun z => some (vi z)) (by unfold u_lfr; rw [if_neg (by omega)]), rfl⟩
theorem c_X8_called {l : Launch} {E : x_E} {κ : x_Ka} {X : x_X}  (hC : t_C κ X) : x_Met l yX8_called cX8_called 2 (some .int) 4 0 0 E κ X [x_rf E 64] κ (fun v_ Y_ => if (m_cal (X 64 3) (t_lot X) (t_M X)) = -1 then (v_ = some (vi (-2)) ∧ Y_ = (x_up X 64 0 0)) else (v_ = some (vi (m_cal (X 64 3) (t_lot X) (t_M X))) ∧ t_nt X Y_ ∧ Y_ 64 1 = 2 ∧ Y_ 65 0 = t_M X (m_cal (X 64 3) (t_lot X) (t_M X)) 3 ∧ Y_ 65 1 = t_O X (m_cal (X 64 3) (t_lot X) (t_M X)) (t_M X (-1) 1) (t_M X (m_cal (X 64 3) (t_lot X) (t_M X)) 3) (t_M X (m_cal (X 64 3) (t_lot X) (t_M X)) 2))) := by
  refine x_Met.of [(false, x_rf E 64)] [some (x_rf E 64), none] 1 (by decide) rfl rfl ⟨x_cr E (64), trivial⟩ rfl rfl ?_
  intro p e s m args below meth c hargs hin B
  obtain ⟨hK, hP, hO, hW, hLa⟩ := id hC
  obtain ⟨hT, h8, hn⟩ := id hK
  have hcr := m_cb_r (t_lot X) (t_M X) (X 64 3).toNat
  have hcr2 : -1 ≤ (m_cal (X 64 3) (t_lot X) (t_M X)) ∧ (m_cal (X 64 3) (t_lot X) (t_M X)) < X 64 3 := by unfold m_cal; omega
  generalize hle : (m_cal (X 64 3) (t_lot X) (t_M X)) = l0 at hcr2 ⊢
  refine x_aload_n B dX8_called_0 rfl ?_
  refine x_iconst B dX8_called_1 ?_
  refine x_putI B (k := 0) 0 rfl rfl rfl ⟨by omega, by omega⟩ xc_7 (by decide) rfl nn_7_0 (fun _ => rfl) h8 (Or.inl q1335) (fun _ h => h) dX8_called_2 ?_
  have hn0 := (t_nt.rf X).z (i := 0) (Or.inl rfl) 0
  have C0 := hn0.C hC
  obtain ⟨e3, eM, el, eli, ep, eO, eG⟩ := hn0.v
  have ebo : t_body (x_up X 64 0 0) = t_body X := t_body_e e3 (x_up_o _ (by omega))
  have x0o : ∀ b, b ≠ 64 → x_up X 64 0 0 b = X b := fun b hb => x_up_o _ hb
  have x0i : ∀ i, i ≠ 0 → x_up X 64 0 0 64 i = X 64 i := fun i hi => x_up_n _ (Or.inr hi)
  generalize hX0 : x_up X 64 0 0 = X0 at hn0 C0 e3 eM el eli ep eO eG ebo x0o x0i ⊢
  obtain ⟨hK0, hP0, hO0, hW0, hL0⟩ := id C0
  refine x_aload_n B dX8_called_5 rfl ?_
  refine x_goP (x_rV B h8 (show x_cl[7]? = some _ from rfl) (c_X8_calledNow hK0 hW0) (lw_V q1608 q1610 qs63 q122 q1611) hv_X8_calledNow ⟨by decide, by decide⟩ ⟨by decide, by decide⟩ rfl rfl (by simp [x_cr, x_c1, x_c2]) dX8_called_6) ?_
  rw [e3, el, eM, hle]
  refine x_ist_1 B dX8_called_9 (by first | rfl | exact x_cr _ _) ?_
  refine x_iload_n B dX8_called_10 rfl ?_
  refine x_iconst B dX8_called_11 ?_
  refine x_icmp_ne B (tgt := 18) dX8_called_12 (by decide) ⟨by omega, by omega⟩ ⟨by omega, by omega⟩ (fun h_12 => ?_) (fun h_12 => ?_)
  · have hco := m_cb_ok (t_lot X) (t_M X) (X 64 3).toNat (by intro q; have q2 : m_cal (X 64 3) (t_lot X) (t_M X) = -1 := q; omega)
    have hcb : m_cb (t_lot X) (t_M X) (X 64 3).toNat = l0 := hle
    rw [hcb] at hco
    have hl0 : 0 ≤ l0 ∧ l0 < X 64 3 := by omega
    have hl02 : 0 ≤ l0 ∧ l0 < X0 64 3 := by rw [e3]; exact hl0
    have w1 := hW.1
    have w2 := hW.2.1 l0 hl0.1 hl0.2
    have w3 := hW.2.2 l0 hl0.1 hl0.2
    have g1 : t_M X (-1) 1 = X 72 0 := t_M_g (by omega)
    have s3 : t_M X l0 3 = X 72 (3 + 10 * l0 + 0) := t_M_s hl0 (by decide) (by omega) (by omega)
    have s2 : t_M X l0 2 = X 72 (3 + 10 * l0 + 4) := t_M_s hl0 (by decide) (by omega) (by omega)
    have hlt : X 72 0 < 3 := by rcases Int.lt_or_le (X 72 0) 3 with q | q; exact q; exfalso; have := w3.2.1 (by omega); omega
    refine x_aload_n B dX8_called_18 rfl ?_
    refine x_iconst B dX8_called_19 ?_
    refine x_putI B (k := 1) 1 rfl rfl rfl ⟨by omega, by omega⟩ xc_7 (by decide) rfl nn_7_1 (fun _ => rfl) h8 (Or.inl q1336) (fun _ h => h) dX8_called_20 ?_
    have hz : t_nt X (x_up X0 64 1 0) := hn0.z (Or.inr rfl) 0
    have z1 : x_up X0 64 1 0 64 1 = 0 := x_up_s _ _ _ _
    generalize x_up X0 64 1 0 = Z at hz z1 ⊢
    have CZ := hz.C hC
    obtain ⟨zz3, zM, zl, -, -, zO, -⟩ := hz.v
    refine x_aload_n B dX8_called_23 rfl ?_
    refine x_aload_n B dX8_called_24 rfl ?_
    refine x_iload_n B dX8_called_25 rfl ?_
    refine x_iconst B dX8_called_26 ?_
    refine x_goP (x_rV B h8 (show x_cl[7]? = some _ from rfl) (c_X8_of hT h8 ⟨by omega, by omega⟩) (lw_V q1525 q1527 qs52 q122 q1528) hv_X8_of ⟨by decide, by decide⟩ ⟨by decide, by decide⟩ rfl rfl (by simp [x_cr, x_c1, x_c2]) dX8_called_27) ?_
    rw [hz.1 72 (by omega) (by omega)]
    refine x_i2l B dX8_called_30 ⟨by omega, by omega⟩ ?_
    refine x_goV (x_rV B h8 (show x_cl[7]? = some _ from rfl) (c_X8_notes hT h8 ⟨by omega, by omega⟩ ⟨by omega, by omega⟩) (lw_V q1616 q1618 qs65 q122 q1619) hv_X8_notes ⟨by decide, by decide⟩ ⟨by decide, by decide⟩ rfl rfl (by simp [x_cr, x_c1, x_c2]) dX8_called_31) ?_
    change x_G _ _ _ _ _ _ _ _ _ _ _ _ _ _ _ _ _ _ _ (t_tl Z (X 72 (3 + 10 * l0 + 0)))
    have t1 := t_tl1 Z (X 72 (3 + 10 * l0 + 0)) z1
    have hv := hz.tl (X 72 (3 + 10 * l0 + 0))
    generalize t_tl Z (X 72 (3 + 10 * l0 + 0)) = V at t1 hv ⊢
    have CV := hv.C hC
    obtain ⟨v3, vM, vl, -, -, vO, -⟩ := hv.v
    refine x_aload_n B dX8_called_34 rfl ?_
    refine x_aload_n B dX8_called_35 rfl ?_
    refine x_iload_n B dX8_called_36 rfl ?_
    refine x_aload_n B dX8_called_37 rfl ?_
    refine x_getC0 B (k := 11) hT rfl rfl xc_7 (by decide) h8 (Or.inl q1346) (fun _ h => h) dX8_called_38 (fun k_38 => ?_)
    refine x_iconst B dX8_called_41 ?_
    refine x_iald B k_38 ⟨by omega, by omega⟩ dX8_called_42 (fun r_42 => ?_)
    rw [hv.1 72 (by omega) (by omega)] at r_42 ⊢
    refine x_aload_n B dX8_called_43 rfl ?_
    refine x_iload_n B dX8_called_44 rfl ?_
    refine x_iconst B dX8_called_45 ?_
    refine x_goP (x_rV B h8 (show x_cl[7]? = some _ from rfl) (c_X8_of hT h8 ⟨by omega, by omega⟩) (lw_V q1525 q1527 qs52 q122 q1528) hv_X8_of ⟨by decide, by decide⟩ ⟨by decide, by decide⟩ rfl rfl (by simp [x_cr, x_c1, x_c2]) dX8_called_46) ?_
    rw [hv.1 72 (by omega) (by omega)]
    refine x_aload_n B dX8_called_49 rfl ?_
    refine x_iload_n B dX8_called_50 rfl ?_
    refine x_iconst B dX8_called_51 ?_
    refine x_goP (x_rV B h8 (show x_cl[7]? = some _ from rfl) (c_X8_of hT h8 ⟨by omega, by omega⟩) (lw_V q1525 q1527 qs52 q122 q1528) hv_X8_of ⟨by decide, by decide⟩ ⟨by decide, by decide⟩ rfl rfl (by simp [x_cr, x_c1, x_c2]) dX8_called_52) ?_
    rw [hv.1 72 (by omega) (by omega)]
    refine x_goP (x_rV B h8 (show x_cl[7]? = some _ from rfl) (c_X8_oddsOf CV.1 CV.2.2.1 (by rw [v3]; exact hl0) ⟨by omega, hlt⟩ ⟨by omega, by omega⟩ ⟨by omega, by omega⟩) (lw_V q1576 q1578 qs58 q122 q1579) hv_X8_oddsOf ⟨by decide, by decide⟩ ⟨by decide, by decide⟩ rfl rfl (by simp [x_cr, x_c1, x_c2]) dX8_called_55) ?_
    rw [vO]
    have hOr := t_O_r (κ := κ) (x := X 72 (3 + 10 * l0 + 0)) (f := X 72 (3 + 10 * l0 + 4)) (t := X 72 0) hO hl0 ⟨by omega, hlt⟩ (by omega)
    refine x_i2l B dX8_called_58 ⟨by omega, by omega⟩ ?_
    refine x_goV (x_rV B h8 (show x_cl[7]? = some _ from rfl) (c_X8_notes hT h8 ⟨by omega, by omega⟩ ⟨by omega, by omega⟩) (lw_V q1616 q1618 qs65 q122 q1619) hv_X8_notes ⟨by decide, by decide⟩ ⟨by decide, by decide⟩ rfl rfl (by simp [x_cr, x_c1, x_c2]) dX8_called_59) ?_
    refine x_iload_n B dX8_called_62 rfl ?_
    refine x_iret B (fun _ _ h => h) ?_ dX8_called_63
    rw [if_neg (by omega)]
    have t2 := t_tl1 V (t_O X l0 (X 72 0) (X 72 (3 + 10 * l0 + 0)) (X 72 (3 + 10 * l0 + 4))) t1.1
    exact ⟨rfl, hv.tl _, t2.1, by rw [s3]; exact (t2.2.2 0 (by omega)).trans t1.2.1, by rw [g1, s3, s2]; exact t2.2.1⟩
  · refine x_bipush B dX8_called_15 (by decide) ?_
    refine x_iret B (fun _ _ h => h) ?_ dX8_called_17
    rw [if_pos (by omega)]; exact ⟨rfl, rfl⟩
theorem c_X8_asks {l : Launch} {E : x_E} {κ : x_Ka} {X : x_X} {i w : Int} (hC : t_C κ X) (hi0 : xR i) (hw0 : xR w) : x_Met l yX8_asks cX8_asks 3 (some .int) 4 0 0 E κ X [x_rf E 64, vi i, vi w] κ (fun v_ Y_ => v_ = some (vi (u_asks (X 64 3) (t_M X) i w)) ∧ Y_ = (if 0 ≤ u_asks (X 64 3) (t_M X) i w then x_up (x_up (x_up X 64 0 0) 72 (3 + 10 * i + 0) w) 72 (3 + 10 * i + 5) (u_asks (X 64 3) (t_M X) i w) else (x_up X 64 0 0))) := by
  refine x_Met.of [(false, x_rf E 64), (false, vi i), (false, vi w)] [some (x_rf E 64), some (vi i), some (vi w)] 0 (by decide) rfl rfl ⟨x_cr E (64), rfl, rfl, trivial⟩ rfl rfl ?_
  intro p e s m args below meth c hargs hin B
  obtain ⟨hK, hP, hO, hW, hLa⟩ := id hC
  obtain ⟨hT, h8, hn⟩ := id hK
  have z1 := x_in_01 i 0 (X 64 3 - 1)
  have z2 := x_in_01 w 1 40
  refine x_aload_n B dX8_asks_0 rfl ?_
  refine x_iconst B dX8_asks_1 ?_
  refine x_putI B (k := 0) 0 rfl rfl rfl ⟨by omega, by omega⟩ xc_7 (by decide) rfl nn_7_0 (fun _ => rfl) h8 (Or.inl q1335) (fun _ h => h) dX8_asks_2 ?_
  have hn0 := (t_nt.rf X).z (i := 0) (Or.inl rfl) 0
  have C0 := hn0.C hC
  obtain ⟨e3, eM, el, eli, ep, eO, eG⟩ := hn0.v
  have ebo : t_body (x_up X 64 0 0) = t_body X := t_body_e e3 (x_up_o _ (by omega))
  have x0o : ∀ b, b ≠ 64 → x_up X 64 0 0 b = X b := fun b hb => x_up_o _ hb
  have x0i : ∀ i, i ≠ 0 → x_up X 64 0 0 64 i = X 64 i := fun i hi => x_up_n _ (Or.inr hi)
  generalize hX0 : x_up X 64 0 0 = X0 at hn0 C0 e3 eM el eli ep eO eG ebo x0o x0i ⊢
  obtain ⟨hK0, hP0, hO0, hW0, hL0⟩ := id C0
  refine x_aload_n B dX8_asks_5 rfl ?_
  refine x_iload_n B dX8_asks_6 rfl ?_
  refine x_goP (x_rV B h8 (show x_cl[7]? = some _ from rfl) (c_X8_isLifter hK0 hi0) (lw_V q1553 q1555 qs57 q122 q1556) hv_X8_isLifter ⟨by decide, by decide⟩ ⟨by decide, by decide⟩ rfl rfl (by simp [x_cr, x_c1, x_c2]) dX8_asks_7) ?_
  rw [e3]
  refine x_if_eq B (tgt := 25) dX8_asks_10 (by decide) ⟨by omega, by omega⟩ (fun h_10 => ?_) (fun h_10 => ?_)
  · refine x_iconst B dX8_asks_25 ?_
    refine x_iret B (fun _ _ h => h) ?_ dX8_asks_26
    have eu : u_asks (X 64 3) (t_M X) i w = -1 := by unfold u_asks; rw [if_neg (by omega)]
    rw [eu]; exact ⟨rfl, rfl⟩
  · refine x_iload_n B dX8_asks_13 rfl ?_
    refine x_i2l B dX8_asks_14 ⟨by omega, by omega⟩ ?_
    refine x_lconst B 1 dX8_asks_15 (by decide) ?_
    refine x_ldc2 B (40) q1561 (by decide) dX8_asks_16 ?_
    refine x_goP (x_rS B (c_X8_in ⟨by omega, by omega⟩ ⟨by omega, by omega⟩ ⟨by omega, by omega⟩) (lw_S q1468 q1469 q122 q1470) hd_X8_in ⟨by decide, by decide⟩ ⟨by decide, by decide⟩ rfl rfl (by simp [x_cr, x_c1, x_c2]) dX8_asks_19) ?_
    refine x_if_ne B (tgt := 27) dX8_asks_22 (by decide) ⟨by omega, by omega⟩ (fun h_22 => ?_) (fun h_22 => ?_)
    · have hi : 0 ≤ i ∧ i < X 64 3 := by unfold x_in at h_10; split at h_10 <;> omega
      have hw : 1 ≤ w ∧ w ≤ 40 := by unfold x_in at h_22; split at h_22 <;> omega
      have hi2 : 0 ≤ i ∧ i < X0 64 3 := by rw [e3]; exact hi
      have wi := hW.2.1 i hi.1 hi.2
      have s3 : t_M X i 3 = X 72 (3 + 10 * i + 0) := t_M_s hi (by decide) (by omega) (by omega)
      have s5 : t_M X i 5 = X 72 (3 + 10 * i + 5) := t_M_s hi (by decide) (by omega) (by omega)
      have s6 : t_M X i 6 = X 72 (3 + 10 * i + 1) := t_M_s hi (by decide) (by omega) (by omega)
      have s7 : t_M X i 7 = X 72 (3 + 10 * i + 6) := t_M_s hi (by decide) (by omega) (by omega)
      have mlr := m_least_r hW hi.1 hi.2
      refine x_aload_n B dX8_asks_27 rfl ?_
      refine x_iload_n B dX8_asks_28 rfl ?_
      refine x_goP (x_rV B h8 (show x_cl[7]? = some _ from rfl) (c_X8_isStill hK0 hW0 hi2) (lw_V q1593 q1595 qs61 q122 q1596) hv_X8_isStill ⟨by decide, by decide⟩ ⟨by decide, by decide⟩ rfl rfl (by simp [x_cr, x_c1, x_c2]) dX8_asks_29) ?_
      rw [eM]
      refine x_if_ne B (tgt := 38) dX8_asks_32 (by decide) ⟨by split <;> omega, by split <;> omega⟩ (fun h_32 => ?_) (fun h_32 => ?_)
      · have hst : t_M X i 3 > 0 ∧ t_M X i 6 = 0 := by by_cases q : t_M X i 3 > 0 ∧ t_M X i 6 = 0; exact q; rw [if_neg q] at h_32; omega
        refine x_aload_n B dX8_asks_38 rfl ?_
        refine x_iload_n B dX8_asks_39 rfl ?_
        refine x_iconst B dX8_asks_40 ?_
        refine x_goP (x_rV B h8 (show x_cl[7]? = some _ from rfl) (c_X8_of hT h8 ⟨by omega, by omega⟩) (lw_V q1525 q1527 qs52 q122 q1528) hv_X8_of ⟨by decide, by decide⟩ ⟨by decide, by decide⟩ rfl rfl (by simp [x_cr, x_c1, x_c2]) dX8_asks_41) ?_
        rw [x0o 72 (by omega)]
        refine x_if_ne B (tgt := 50) dX8_asks_44 (by decide) ⟨by omega, by omega⟩ (fun h_44 => ?_) (fun h_44 => ?_)
        · refine x_iload_n B dX8_asks_50 rfl ?_
          refine x_aload_n B dX8_asks_51 rfl ?_
          refine x_iload_n B dX8_asks_52 rfl ?_
          refine x_goP (x_rV B h8 (show x_cl[7]? = some _ from rfl) (c_X8_leastOf hK0 hW0.V hL0 hi2) (lw_V q1589 q1591 qs60 q122 q1592) hv_X8_leastOf ⟨by decide, by decide⟩ ⟨by decide, by decide⟩ rfl rfl (by simp [x_cr, x_c1, x_c2]) dX8_asks_53) ?_
          rw [eM]
          refine x_icmp_lt B (tgt := 69) dX8_asks_56 (by decide) ⟨by omega, by omega⟩ ⟨by omega, by omega⟩ (fun h_56 => ?_) (fun h_56 => ?_)
          · refine x_bipush B dX8_asks_69 (by decide) ?_
            refine x_iret B (fun _ _ h => h) ?_ dX8_asks_71
            have eu : u_asks (X 64 3) (t_M X) i w = -4 := by unfold u_asks; rw [if_pos ⟨by omega, by omega⟩, if_pos hst, if_neg (by omega), if_pos (by omega)]
            rw [eu]; exact ⟨rfl, rfl⟩
          · refine x_iload_n B dX8_asks_59 rfl ?_
            refine x_aload_n B dX8_asks_60 rfl ?_
            refine x_iload_n B dX8_asks_61 rfl ?_
            refine x_iconst B dX8_asks_62 ?_
            refine x_goP (x_rV B h8 (show x_cl[7]? = some _ from rfl) (c_X8_of hT h8 ⟨by omega, by omega⟩) (lw_V q1525 q1527 qs52 q122 q1528) hv_X8_of ⟨by decide, by decide⟩ ⟨by decide, by decide⟩ rfl rfl (by simp [x_cr, x_c1, x_c2]) dX8_asks_63) ?_
            rw [x0o 72 (by omega)]
            refine x_icmp_ne B (tgt := 72) dX8_asks_66 (by decide) ⟨by omega, by omega⟩ ⟨by omega, by omega⟩ (fun h_66 => ?_) (fun h_66 => ?_)
            · refine x_aload_n B dX8_asks_72 rfl ?_
              refine x_iload_n B dX8_asks_73 rfl ?_
              refine x_iconst B dX8_asks_74 ?_
              refine x_iload_n B dX8_asks_75 rfl ?_
              refine x_goV (x_rV B h8 (show x_cl[7]? = some _ from rfl) (c_X8_sets hT h8 ⟨by omega, by omega⟩ ⟨by omega, by omega⟩) (lw_V q1533 q1535 qs54 q122 q1536) hv_X8_sets ⟨by decide, by decide⟩ ⟨by decide, by decide⟩ rfl rfl (by simp [x_cr, x_c1, x_c2]) dX8_asks_76) ?_
              refine x_aload_n B dX8_asks_79 rfl ?_
              refine x_iload_n B dX8_asks_80 rfl ?_
              refine x_iconst B dX8_asks_81 ?_
              refine x_aload_n B dX8_asks_82 rfl ?_
              refine x_iload_n B dX8_asks_83 rfl ?_
              refine x_iconst B dX8_asks_84 ?_
              refine x_goP (x_rV B h8 (show x_cl[7]? = some _ from rfl) (c_X8_of hT h8 ⟨by omega, by omega⟩) (lw_V q1525 q1527 qs52 q122 q1528) hv_X8_of ⟨by decide, by decide⟩ ⟨by decide, by decide⟩ rfl rfl (by simp [x_cr, x_c1, x_c2]) dX8_asks_85) ?_
              rw [x_up_n _ (Or.inr (by omega)), x0o 72 (by omega)]
              refine x_iconst B dX8_asks_88 ?_
              refine x_isub B dX8_asks_89 ?_
              refine x_goV (x_rV B h8 (show x_cl[7]? = some _ from rfl) (c_X8_sets hT h8 ⟨by omega, by omega⟩ ⟨by omega, by omega⟩) (lw_V q1533 q1535 qs54 q122 q1536) hv_X8_sets ⟨by decide, by decide⟩ ⟨by decide, by decide⟩ rfl rfl (by simp [x_cr, x_c1, x_c2]) dX8_asks_90) ?_
              refine x_aload_n B dX8_asks_93 rfl ?_
              refine x_iload_n B dX8_asks_94 rfl ?_
              refine x_iconst B dX8_asks_95 ?_
              refine x_goP (x_rV B h8 (show x_cl[7]? = some _ from rfl) (c_X8_of hT h8 ⟨by omega, by omega⟩) (lw_V q1525 q1527 qs52 q122 q1528) hv_X8_of ⟨by decide, by decide⟩ ⟨by decide, by decide⟩ rfl rfl (by simp [x_cr, x_c1, x_c2]) dX8_asks_96) ?_
              rw [x_up_s]
              refine x_iret B (fun _ _ h => h) ?_ dX8_asks_99
              have eu : u_asks (X 64 3) (t_M X) i w = X 72 (3 + 10 * i + 5) - 1 := by unfold u_asks; rw [if_pos ⟨by omega, by omega⟩, if_pos hst, if_neg (by omega), if_neg (by omega), s5]
              rw [eu, if_pos (by omega)]; exact ⟨rfl, rfl⟩
            · refine x_bipush B dX8_asks_69 (by decide) ?_
              refine x_iret B (fun _ _ h => h) ?_ dX8_asks_71
              have eu : u_asks (X 64 3) (t_M X) i w = -4 := by unfold u_asks; rw [if_pos ⟨by omega, by omega⟩, if_pos hst, if_neg (by omega), if_pos (by omega)]
              rw [eu]; exact ⟨rfl, rfl⟩
        · refine x_bipush B dX8_asks_47 (by decide) ?_
          refine x_iret B (fun _ _ h => h) ?_ dX8_asks_49
          have eu : u_asks (X 64 3) (t_M X) i w = -3 := by unfold u_asks; rw [if_pos ⟨by omega, by omega⟩, if_pos hst, if_pos (by omega)]
          rw [eu]; exact ⟨rfl, rfl⟩
      · refine x_bipush B dX8_asks_35 (by decide) ?_
        refine x_iret B (fun _ _ h => h) ?_ dX8_asks_37
        have eu : u_asks (X 64 3) (t_M X) i w = -2 := by unfold u_asks; rw [if_pos ⟨by omega, by omega⟩, if_neg (fun q => by rw [if_pos q] at h_32; omega)]
        rw [eu]; exact ⟨rfl, rfl⟩
    · refine x_iconst B dX8_asks_25 ?_
      refine x_iret B (fun _ _ h => h) ?_ dX8_asks_26
      have eu : u_asks (X 64 3) (t_M X) i w = -1 := by unfold u_asks; rw [if_neg (by omega)]
      rw [eu]; exact ⟨rfl, rfl⟩
theorem c_X8_tries {l : Launch} {E : x_E} {κ : x_Ka} {X : x_X} {g : Int} (hC : t_C κ X) (hg : 0 ≤ g ∧ g ≤ 1) (h13 : m_cal (X 64 3) (t_lot X) (t_M X) ≠ -1 → 0 ≤ X 64 13 ∧ X 64 13 < 60) (h14 : 0 ≤ X 64 14 ∧ X 64 14 ≤ 60) : x_Met l yX8_tries cX8_tries 4 (some .int) 6 0 0 E κ X [x_rf E 64, vi g] κ (fun v_ Y_ => if (m_cal (X 64 3) (t_lot X) (t_M X)) = -1 then (v_ = some (vi (-2)) ∧ Y_ = (x_up X 64 0 0)) else (v_ = some (vi (m_cal (X 64 3) (t_lot X) (t_M X))) ∧ ∃ Y1, (∀ b, b ≠ 72 → b ≠ 74 → b ≠ 64 → Y1 b = X b) ∧ (∀ i, i ≠ 0 → i ≠ 13 → i ≠ 14 → i ≠ 16 → Y1 64 i = X 64 i) ∧ (Y1 64 13 = X 64 13 + 1 ∧ Y1 64 14 = X 64 14 + g) ∧ t_G Y1 = y_G (X 64 3) (t_lot X) (t_M X) (X 64 13) (t_G X) g ∧ t_M Y1 = y_M (X 64 3) (t_lot X) (t_p3 X) (t_M X) g ∧ t_La Y1 ∧ Y_ = t_tl (t_tl (x_up Y1 64 1 0) (t_M X (m_cal (X 64 3) (t_lot X) (t_M X)) 3)) (y_v (X 64 3) (t_lot X) (t_p3 X) (t_M X) g))) := by
  refine x_Met.of [(false, x_rf E 64), (false, vi g)] [some (x_rf E 64), some (vi g), none, none] 2 (by decide) rfl rfl ⟨x_cr E (64), rfl, trivial⟩ rfl rfl ?_
  intro p e s m args below meth c hargs hin B
  obtain ⟨hK, hP, hO, hW, hLa⟩ := id hC
  obtain ⟨hT, h8, hn⟩ := id hK
  have hcr := m_cb_r (t_lot X) (t_M X) (X 64 3).toNat
  have hcr2 : -1 ≤ (m_cal (X 64 3) (t_lot X) (t_M X)) ∧ (m_cal (X 64 3) (t_lot X) (t_M X)) < X 64 3 := by unfold m_cal; omega
  refine x_aload_n B dX8_tries_0 rfl ?_
  refine x_iconst B dX8_tries_1 ?_
  refine x_putI B (k := 0) 0 rfl rfl rfl ⟨by omega, by omega⟩ xc_7 (by decide) rfl nn_7_0 (fun _ => rfl) h8 (Or.inl q1335) (fun _ h => h) dX8_tries_2 ?_
  have hn0 := (t_nt.rf X).z (i := 0) (Or.inl rfl) 0
  have C0 := hn0.C hC
  obtain ⟨e3, eM, el, eli, ep, eO, eG⟩ := hn0.v
  have ebo : t_body (x_up X 64 0 0) = t_body X := t_body_e e3 (x_up_o _ (by omega))
  have x0o : ∀ b, b ≠ 64 → x_up X 64 0 0 b = X b := fun b hb => x_up_o _ hb
  have x0i : ∀ i, i ≠ 0 → x_up X 64 0 0 64 i = X 64 i := fun i hi => x_up_n _ (Or.inr hi)
  generalize hX0 : x_up X 64 0 0 = X0 at hn0 C0 e3 eM el eli ep eO eG ebo x0o x0i ⊢
  obtain ⟨hK0, hP0, hO0, hW0, hL0⟩ := id C0
  refine x_aload_n B dX8_tries_5 rfl ?_
  refine x_goP (x_rV B h8 (show x_cl[7]? = some _ from rfl) (c_X8_calledNow hK0 hW0) (lw_V q1608 q1610 qs63 q122 q1611) hv_X8_calledNow ⟨by decide, by decide⟩ ⟨by decide, by decide⟩ rfl rfl (by simp [x_cr, x_c1, x_c2]) dX8_tries_6) ?_
  rw [e3, el, eM]
  refine x_ist_2 B dX8_tries_9 (by first | rfl | exact x_cr _ _) ?_
  refine x_iload_n B dX8_tries_10 rfl ?_
  refine x_iconst B dX8_tries_11 ?_
  refine x_icmp_ne B (tgt := 18) dX8_tries_12 (by decide) ⟨by omega, by omega⟩ ⟨by omega, by omega⟩ (fun h_12 => ?_) (fun h_12 => ?_)
  · have h13b := h13 h_12
    have hl0 : 0 ≤ m_cal (X 64 3) (t_lot X) (t_M X) ∧ m_cal (X 64 3) (t_lot X) (t_M X) < X 64 3 := by omega
    have w2 := hW.2.1 _ hl0.1 hl0.2
    have s3 : t_M X (m_cal (X 64 3) (t_lot X) (t_M X)) 3 = X 72 (3 + 10 * m_cal (X 64 3) (t_lot X) (t_M X) + 0) := t_M_s hl0 (by decide) (by omega) (by omega)
    have hyv := (y_M_W (g := g) hn.1 hP hW hg h_12).2
    refine x_aload_n B dX8_tries_18 rfl ?_
    refine x_iload_n B dX8_tries_19 rfl ?_
    refine x_iconst B dX8_tries_20 ?_
    refine x_goP (x_rV B h8 (show x_cl[7]? = some _ from rfl) (c_X8_of hT h8 ⟨by omega, by omega⟩) (lw_V q1525 q1527 qs52 q122 q1528) hv_X8_of ⟨by decide, by decide⟩ ⟨by decide, by decide⟩ rfl rfl (by simp [x_cr, x_c1, x_c2]) dX8_tries_21) ?_
    rw [x0o 72 (by omega), ← s3]
    refine x_ist_3 B dX8_tries_24 (by first | rfl | exact x_cr _ _) ?_
    refine x_aload_n B dX8_tries_25 rfl ?_
    refine x_iload_n B dX8_tries_26 rfl ?_
    refine x_iload_n B dX8_tries_27 rfl ?_
    refine x_go (x_rV B h8 (show x_cl[7]? = some _ from rfl) (c_X8_doesTry C0 (by rw [e3, el, eM]; exact h_12) (by rw [e3, el, eM]) hg (by rw [x0i 13 (by omega)]; exact h13b) (by rw [x0i 14 (by omega)]; exact h14)) (lw_V q1636 q1638 qs67 q122 q1639) hv_X8_doesTry ⟨by decide, by decide⟩ ⟨by decide, by decide⟩ rfl rfl (by simp [x_cr, x_c1, x_c2]) dX8_tries_28) (fun v_28 X_28 p_28 => ?_)
    obtain ⟨rfl, ho, h64, ⟨y13, y14, y16⟩, yG, yM, yL, -⟩ := p_28
    rw [e3, el, ep, eM] at y16 yM
    rw [e3, el, eM, eG, x0i 13 (by omega)] at yG
    refine x_aload_n B dX8_tries_31 rfl ?_
    refine x_iconst B dX8_tries_32 ?_
    refine x_putI B (k := 1) 1 rfl rfl rfl ⟨by omega, by omega⟩ xc_7 (by decide) rfl nn_7_1 (fun _ => rfl) h8 (Or.inl q1336) (fun _ h => h) dX8_tries_33 ?_
    refine x_aload_n B dX8_tries_36 rfl ?_
    refine x_iload_n B dX8_tries_37 rfl ?_
    refine x_i2l B dX8_tries_38 ⟨by omega, by omega⟩ ?_
    refine x_goV (x_rV B h8 (show x_cl[7]? = some _ from rfl) (c_X8_notes hT h8 ⟨by rw [x_up_s]; omega, by rw [x_up_s]; omega⟩ ⟨by omega, by omega⟩) (lw_V q1616 q1618 qs65 q122 q1619) hv_X8_notes ⟨by decide, by decide⟩ ⟨by decide, by decide⟩ rfl rfl (by simp [x_cr, x_c1, x_c2]) dX8_tries_39) ?_
    change x_G _ _ _ _ _ _ _ _ _ _ _ _ _ _ _ _ _ _ _ (t_tl (x_up X_28 64 1 0) (t_M X (m_cal (X 64 3) (t_lot X) (t_M X)) 3))
    refine x_aload_n B dX8_tries_42 rfl ?_
    refine x_aload_n B dX8_tries_43 rfl ?_
    refine x_getI B (k := 16) 16 rfl rfl xc_7 (by decide) h8 (Or.inl q1351) (fun _ h => h) dX8_tries_44 (fun r_44 => ?_)
    have e16 : t_tl (x_up X_28 64 1 0) (t_M X (m_cal (X 64 3) (t_lot X) (t_M X)) 3) 64 16 = X_28 64 16 := by unfold t_tl; rw [x_up_n _ (Or.inr (by omega)), x_up_o _ (by omega), x_up_n _ (Or.inr (by omega))]
    rw [e16, y16] at r_44 ⊢
    refine x_i2l B dX8_tries_47 ⟨by omega, by omega⟩ ?_
    refine x_goV (x_rV B h8 (show x_cl[7]? = some _ from rfl) (c_X8_notes hT h8 ⟨by have := (t_tl1 (x_up X_28 64 1 0) (t_M X (m_cal (X 64 3) (t_lot X) (t_M X)) 3) (x_up_s _ _ _ _)).1; omega, by have := (t_tl1 (x_up X_28 64 1 0) (t_M X (m_cal (X 64 3) (t_lot X) (t_M X)) 3) (x_up_s _ _ _ _)).1; omega⟩ ⟨by omega, by omega⟩) (lw_V q1616 q1618 qs65 q122 q1619) hv_X8_notes ⟨by decide, by decide⟩ ⟨by decide, by decide⟩ rfl rfl (by simp [x_cr, x_c1, x_c2]) dX8_tries_48) ?_
    refine x_iload_n B dX8_tries_51 rfl ?_
    refine x_iret B (fun _ _ h => h) ?_ dX8_tries_52
    rw [if_neg h_12]
    refine ⟨rfl, X_28, fun b b1 b2 b3 => (ho b b1 b2 b3).trans (x0o b b3), fun i i0 i1 i2 i3 => (h64 i i1 i2 i3).trans (x0i i i0), ⟨by rw [y13, x0i 13 (by omega)], by rw [y14, x0i 14 (by omega)]⟩, yG, yM, yL, rfl⟩
  · refine x_bipush B dX8_tries_15 (by decide) ?_
    refine x_iret B (fun _ _ h => h) ?_ dX8_tries_17
    rw [if_pos (by omega)]; exact ⟨rfl, rfl⟩
theorem c_X8_tried {l : Launch} {E : x_E} {κ : x_Ka} {X : x_X} {k w : Int} (hT : x_T κ) (h8 : κ 64 = some (.inl (7, 1))) (h13 : 0 ≤ X 64 13 ∧ X 64 13 ≤ 60) (hk0 : xR k) (hw0 : xR w) : x_De l yX8_tried cX8_tried 3 (some .int) 1 E κ X [x_rf E 64, vi k, vi w] (vi (u_tried (X 64 13) (t_G X) k w)) ((x_up X 64 0 0)) := by
  refine x_Met.of [(false, x_rf E 64), (false, vi k), (false, vi w)] [some (x_rf E 64), some (vi k), some (vi w)] 0 (by decide) rfl rfl ⟨x_cr E (64), rfl, rfl, trivial⟩ rfl rfl ?_
  intro p e s m args below meth c hargs hin B
  have z1 := x_in_01 k 0 (X 64 13 - 1)
  have z2 := x_in_01 w 0 3
  refine x_aload_n B dX8_tried_0 rfl ?_
  refine x_iconst B dX8_tried_1 ?_
  refine x_putI B (k := 0) 0 rfl rfl rfl ⟨by omega, by omega⟩ xc_7 (by decide) rfl nn_7_0 (fun _ => rfl) h8 (Or.inl q1335) (fun _ h => h) dX8_tried_2 ?_
  refine x_iload_n B dX8_tried_5 rfl ?_
  refine x_i2l B dX8_tried_6 ⟨by omega, by omega⟩ ?_
  refine x_lconst B 0 dX8_tried_7 (by decide) ?_
  refine x_aload_n B dX8_tried_8 rfl ?_
  refine x_getI B (k := 13) 13 rfl rfl xc_7 (by decide) h8 (Or.inl q1348) (fun _ h => h) dX8_tried_9 (fun r_9 => ?_)
  rw [x_up_n _ (Or.inr (by omega))] at r_9 ⊢
  refine x_iconst B dX8_tried_12 ?_
  refine x_isub B dX8_tried_13 ?_
  refine x_i2l B dX8_tried_14 ⟨by omega, by omega⟩ ?_
  refine x_goP (x_rS B (c_X8_in ⟨by omega, by omega⟩ ⟨by omega, by omega⟩ ⟨by omega, by omega⟩) (lw_S q1468 q1469 q122 q1470) hd_X8_in ⟨by decide, by decide⟩ ⟨by decide, by decide⟩ rfl rfl (by simp [x_cr, x_c1, x_c2]) dX8_tried_15) ?_
  refine x_if_eq B (tgt := 46) dX8_tried_18 (by decide) ⟨by omega, by omega⟩ (fun h_18 => ?_) (fun h_18 => ?_)
  · refine x_iconst B dX8_tried_46 ?_
    refine x_iret B (fun _ _ h => h) ?_ dX8_tried_47
    exact ⟨congrArg (fun z => some (vi z)) (by first | (unfold u_tried; rw [if_neg (by omega)]; done) | (unfold u_tried t_G; rw [if_pos ⟨by omega, by omega⟩, if_pos hk, if_pos (by omega), x_up_o _ (by omega)]; done)), rfl⟩
  · refine x_iload_n B dX8_tried_21 rfl ?_
    refine x_i2l B dX8_tried_22 ⟨by omega, by omega⟩ ?_
    refine x_lconst B 0 dX8_tried_23 (by decide) ?_
    refine x_ldc2 B (3) q1656 (by decide) dX8_tried_24 ?_
    refine x_goP (x_rS B (c_X8_in ⟨by omega, by omega⟩ ⟨by omega, by omega⟩ ⟨by omega, by omega⟩) (lw_S q1468 q1469 q122 q1470) hd_X8_in ⟨by decide, by decide⟩ ⟨by decide, by decide⟩ rfl rfl (by simp [x_cr, x_c1, x_c2]) dX8_tried_27) ?_
    refine x_if_eq B (tgt := 46) dX8_tried_30 (by decide) ⟨by omega, by omega⟩ (fun h_30 => ?_) (fun h_30 => ?_)
    · refine x_iconst B dX8_tried_46 ?_
      refine x_iret B (fun _ _ h => h) ?_ dX8_tried_47
      exact ⟨congrArg (fun z => some (vi z)) (by first | (unfold u_tried; rw [if_neg (by omega)]; done) | (unfold u_tried t_G; rw [if_pos ⟨by omega, by omega⟩, if_pos hk, if_pos (by omega), x_up_o _ (by omega)]; done)), rfl⟩
    · have hk : 0 ≤ k ∧ k < X 64 13 := by unfold x_in at h_18; split at h_18 <;> omega
      have hw : 0 ≤ w ∧ w ≤ 3 := by unfold x_in at h_30; split at h_30 <;> omega
      refine x_aload_n B dX8_tried_33 rfl ?_
      refine x_getC0 B (k := 15) hT rfl rfl xc_7 (by decide) h8 (Or.inl q1350) (fun _ h => h) dX8_tried_34 (fun k_34 => ?_)
      refine x_iconst B dX8_tried_37 ?_
      refine x_iload_n B dX8_tried_38 rfl ?_
      refine x_imul B dX8_tried_39 ?_
      refine x_iload_n B dX8_tried_40 rfl ?_
      refine x_iadd B dX8_tried_41 ?_
      refine x_iald B k_34 ⟨by omega, by omega⟩ dX8_tried_42 (fun r_42 => ?_)
      refine x_goto B (tgt := 47) dX8_tried_43 (by decide) ?_
      refine x_iret B (fun _ _ h => h) ?_ dX8_tried_47
      exact ⟨congrArg (fun z => some (vi z)) (by first | (unfold u_tried; rw [if_neg (by omega)]; done) | (unfold u_tried t_G; rw [if_pos ⟨by omega, by omega⟩, if_pos hk, if_pos (by omega), x_up_o _ (by omega)]; done)), rfl⟩
theorem c_X8_place {l : Launch} {E : x_E} {κ : x_Ka} {X : x_X} {i : Int} (hC : t_C κ X) (hx : xR i) : x_Met l yX8_place cX8_place 2 (some .int) 6 0 0 E κ X [x_rf E 64, vi i] κ (fun v_ Y_ => if x_in i 0 (X 64 3 - 1) = 1 then (v_ = some (vi (m_cnt (t_li X) (t_M X) i (X 64 3).toNat)) ∧ t_nt X Y_ ∧ (Y_ 64 1 = (w_out (fun k l => decide (m_cnt (t_li X) (t_M X) l (X 64 3).toNat = k)) (X 64 3).toNat (X 64 3).toNat).1 ∧ ∀ j, 0 ≤ j → j < (w_out (fun k l => decide (m_cnt (t_li X) (t_M X) l (X 64 3).toNat = k)) (X 64 3).toNat (X 64 3).toNat).1 → Y_ 65 j = (w_out (fun k l => decide (m_cnt (t_li X) (t_M X) l (X 64 3).toNat = k)) (X 64 3).toNat (X 64 3).toNat).2 j)) else (v_ = some (vi (-1)) ∧ Y_ = (x_up X 64 0 0))) := by
  refine x_Met.of [(false, x_rf E 64), (false, vi i)] [some (x_rf E 64), some (vi i)] 0 (by decide) rfl rfl ⟨x_cr E (64), rfl, trivial⟩ rfl rfl ?_
  intro p e s m args below meth c hargs hin B
  obtain ⟨hK, hP, hO, hW, hLa⟩ := id hC
  obtain ⟨hT, h8, hn⟩ := id hK
  have z1 := x_in_01 i 0 (X 64 3 - 1)
  refine x_aload_n B dX8_place_0 rfl ?_
  refine x_iconst B dX8_place_1 ?_
  refine x_putI B (k := 0) 0 rfl rfl rfl ⟨by omega, by omega⟩ xc_7 (by decide) rfl nn_7_0 (fun _ => rfl) h8 (Or.inl q1335) (fun _ h => h) dX8_place_2 ?_
  have hn0 := (t_nt.rf X).z (i := 0) (Or.inl rfl) 0
  have C0 := hn0.C hC
  obtain ⟨e3, eM, el, eli, ep, eO, eG⟩ := hn0.v
  have ebo : t_body (x_up X 64 0 0) = t_body X := t_body_e e3 (x_up_o _ (by omega))
  have x0o : ∀ b, b ≠ 64 → x_up X 64 0 0 b = X b := fun b hb => x_up_o _ hb
  have x0i : ∀ i, i ≠ 0 → x_up X 64 0 0 64 i = X 64 i := fun i hi => x_up_n _ (Or.inr hi)
  generalize hX0 : x_up X 64 0 0 = X0 at hn0 C0 e3 eM el eli ep eO eG ebo x0o x0i ⊢
  obtain ⟨hK0, hP0, hO0, hW0, hL0⟩ := id C0
  refine x_aload_n B dX8_place_5 rfl ?_
  refine x_iload_n B dX8_place_6 rfl ?_
  refine x_goP (x_rV B h8 (show x_cl[7]? = some _ from rfl) (c_X8_isLifter hK0 hx) (lw_V q1553 q1555 qs57 q122 q1556) hv_X8_isLifter ⟨by decide, by decide⟩ ⟨by decide, by decide⟩ rfl rfl (by simp [x_cr, x_c1, x_c2]) dX8_place_7) ?_
  rw [e3]
  refine x_if_ne B (tgt := 15) dX8_place_10 (by decide) ⟨by omega, by omega⟩ (fun h_10 => ?_) (fun h_10 => ?_)
  · have hi : 0 ≤ i ∧ i < X 64 3 := by unfold x_in at h_10; split at h_10 <;> omega
    refine x_aload_n B dX8_place_15 rfl ?_
    refine x_go (x_rV B h8 (show x_cl[7]? = some _ from rfl) (c_X8_entersPlaces C0) (lw_V q1661 q1663 qs71 q122 q1664) hv_X8_entersPlaces ⟨by decide, by decide⟩ ⟨by decide, by decide⟩ rfl rfl (by simp [x_cr, x_c1, x_c2]) dX8_place_16) (fun v_16 X_16 p_16 => ?_)
    obtain ⟨rfl, hy, hto⟩ := p_16
    rw [e3, eli, eM] at hto
    have hxy := hn0.trans hy
    have CY := hxy.C hC
    obtain ⟨y3, yM, -, yli, -, -, -⟩ := hxy.v
    refine x_aload_n B dX8_place_19 rfl ?_
    refine x_iload_n B dX8_place_20 rfl ?_
    refine x_goP (x_rV B h8 (show x_cl[7]? = some _ from rfl) (c_X8_aheadOf CY.1 CY.2.2.2.1 (by rw [y3]; exact hi)) (lw_V q1665 q1667 qs72 q122 q1668) hv_X8_aheadOf ⟨by decide, by decide⟩ ⟨by decide, by decide⟩ rfl rfl (by simp [x_cr, x_c1, x_c2]) dX8_place_21) ?_
    rw [y3, yli, yM]
    refine x_iret B (fun _ _ h => h) ?_ dX8_place_24
    rw [if_pos (by omega)]; exact ⟨rfl, hxy, hto⟩
  · refine x_iconst B dX8_place_13 ?_
    refine x_iret B (fun _ _ h => h) ?_ dX8_place_14
    rw [if_neg (by omega)]; exact ⟨rfl, rfl⟩
