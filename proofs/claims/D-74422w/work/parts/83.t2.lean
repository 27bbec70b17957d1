def t_z (X : x_X) (k : Int) : x_X := fun a i => if a = 72 ∧ 0 ≤ i ∧ i < k then 0 else X a i
theorem t_z_0 (X : x_X) : X = t_z X 0 := by funext a i; unfold t_z; rw [if_neg (by omega)]
theorem t_z_s {X : x_X} {k : Int} (hk : 0 ≤ k) : x_up (t_z X k) 72 k 0 = t_z X (k + 1) := by
  funext a i
  dsimp only [t_z, x_up]
  by_cases e : a = 72 ∧ i = k
  · rw [if_pos e, if_pos ⟨e.1, by omega, by omega⟩]
  · rw [if_neg e]
    by_cases q : a = 72 ∧ 0 ≤ i ∧ i < k
    · rw [if_pos q, if_pos ⟨q.1, q.2.1, by omega⟩]
    · rw [if_neg q, if_neg (by omega)]
theorem t_p3_e {X Y : x_X} (h : Y 64 3 = X 64 3) (h2 : Y 71 = X 71) : t_p3 Y = t_p3 X := by funext l t w; unfold t_p3; rw [h, h2]
theorem t_lot_e {X Y : x_X} (h : Y 64 3 = X 64 3) (h2 : Y 67 = X 67) : t_lot Y = t_lot X := by funext l; unfold t_lot; rw [h, h2]
theorem t_body_e {X Y : x_X} (h : Y 64 3 = X 64 3) (h2 : Y 66 = X 66) : t_body Y = t_body X := by funext l; unfold t_body; rw [h, h2]
theorem t_O_e {X Y : x_X} (h : Y 64 3 = X 64 3) (h0 : Y 64 10 = X 64 10) (h2 : Y 68 = X 68) (h3 : Y 69 = X 69) (h4 : Y 70 = X 70) : t_O Y = t_O X := by funext l t x f; unfold t_O t_tb; rw [h, h0, h2, h3, h4]
theorem t_M_e {X Y : x_X} (h : Y 64 3 = X 64 3) (h2 : Y 72 = X 72) : t_M Y = t_M X := by funext l f; unfold t_M; rw [h, h2]
theorem c_X8_meetBegins {l : Launch} {E : x_E} {κ : x_Ka} {X : x_X}  (hK : t_K κ X) (hP : t_P X) : x_Met l yX8_meetBegins cX8_meetBegins 2 none 3 0 0 E κ X [x_rf E 64] κ (fun v Y => v = none ∧ (∀ a, a ≠ 72 → a ≠ 64 → Y a = X a) ∧ (∀ i, i ≠ 13 → i ≠ 14 → Y 64 i = X 64 i) ∧ (Y 64 13 = 0 ∧ Y 64 14 = 0) ∧ t_M Y = m_beg (X 64 3) (fun l t => t_p3 X l t 0) (t_M X) ∧ ∀ a, 0 ≤ a → a < X 64 3 → Y 72 (3 + 10 * a + 2) = 0 ∧ Y 72 (3 + 10 * a + 3) = 0) := by
  refine x_Met.of [(false, x_rf E 64)] [some (x_rf E 64), none] 1 (by decide) rfl rfl ⟨x_cr E (64), trivial⟩ rfl rfl ?_
  intro p e s m args below meth c hargs hin B
  obtain ⟨hT, h8, hn⟩ := id hK
  have lp_2 : ∀ (n : Nat) (k : Int), (0 ≤ k ∧ k ≤ 63) → ((64 - k).toNat < n) → x_G p l e (x_rm 3 0 0) s m args below meth c 2 E 0 0 (MQ below (x_Q E κ (fun v Y => v = none ∧ (∀ a, a ≠ 72 → a ≠ 64 → Y a = X a) ∧ (∀ i, i ≠ 13 → i ≠ 14 → Y 64 i = X 64 i) ∧ (Y 64 13 = 0 ∧ Y 64 14 = 0) ∧ t_M Y = m_beg (X 64 3) (fun l t => t_p3 X l t 0) (t_M X) ∧ ∀ a, 0 ≤ a → a < X 64 3 → Y 72 (3 + 10 * a + 2) = 0 ∧ Y 72 (3 + 10 * a + 3) = 0)) args s 0 0 (fun q => E.1 ≤ q)) κ 2 [some (x_rf E 64), some (vi k)] [] (t_z X k) := by
    intro n
    induction n with
    | zero => intro k hi hme; exfalso; omega
    | succ n ih =>
      intro k hi hme
      refine x_iload_n B dX8_meetBegins_2 rfl ?_
      refine x_aload_n B dX8_meetBegins_3 rfl ?_
      refine x_getC0 B (k := 11) hT rfl rfl xc_7 (by decide) h8 (Or.inl q1346) (fun _ h => h) dX8_meetBegins_4 (fun k_4 => ?_)
      refine x_alen B (t := 0) (i := 0) k_4 rfl dX8_meetBegins_7 ?_
      refine x_icmp_ge B (tgt := 24) dX8_meetBegins_8 (by decide) ⟨by omega, by omega⟩ ⟨by omega, by omega⟩ (fun h_8 => ?_) (fun h_8 => ?_)
      · obtain rfl : k = 63 := by omega
        refine x_aload_n B dX8_meetBegins_24 rfl ?_
        refine x_iconst B dX8_meetBegins_25 ?_
        refine x_putI B (k := 13) 13 rfl rfl rfl ⟨by omega, by omega⟩ xc_7 (by decide) rfl nn_7_13 (fun _ => rfl) h8 (Or.inl q1348) (fun _ h => h) dX8_meetBegins_26 ?_
        refine x_aload_n B dX8_meetBegins_29 rfl ?_
        refine x_iconst B dX8_meetBegins_30 ?_
        refine x_putI B (k := 14) 14 rfl rfl rfl ⟨by omega, by omega⟩ xc_7 (by decide) rfl nn_7_14 (fun _ => rfl) h8 (Or.inl q1349) (fun _ h => h) dX8_meetBegins_31 ?_
        have z64 : ∀ i, i ≠ 13 → i ≠ 14 → (x_up (x_up (t_z X 63) 64 13 0) 64 14 0) 64 i = X 64 i := fun i i1 i2 => by rw [x_up_n _ (Or.inr i2), x_up_n _ (Or.inr i1)]; unfold t_z; rw [if_neg (by omega)]
        have zo : ∀ a, a ≠ 72 → a ≠ 64 → (x_up (x_up (t_z X 63) 64 13 0) 64 14 0) a = X a := fun a a1 a2 => by rw [x_up_o _ a2, x_up_o _ a2]; funext i; unfold t_z; rw [if_neg (fun q => a1 q.1)]
        have z72 : ∀ i, 0 ≤ i → i < 63 → (x_up (x_up (t_z X 63) 64 13 0) 64 14 0) 72 i = 0 := fun i i1 i2 => by rw [x_up_o _ (by omega), x_up_o _ (by omega)]; unfold t_z; rw [if_pos ⟨rfl, i1, i2⟩]
        have zt : (x_up (x_up (t_z X 63) 64 13 0) 64 14 0) 64 13 = 0 ∧ (x_up (x_up (t_z X 63) 64 13 0) 64 14 0) 64 14 = 0 := ⟨by rw [x_up_n _ (Or.inr (by omega)), x_up_s], x_up_s _ _ _ _⟩
        generalize (x_up (x_up (t_z X 63) 64 13 0) 64 14 0) = Z at z64 zo z72 zt ⊢
        have z3 : Z 64 3 = X 64 3 := z64 3 (by omega) (by omega)
        have zp := t_p3_e z3 (zo 71 (by omega) (by omega))
        have hKZ : t_K κ Z := by unfold t_K at *; rw [z3]; exact hK
        have hPZ : t_P Z := by unfold t_P at *; rw [z3, zp]; exact hP
        refine x_aload_n B dX8_meetBegins_34 rfl ?_
        refine x_go (x_rV B h8 (show x_cl[7]? = some _ from rfl) (c_X8_liftBegins hKZ hPZ (by rw [z72 0 (by omega) (by omega)]; omega) (fun a a1 a2 => by rw [z72 _ (by omega) (by omega)]; omega)) (lw_V q1513 q1515 qs49 q122 q1516) hv_X8_liftBegins ⟨by decide, by decide⟩ ⟨by decide, by decide⟩ rfl rfl (by simp [x_cr, x_c1, x_c2]) dX8_meetBegins_35) (fun v_35 X_35 p_35 => ?_)
        obtain ⟨rfl, hf, hM, hq⟩ := p_35
        refine x_vret B (fun _ _ h => h) ?_ dX8_meetBegins_38
        refine ⟨rfl, fun a a1 a2 => (hf a a1).trans (zo a a1 a2), fun i i1 i2 => by rw [hf 64 (by omega)]; exact z64 i i1 i2, by rw [hf 64 (by omega)]; exact zt, ?_, fun a a1 a2 => hq a a1 (by omega)⟩
        have hck : m_ck (t_M Z) (Z 64 3) = t_M Z := by
          funext l f; unfold m_ck
          by_cases e : l = -1
          · subst e; rw [if_pos rfl]; by_cases q : f = 1
            · rw [if_pos q, q, t_M_g (by omega)]; exact (z72 0 (by omega) (by omega)).symm
            · rw [if_neg q]
          · rw [if_neg e]; by_cases q : 0 ≤ l ∧ l < Z 64 3
            · rw [if_pos q]; by_cases q7 : f = 7
              · subst q7; rw [if_pos rfl, t_M_s q (w := 6) (by decide) (by omega) (by omega)]; exact (z72 _ (by omega) (by omega)).symm
              · rw [if_neg q7]; by_cases qb : 10 ≤ f ∧ f ≤ 12
                · rw [if_pos qb]; rcases (show f = 10 ∨ f = 11 ∨ f = 12 by omega) with e | e | e
                  · subst e; rw [t_M_s q (w := 7) (by decide) (by omega) (by omega)]; exact (z72 _ (by omega) (by omega)).symm
                  · subst e; rw [t_M_s q (w := 8) (by decide) (by omega) (by omega)]; exact (z72 _ (by omega) (by omega)).symm
                  · subst e; rw [t_M_s q (w := 9) (by decide) (by omega) (by omega)]; exact (z72 _ (by omega) (by omega)).symm
                · rw [if_neg qb]
            · rw [if_neg q]
        have hzz := t_M_Z Z
        rw [hM, ← hck]
        rw [z3, zp] at *
        exact m_beg_i hzz (t_M_Z X)
      · refine x_aload_n B dX8_meetBegins_11 rfl ?_
        refine x_getC0 B (k := 11) hT rfl rfl xc_7 (by decide) h8 (Or.inl q1346) (fun _ h => h) dX8_meetBegins_12 (fun k_12 => ?_)
        refine x_iload_n B dX8_meetBegins_15 rfl ?_
        refine x_iconst B dX8_meetBegins_16 ?_
        refine x_iast B k_12 ⟨by omega, by omega⟩ ⟨by omega, by omega⟩ dX8_meetBegins_17 ?_
        refine x_iinc_1 B dX8_meetBegins_18 (by first | rfl | exact x_cr _ _) ?_
        refine x_goto B (tgt := 2) dX8_meetBegins_21 (by decide) ?_
        rw [t_z_s hi.1]
        exact ih _ ⟨by omega, by omega⟩ (by omega)
  refine x_iconst B dX8_meetBegins_0 ?_
  refine x_ist_1 B dX8_meetBegins_1 (by first | rfl | exact x_cr _ _) ?_
  have e0 := lp_2 _ 0 ⟨by omega, by omega⟩ (Nat.lt_succ_self _)
  rw [← t_z_0 X] at e0
  exact e0
theorem c_X8_isStill {l : Launch} {E : x_E} {κ : x_Ka} {X : x_X} {a : Int} (hK : t_K κ X) (hW : m_W (X 64 3) (t_M X)) (ha : 0 ≤ a ∧ a < X 64 3) : x_Pu l yX8_isStill cX8_isStill 2 (some .boolean) 2 E κ X [x_rf E 64, vi a] (vi (if t_M X a 3 > 0 ∧ t_M X a 6 = 0 then 1 else 0)) := by
  refine x_Met.of [(false, x_rf E 64), (false, vi a)] [some (x_rf E 64), some (vi a)] 0 (by decide) rfl rfl ⟨x_cr E (64), rfl, trivial⟩ rfl rfl ?_
  intro p e s m args below meth c hargs hin B
  obtain ⟨hT, h8, hn⟩ := id hK
  have s2 : t_M X a 2 = X 72 (3 + 10 * a + 4) := t_M_s (by assumption) (by decide) (by omega) (by omega)
  have s3 : t_M X a 3 = X 72 (3 + 10 * a + 0) := t_M_s (by assumption) (by decide) (by omega) (by omega)
  have s5 : t_M X a 5 = X 72 (3 + 10 * a + 5) := t_M_s (by assumption) (by decide) (by omega) (by omega)
  have s6 : t_M X a 6 = X 72 (3 + 10 * a + 1) := t_M_s (by assumption) (by decide) (by omega) (by omega)
  have s7 : t_M X a 7 = X 72 (3 + 10 * a + 6) := t_M_s (by assumption) (by decide) (by omega) (by omega)
  have w2 := hW.2.1 a ha.1 ha.2
  have w3 := hW.2.2 a ha.1 ha.2
  have g1 : t_M X (-1) 1 = X 72 0 := t_M_g (by omega)
  refine x_aload_n B dX8_isStill_0 rfl ?_
  refine x_iload_n B dX8_isStill_1 rfl ?_
  refine x_iconst B dX8_isStill_2 ?_
  refine x_goP (x_rV B h8 (show x_cl[7]? = some _ from rfl) (c_X8_of hT h8 ⟨by omega, by omega⟩) (lw_V q1525 q1527 qs52 q122 q1528) hv_X8_of ⟨by decide, by decide⟩ ⟨by decide, by decide⟩ rfl rfl (by simp [x_cr, x_c1, x_c2]) dX8_isStill_3) ?_
  refine x_if_le B (tgt := 37) dX8_isStill_6 (by decide) ⟨by omega, by omega⟩ (fun h_6 => ?_) (fun h_6 => ?_)
  · refine x_iconst B dX8_isStill_37 ?_
    refine x_zret B (fun _ _ h => h) ⟨by omega, by omega⟩ ?_ dX8_isStill_38
    first
    | (exfalso; have q1 : ¬ X 72 (3 + 10 * a + 6) = 1 := (fun q => by have := w3.1 (by omega); omega); rw [if_neg q1] at h_23; omega)
    | (exfalso; have q1 : ¬ X 72 0 = 3 := (fun q => by have := w3.2.1 (by omega); omega); rw [if_neg q1] at h_30; omega)
    | exact ⟨by rw [if_pos ⟨by omega, by omega⟩]; done, rfl⟩
    | exact ⟨by rw [if_neg (by omega)]; done, rfl⟩
  · refine x_aload_n B dX8_isStill_9 rfl ?_
    refine x_iload_n B dX8_isStill_10 rfl ?_
    refine x_iconst B dX8_isStill_11 ?_
    refine x_goP (x_rV B h8 (show x_cl[7]? = some _ from rfl) (c_X8_of hT h8 ⟨by omega, by omega⟩) (lw_V q1525 q1527 qs52 q122 q1528) hv_X8_of ⟨by decide, by decide⟩ ⟨by decide, by decide⟩ rfl rfl (by simp [x_cr, x_c1, x_c2]) dX8_isStill_12) ?_
    refine x_if_ne B (tgt := 37) dX8_isStill_15 (by decide) ⟨by omega, by omega⟩ (fun h_15 => ?_) (fun h_15 => ?_)
    · refine x_iconst B dX8_isStill_37 ?_
      refine x_zret B (fun _ _ h => h) ⟨by omega, by omega⟩ ?_ dX8_isStill_38
      first
      | (exfalso; have q1 : ¬ X 72 (3 + 10 * a + 6) = 1 := (fun q => by have := w3.1 (by omega); omega); rw [if_neg q1] at h_23; omega)
      | (exfalso; have q1 : ¬ X 72 0 = 3 := (fun q => by have := w3.2.1 (by omega); omega); rw [if_neg q1] at h_30; omega)
      | exact ⟨by rw [if_pos ⟨by omega, by omega⟩]; done, rfl⟩
      | exact ⟨by rw [if_neg (by omega)]; done, rfl⟩
    · refine x_aload_n B dX8_isStill_18 rfl ?_
      refine x_iload_n B dX8_isStill_19 rfl ?_
      refine x_goP (x_rV B h8 (show x_cl[7]? = some _ from rfl) (c_X8_isOut hT h8 ⟨by omega, by omega⟩) (lw_V q1521 q1523 qs51 q122 q1524) hv_X8_isOut ⟨by decide, by decide⟩ ⟨by decide, by decide⟩ rfl rfl (by simp [x_cr, x_c1, x_c2]) dX8_isStill_20) ?_
      refine x_if_ne B (tgt := 37) dX8_isStill_23 (by decide) ⟨by split <;> omega, by split <;> omega⟩ (fun h_23 => ?_) (fun h_23 => ?_)
      · refine x_iconst B dX8_isStill_37 ?_
        refine x_zret B (fun _ _ h => h) ⟨by omega, by omega⟩ ?_ dX8_isStill_38
        first
        | (exfalso; have q1 : ¬ X 72 (3 + 10 * a + 6) = 1 := (fun q => by have := w3.1 (by omega); omega); rw [if_neg q1] at h_23; omega)
        | (exfalso; have q1 : ¬ X 72 0 = 3 := (fun q => by have := w3.2.1 (by omega); omega); rw [if_neg q1] at h_30; omega)
        | exact ⟨by rw [if_pos ⟨by omega, by omega⟩]; done, rfl⟩
        | exact ⟨by rw [if_neg (by omega)]; done, rfl⟩
      · refine x_aload_n B dX8_isStill_26 rfl ?_
        refine x_goP (x_rV B h8 (show x_cl[7]? = some _ from rfl) (c_X8_isOver hT h8) (lw_V q1517 q1519 qs50 q122 q1520) hv_X8_isOver ⟨by decide, by decide⟩ ⟨by decide, by decide⟩ rfl rfl (by simp [x_cr, x_c1, x_c2]) dX8_isStill_27) ?_
        refine x_if_ne B (tgt := 37) dX8_isStill_30 (by decide) ⟨by split <;> omega, by split <;> omega⟩ (fun h_30 => ?_) (fun h_30 => ?_)
        · refine x_iconst B dX8_isStill_37 ?_
          refine x_zret B (fun _ _ h => h) ⟨by omega, by omega⟩ ?_ dX8_isStill_38
          first
          | (exfalso; have q1 : ¬ X 72 (3 + 10 * a + 6) = 1 := (fun q => by have := w3.1 (by omega); omega); rw [if_neg q1] at h_23; omega)
          | (exfalso; have q1 : ¬ X 72 0 = 3 := (fun q => by have := w3.2.1 (by omega); omega); rw [if_neg q1] at h_30; omega)
          | exact ⟨by rw [if_pos ⟨by omega, by omega⟩]; done, rfl⟩
          | exact ⟨by rw [if_neg (by omega)]; done, rfl⟩
        · refine x_iconst B dX8_isStill_33 ?_
          refine x_goto B (tgt := 38) dX8_isStill_34 (by decide) ?_
          refine x_zret B (fun _ _ h => h) ⟨by omega, by omega⟩ ?_ dX8_isStill_38
          first
          | (exfalso; have q1 : ¬ X 72 (3 + 10 * a + 6) = 1 := (fun q => by have := w3.1 (by omega); omega); rw [if_neg q1] at h_23; omega)
          | (exfalso; have q1 : ¬ X 72 0 = 3 := (fun q => by have := w3.2.1 (by omega); omega); rw [if_neg q1] at h_30; omega)
          | exact ⟨by rw [if_pos ⟨by omega, by omega⟩]; done, rfl⟩
          | exact ⟨by rw [if_neg (by omega)]; done, rfl⟩
theorem c_X8_isCalledAhead {l : Launch} {E : x_E} {κ : x_Ka} {X : x_X} {a b : Int} (hK : t_K κ X) (hW : m_W (X 64 3) (t_M X)) (ha : 0 ≤ a ∧ a < X 64 3) (hb : 0 ≤ b ∧ b < X 64 3) : x_Pu l yX8_isCalledAhead cX8_isCalledAhead 3 (some .boolean) 1 E κ X [x_rf E 64, vi a, vi b] (vi (if t_M X a 3 < t_M X b 3 ∨ (t_M X a 3 = t_M X b 3 ∧ t_lot X a < t_lot X b) then 1 else 0)) := by
  refine x_Met.of [(false, x_rf E 64), (false, vi a), (false, vi b)] [some (x_rf E 64), some (vi a), some (vi b)] 0 (by decide) rfl rfl ⟨x_cr E (64), rfl, rfl, trivial⟩ rfl rfl ?_
  intro p e s m args below meth c hargs hin B
  obtain ⟨hT, h8, hn⟩ := id hK
  have sa : t_M X a 3 = X 72 (3 + 10 * a + 0) := t_M_s ha (by decide) (by omega) (by omega)
  have sb : t_M X b 3 = X 72 (3 + 10 * b + 0) := t_M_s hb (by decide) (by omega) (by omega)
  have w1 := hW.2.1 a ha.1 ha.2
  have w2 := hW.2.1 b hb.1 hb.2
  have la : t_lot X a = X 67 a := by unfold t_lot; rw [if_pos ha]
  have lb : t_lot X b = X 67 b := by unfold t_lot; rw [if_pos hb]
  refine x_aload_n B dX8_isCalledAhead_0 rfl ?_
  refine x_iload_n B dX8_isCalledAhead_1 rfl ?_
  refine x_iconst B dX8_isCalledAhead_2 ?_
  refine x_goP (x_rV B h8 (show x_cl[7]? = some _ from rfl) (c_X8_of hT h8 ⟨by omega, by omega⟩) (lw_V q1525 q1527 qs52 q122 q1528) hv_X8_of ⟨by decide, by decide⟩ ⟨by decide, by decide⟩ rfl rfl (by simp [x_cr, x_c1, x_c2]) dX8_isCalledAhead_3) ?_
  refine x_aload_n B dX8_isCalledAhead_6 rfl ?_
  refine x_iload_n B dX8_isCalledAhead_7 rfl ?_
  refine x_iconst B dX8_isCalledAhead_8 ?_
  refine x_goP (x_rV B h8 (show x_cl[7]? = some _ from rfl) (c_X8_of hT h8 ⟨by omega, by omega⟩) (lw_V q1525 q1527 qs52 q122 q1528) hv_X8_of ⟨by decide, by decide⟩ ⟨by decide, by decide⟩ rfl rfl (by simp [x_cr, x_c1, x_c2]) dX8_isCalledAhead_9) ?_
  refine x_icmp_lt B (tgt := 45) dX8_isCalledAhead_12 (by decide) ⟨by omega, by omega⟩ ⟨by omega, by omega⟩ (fun h_12 => ?_) (fun h_12 => ?_)
  · refine x_iconst B dX8_isCalledAhead_45 ?_
    refine x_goto B (tgt := 50) dX8_isCalledAhead_46 (by decide) ?_
    refine x_zret B (fun _ _ h => h) ⟨by omega, by omega⟩ ?_ dX8_isCalledAhead_50
    first | exact ⟨by rw [if_pos (by omega)], rfl⟩ | exact ⟨by rw [if_neg (by omega)], rfl⟩
  · refine x_aload_n B dX8_isCalledAhead_15 rfl ?_
    refine x_iload_n B dX8_isCalledAhead_16 rfl ?_
    refine x_iconst B dX8_isCalledAhead_17 ?_
    refine x_goP (x_rV B h8 (show x_cl[7]? = some _ from rfl) (c_X8_of hT h8 ⟨by omega, by omega⟩) (lw_V q1525 q1527 qs52 q122 q1528) hv_X8_of ⟨by decide, by decide⟩ ⟨by decide, by decide⟩ rfl rfl (by simp [x_cr, x_c1, x_c2]) dX8_isCalledAhead_18) ?_
    refine x_aload_n B dX8_isCalledAhead_21 rfl ?_
    refine x_iload_n B dX8_isCalledAhead_22 rfl ?_
    refine x_iconst B dX8_isCalledAhead_23 ?_
    refine x_goP (x_rV B h8 (show x_cl[7]? = some _ from rfl) (c_X8_of hT h8 ⟨by omega, by omega⟩) (lw_V q1525 q1527 qs52 q122 q1528) hv_X8_of ⟨by decide, by decide⟩ ⟨by decide, by decide⟩ rfl rfl (by simp [x_cr, x_c1, x_c2]) dX8_isCalledAhead_24) ?_
    refine x_icmp_ne B (tgt := 49) dX8_isCalledAhead_27 (by decide) ⟨by omega, by omega⟩ ⟨by omega, by omega⟩ (fun h_27 => ?_) (fun h_27 => ?_)
    · refine x_iconst B dX8_isCalledAhead_49 ?_
      refine x_zret B (fun _ _ h => h) ⟨by omega, by omega⟩ ?_ dX8_isCalledAhead_50
      first | exact ⟨by rw [if_pos (by omega)], rfl⟩ | exact ⟨by rw [if_neg (by omega)], rfl⟩
    · refine x_aload_n B dX8_isCalledAhead_30 rfl ?_
      refine x_getC0 B (k := 5) hT rfl rfl xc_7 (by decide) h8 (Or.inl q1340) (fun _ h => h) dX8_isCalledAhead_31 (fun k_31 => ?_)
      refine x_iload_n B dX8_isCalledAhead_34 rfl ?_
      refine x_iald B k_31 ⟨by omega, by omega⟩ dX8_isCalledAhead_35 (fun r_35 => ?_)
      refine x_aload_n B dX8_isCalledAhead_36 rfl ?_
      refine x_getC0 B (k := 5) hT rfl rfl xc_7 (by decide) h8 (Or.inl q1340) (fun _ h => h) dX8_isCalledAhead_37 (fun k_37 => ?_)
      refine x_iload_n B dX8_isCalledAhead_40 rfl ?_
      refine x_iald B k_37 ⟨by omega, by omega⟩ dX8_isCalledAhead_41 (fun r_41 => ?_)
      refine x_icmp_ge B (tgt := 49) dX8_isCalledAhead_42 (by decide) ⟨by omega, by omega⟩ ⟨by omega, by omega⟩ (fun h_42 => ?_) (fun h_42 => ?_)
      · refine x_iconst B dX8_isCalledAhead_49 ?_
        refine x_zret B (fun _ _ h => h) ⟨by omega, by omega⟩ ?_ dX8_isCalledAhead_50
        first | exact ⟨by rw [if_pos (by omega)], rfl⟩ | exact ⟨by rw [if_neg (by omega)], rfl⟩
      · refine x_iconst B dX8_isCalledAhead_45 ?_
        refine x_goto B (tgt := 50) dX8_isCalledAhead_46 (by decide) ?_
        refine x_zret B (fun _ _ h => h) ⟨by omega, by omega⟩ ?_ dX8_isCalledAhead_50
        first | exact ⟨by rw [if_pos (by omega)], rfl⟩ | exact ⟨by rw [if_neg (by omega)], rfl⟩
theorem c_X8_calledNow {l : Launch} {E : x_E} {κ : x_Ka} {X : x_X}  (hK : t_K κ X) (hW : m_W (X 64 3) (t_M X)) : x_Pu l yX8_calledNow cX8_calledNow 3 (some .int) 3 E κ X [x_rf E 64] (vi (m_cal (X 64 3) (t_lot X) (t_M X))) := by
  refine x_Met.of [(false, x_rf E 64)] [some (x_rf E 64), none, none] 2 (by decide) rfl rfl ⟨x_cr E (64), trivial⟩ rfl rfl ?_
  intro p e s m args below meth c hargs hin B
  obtain ⟨hT, h8, hn⟩ := id hK
  have lp_4 : ∀ (n : Nat) (k b : Int), ((0 ≤ k ∧ k ≤ X 64 3) ∧ b = m_cb (t_lot X) (t_M X) k.toNat) → ((7 - k).toNat < n) → x_G p l e (x_rm 3 0 0) s m args below meth c 3 E 0 0 (MQ below (x_Q E κ (fun v_ X_ => v_ = some (vi (m_cal (X 64 3) (t_lot X) (t_M X))) ∧ X_ = X)) args s 0 0 (fun q => E.1 ≤ q)) κ 4 [some (x_rf E 64), some (vi b), some (vi k)] [] X := by
    intro n
    induction n with
    | zero => intro k b hi hme; exfalso; omega
    | succ n ih =>
      intro k b hi hme
      obtain ⟨hk, hb⟩ := hi
      have hbr := m_cb_r (t_lot X) (t_M X) k.toNat
      have hs := m_cb_s (t_lot X) (t_M X) hk.1
      rw [← hb] at hs hbr
      refine x_iload_n B dX8_calledNow_4 rfl ?_
      refine x_aload_n B dX8_calledNow_5 rfl ?_
      refine x_getI B (k := 3) 3 rfl rfl xc_7 (by decide) h8 (Or.inl q1338) (fun _ h => h) dX8_calledNow_6 (fun r_6 => ?_)
      refine x_icmp_ge B (tgt := 42) dX8_calledNow_9 (by decide) ⟨by omega, by omega⟩ ⟨by omega, by omega⟩ (fun h_9 => ?_) (fun h_9 => ?_)
      · obtain rfl : k = X 64 3 := by omega
        refine x_iload_n B dX8_calledNow_42 rfl ?_
        refine x_iret B (fun _ _ h => h) ?_ dX8_calledNow_43
        exact ⟨congrArg (fun z => some (vi z)) (by exact hb), rfl⟩
      · refine x_aload_n B dX8_calledNow_12 rfl ?_
        refine x_iload_n B dX8_calledNow_13 rfl ?_
        refine x_goP (x_rV B h8 (show x_cl[7]? = some _ from rfl) (c_X8_isStill hK (by assumption) ⟨by omega, by omega⟩) (lw_V q1593 q1595 qs61 q122 q1596) hv_X8_isStill ⟨by decide, by decide⟩ ⟨by decide, by decide⟩ rfl rfl (by simp [x_cr, x_c1, x_c2]) dX8_calledNow_14) ?_
        refine x_if_eq B (tgt := 36) dX8_calledNow_17 (by decide) ⟨by split <;> omega, by split <;> omega⟩ (fun h_17 => ?_) (fun h_17 => ?_)
        · refine x_iinc_2 B dX8_calledNow_36 (by first | rfl | exact x_cr _ _) ?_
          refine x_goto B (tgt := 4) dX8_calledNow_39 (by decide) ?_
          refine ih _ _ ⟨⟨by omega, by omega⟩, ?_⟩ (by omega)
          rw [hs]
          split
          · rename_i q
            first
            | rfl
            | (exfalso; rw [if_pos q.1] at h_17; omega)
            | (exfalso; rcases q.2 with z | z; exact h_22 z; rw [if_pos z] at h_31; omega)
          · rename_i q
            first
            | rfl
            | exact absurd ⟨hst, hca⟩ q
        · have hst : t_M X k 3 > 0 ∧ t_M X k 6 = 0 := by by_cases q : t_M X k 3 > 0 ∧ t_M X k 6 = 0; exact q; rw [if_neg q] at h_17; omega
          refine x_iload_n B dX8_calledNow_20 rfl ?_
          refine x_iconst B dX8_calledNow_21 ?_
          refine x_icmp_eq B (tgt := 34) dX8_calledNow_22 (by decide) ⟨by omega, by omega⟩ ⟨by omega, by omega⟩ (fun h_22 => ?_) (fun h_22 => ?_)
          · have hca : b = -1 ∨ t_M X k 3 < t_M X b 3 ∨ (t_M X k 3 = t_M X b 3 ∧ t_lot X k < t_lot X b) := by
              first
              | exact Or.inl h_22
              | (by_cases q : t_M X k 3 < t_M X b 3 ∨ (t_M X k 3 = t_M X b 3 ∧ t_lot X k < t_lot X b); exact Or.inr q; rw [if_neg q] at h_31; omega)
            refine x_iload_n B dX8_calledNow_34 rfl ?_
            refine x_ist_1 B dX8_calledNow_35 (by first | rfl | exact x_cr _ _) ?_
            refine x_iinc_2 B dX8_calledNow_36 (by first | rfl | exact x_cr _ _) ?_
            refine x_goto B (tgt := 4) dX8_calledNow_39 (by decide) ?_
            refine ih _ _ ⟨⟨by omega, by omega⟩, ?_⟩ (by omega)
            rw [hs]
            split
            · rename_i q
              first
              | rfl
              | (exfalso; rw [if_pos q.1] at h_17; omega)
              | (exfalso; rcases q.2 with z | z; exact h_22 z; rw [if_pos z] at h_31; omega)
            · rename_i q
              first
              | rfl
              | exact absurd ⟨hst, hca⟩ q
          · refine x_aload_n B dX8_calledNow_25 rfl ?_
            refine x_iload_n B dX8_calledNow_26 rfl ?_
            refine x_iload_n B dX8_calledNow_27 rfl ?_
            refine x_goP (x_rV B h8 (show x_cl[7]? = some _ from rfl) (c_X8_isCalledAhead hK (by assumption) ⟨by omega, by omega⟩ ⟨by omega, by omega⟩) (lw_V q1612 q1614 qs64 q122 q1615) hv_X8_isCalledAhead ⟨by decide, by decide⟩ ⟨by decide, by decide⟩ rfl rfl (by simp [x_cr, x_c1, x_c2]) dX8_calledNow_28) ?_
            refine x_if_eq B (tgt := 36) dX8_calledNow_31 (by decide) ⟨by split <;> omega, by split <;> omega⟩ (fun h_31 => ?_) (fun h_31 => ?_)
            · refine x_iinc_2 B dX8_calledNow_36 (by first | rfl | exact x_cr _ _) ?_
              refine x_goto B (tgt := 4) dX8_calledNow_39 (by decide) ?_
              refine ih _ _ ⟨⟨by omega, by omega⟩, ?_⟩ (by omega)
              rw [hs]
              split
              · rename_i q
                first
                | rfl
                | (exfalso; rw [if_pos q.1] at h_17; omega)
                | (exfalso; rcases q.2 with z | z; exact h_22 z; rw [if_pos z] at h_31; omega)
              · rename_i q
                first
                | rfl
                | exact absurd ⟨hst, hca⟩ q
            · have hca : b = -1 ∨ t_M X k 3 < t_M X b 3 ∨ (t_M X k 3 = t_M X b 3 ∧ t_lot X k < t_lot X b) := by
                first
                | exact Or.inl h_22
                | (by_cases q : t_M X k 3 < t_M X b 3 ∨ (t_M X k 3 = t_M X b 3 ∧ t_lot X k < t_lot X b); exact Or.inr q; rw [if_neg q] at h_31; omega)
              refine x_iload_n B dX8_calledNow_34 rfl ?_
              refine x_ist_1 B dX8_calledNow_35 (by first | rfl | exact x_cr _ _) ?_
              refine x_iinc_2 B dX8_calledNow_36 (by first | rfl | exact x_cr _ _) ?_
              refine x_goto B (tgt := 4) dX8_calledNow_39 (by decide) ?_
              refine ih _ _ ⟨⟨by omega, by omega⟩, ?_⟩ (by omega)
              rw [hs]
              split
              · rename_i q
                first
                | rfl
                | (exfalso; rw [if_pos q.1] at h_17; omega)
                | (exfalso; rcases q.2 with z | z; exact h_22 z; rw [if_pos z] at h_31; omega)
              · rename_i q
                first
                | rfl
                | exact absurd ⟨hst, hca⟩ q
  refine x_iconst B dX8_calledNow_0 ?_
  refine x_ist_1 B dX8_calledNow_1 (by first | rfl | exact x_cr _ _) ?_
  refine x_iconst B dX8_calledNow_2 ?_
  refine x_ist_2 B dX8_calledNow_3 (by first | rfl | exact x_cr _ _) ?_
  refine lp_4 _ _ _ ?_ (Nat.lt_succ_self _)
  exact ⟨⟨by omega, by omega⟩, rfl⟩
theorem c_X8_liftEnds {l : Launch} {E : x_E} {κ : x_Ka} {X : x_X}  (hK : t_K κ X) (hW : m_W (X 64 3) (t_M X)) (hP : t_P X) (hL : X 72 0 < 3) : x_Met l yX8_liftEnds cX8_liftEnds 2 none 3 0 0 E κ X [x_rf E 64] κ (fun v Y => v = none ∧ tw X Y ∧ t_M Y = m_lift (X 64 3) (fun l t => t_p3 X l t 0) (x_up (m_ek (t_M X) (X 64 3)) (-1) 1 (X 72 0 + 1)) ∧ ∀ a, 0 ≤ a → a < X 64 3 → Y 72 (3 + 10 * a + 2) = 0 ∧ Y 72 (3 + 10 * a + 3) = 0) := by
  refine x_Met.of [(false, x_rf E 64)] [some (x_rf E 64), none] 1 (by decide) rfl rfl ⟨x_cr E (64), trivial⟩ rfl rfl ?_
  intro p e s m args below meth c hargs hin B
  obtain ⟨hT, h8, hn⟩ := id hK
  have g1 : t_M X (-1) 1 = X 72 0 := t_M_g (by omega)
  have w1 := hW.1
  have hti : ti (10 + X 72 0) = 7 + X 72 0 := by rcases (show X 72 0 = 0 ∨ X 72 0 = 1 ∨ X 72 0 = 2 by omega) with e | e | e <;> rw [e] <;> decide
  have lp_2 : ∀ (n : Nat) (k : Int) (Y : x_X), ((0 ≤ k ∧ k ≤ X 64 3) ∧ tw X Y ∧ t_M Y = m_ek (t_M X) k) → ((7 - k).toNat < n) → x_G p l e (x_rm 3 0 0) s m args below meth c 2 E 0 0 (MQ below (x_Q E κ (fun v Y => v = none ∧ tw X Y ∧ t_M Y = m_lift (X 64 3) (fun l t => t_p3 X l t 0) (x_up (m_ek (t_M X) (X 64 3)) (-1) 1 (X 72 0 + 1)) ∧ ∀ a, 0 ≤ a → a < X 64 3 → Y 72 (3 + 10 * a + 2) = 0 ∧ Y 72 (3 + 10 * a + 3) = 0)) args s 0 0 (fun q => E.1 ≤ q)) κ 2 [some (x_rf E 64), some (vi k)] [] Y := by
    intro n
    induction n with
    | zero => intro k Y hinv hme; exfalso; omega
    | succ n ih =>
      intro k Y hinv hme
      obtain ⟨hk, hf, hM⟩ := hinv
      have hY : Y 64 = X 64 := hf 64 (by omega)
      have y3 : Y 64 3 = X 64 3 := by rw [hY]
      have y0 : Y 72 0 = X 72 0 := by have : t_M Y (-1) 1 = Y 72 0 := t_M_g (by omega); rw [← this, hM, m_ek_g, g1]
      refine x_iload_n B dX8_liftEnds_2 rfl ?_
      refine x_aload_n B dX8_liftEnds_3 rfl ?_
      refine x_getI B (k := 3) 3 rfl rfl xc_7 (by decide) h8 (Or.inl q1338) (fun _ h => h) dX8_liftEnds_4 (fun r_4 => ?_)
      refine x_icmp_ge B (tgt := 41) dX8_liftEnds_7 (by decide) ⟨by omega, by omega⟩ ⟨by omega, by omega⟩ (fun h_7 => ?_) (fun h_7 => ?_)
      · obtain rfl : k = X 64 3 := by omega
        refine x_aload_n B dX8_liftEnds_41 rfl ?_
        refine x_getC0 B (k := 11) hT rfl rfl xc_7 (by decide) h8 (Or.inl q1346) (fun _ h => h) dX8_liftEnds_42 (fun k_42 => ?_)
        refine x_iconst B dX8_liftEnds_45 ?_
        refine x_dup2 B dX8_liftEnds_46 (by first | rfl | exact x_cr _ _) (by first | rfl | exact x_cr _ _) ?_
        refine x_iald B k_42 ⟨by omega, by omega⟩ dX8_liftEnds_47 (fun r_47 => ?_)
        rw [y0] at r_47 ⊢
        refine x_iconst B dX8_liftEnds_48 ?_
        refine x_iadd B dX8_liftEnds_49 ?_
        refine x_iast B k_42 ⟨by omega, by omega⟩ ⟨by omega, by omega⟩ dX8_liftEnds_50 ?_
        have hZ : t_M (x_up Y 72 0 (X 72 0 + 1)) = x_up (m_ek (t_M X) (X 64 3)) (-1) 1 (X 72 0 + 1) := by have eg := t_M_ug (X := Y) (f := 1) (z := X 72 0 + 1) (by omega); rw [show (1 : Int) - 1 = 0 by omega] at eg; rw [eg, hM]
        have hfz : tw X (x_up Y 72 0 (X 72 0 + 1)) := hf.up
        have z00 : x_up Y 72 0 (X 72 0 + 1) 72 0 = X 72 0 + 1 := x_up_s _ _ _ _
        have z76 : ∀ a, 0 ≤ a → a < X 64 3 → 0 ≤ x_up Y 72 0 (X 72 0 + 1) 72 (3 + 10 * a + 6) ∧ x_up Y 72 0 (X 72 0 + 1) 72 (3 + 10 * a + 6) ≤ 1 := fun a a1 a2 => by
          have e7 := t_M_s (X := x_up Y 72 0 (X 72 0 + 1)) (l := a) (f := 7) (w := 6) (by rw [hfz 64 (by omega)]; omega) (by decide) (by omega) (by omega)
          rw [← e7, hZ, x_up_n _ (Or.inl (by omega))]; exact m_ek_7 (hW.2.1 a a1 a2).2.2.2.2.2.1
        generalize x_up Y 72 0 (X 72 0 + 1) = Z at hZ hfz z00 z76 ⊢
        have z3 : Z 64 3 = X 64 3 := by rw [hfz 64 (by omega)]
        have zp := t_p3_e z3 (hfz 71 (by omega))
        have hKZ : t_K κ Z := by unfold t_K at *; rw [z3]; exact hK
        have hPZ : t_P Z := by unfold t_P at *; rw [z3, zp]; exact hP
        refine x_aload_n B dX8_liftEnds_51 rfl ?_
        refine x_go (x_rV B h8 (show x_cl[7]? = some _ from rfl) (c_X8_liftBegins hKZ hPZ (by rw [z00]; omega) (fun a a1 a2 => z76 a a1 (by omega))) (lw_V q1513 q1515 qs49 q122 q1516) hv_X8_liftBegins ⟨by decide, by decide⟩ ⟨by decide, by decide⟩ rfl rfl (by simp [x_cr, x_c1, x_c2]) dX8_liftEnds_52) (fun v_52 X_52 p_52 => ?_)
        obtain ⟨rfl, hf2, hM2, hq2⟩ := p_52
        refine x_vret B (fun _ _ h => h) ?_ dX8_liftEnds_55
        refine ⟨rfl, hfz.trans hf2, by rw [hM2, z3, zp, hZ], fun a a1 a2 => hq2 a a1 (by omega)⟩
      · refine x_aload_n B dX8_liftEnds_10 rfl ?_
        refine x_iload_n B dX8_liftEnds_11 rfl ?_
        refine x_bipush B dX8_liftEnds_12 (by decide) ?_
        refine x_aload_n B dX8_liftEnds_14 rfl ?_
        refine x_getC0 B (k := 11) hT rfl rfl xc_7 (by decide) h8 (Or.inl q1346) (fun _ h => h) dX8_liftEnds_15 (fun k_15 => ?_)
        refine x_iconst B dX8_liftEnds_18 ?_
        refine x_iald B k_15 ⟨by omega, by omega⟩ dX8_liftEnds_19 (fun r_19 => ?_)
        rw [y0] at r_19 ⊢
        refine x_iadd B dX8_liftEnds_20 ?_
        rw [show 7 + X 72 0 = 7 + X 72 0 from rfl]
        refine x_goP (x_rV B h8 (show x_cl[7]? = some _ from rfl) (c_X8_of hT h8 ⟨by omega, by omega⟩) (lw_V q1525 q1527 qs52 q122 q1528) hv_X8_of ⟨by decide, by decide⟩ ⟨by decide, by decide⟩ rfl rfl (by simp [x_cr, x_c1, x_c2]) dX8_liftEnds_21) ?_
        refine x_rga (show κ 72 = some (.inr (0, 63)) from hT.1 64 7 h8 11 (0, 72, .inr (0, 63)) rfl) (3 + 10 * k + (7 + X 72 0)) ⟨by omega, by omega⟩ (fun rb => ?_)
        refine x_if_ne B (tgt := 35) dX8_liftEnds_24 (by decide) ⟨by omega, by omega⟩ (fun h_24 => ?_) (fun h_24 => ?_)
        · refine x_iinc_1 B dX8_liftEnds_35 (by first | rfl | exact x_cr _ _) ?_
          refine x_goto B (tgt := 2) dX8_liftEnds_38 (by decide) ?_
          have sb : Y 72 (3 + 10 * k + (7 + X 72 0)) = t_M X k (10 + t_M X (-1) 1) := by have := t_M_s (X := Y) (l := k) (f := 10 + X 72 0) (w := 7 + X 72 0) (by rw [hY]; omega) hti (by omega) (by omega); rw [← this, hM, m_ek_l (by omega), g1]
          first
          | (refine ih _ _ ⟨⟨by omega, by omega⟩, hf.up, ?_⟩ (by omega); rw [t_M_us (f := 7) (by rw [hY]; omega) (by decide) (by omega), hM]; exact m_ek_s1 hk.1 (by rw [← sb]; exact h_24))
          | (refine ih _ _ ⟨⟨by omega, by omega⟩, hf, ?_⟩ (by omega); rw [hM]; exact m_ek_s0 (by rw [← sb]; exact h_24))
        · refine x_aload_n B dX8_liftEnds_27 rfl ?_
          refine x_iload_n B dX8_liftEnds_28 rfl ?_
          refine x_bipush B dX8_liftEnds_29 (by decide) ?_
          refine x_iconst B dX8_liftEnds_31 ?_
          refine x_goV (x_rV B h8 (show x_cl[7]? = some _ from rfl) (c_X8_sets hT h8 ⟨by omega, by omega⟩ ⟨by omega, by omega⟩) (lw_V q1533 q1535 qs54 q122 q1536) hv_X8_sets ⟨by decide, by decide⟩ ⟨by decide, by decide⟩ rfl rfl (by simp [x_cr, x_c1, x_c2]) dX8_liftEnds_32) ?_
          refine x_iinc_1 B dX8_liftEnds_35 (by first | rfl | exact x_cr _ _) ?_
          refine x_goto B (tgt := 2) dX8_liftEnds_38 (by decide) ?_
          have sb : Y 72 (3 + 10 * k + (7 + X 72 0)) = t_M X k (10 + t_M X (-1) 1) := by have := t_M_s (X := Y) (l := k) (f := 10 + X 72 0) (w := 7 + X 72 0) (by rw [hY]; omega) hti (by omega) (by omega); rw [← this, hM, m_ek_l (by omega), g1]
          first
          | (refine ih _ _ ⟨⟨by omega, by omega⟩, hf.up, ?_⟩ (by omega); rw [t_M_us (f := 7) (by rw [hY]; omega) (by decide) (by omega), hM]; exact m_ek_s1 hk.1 (by rw [← sb]; exact h_24))
          | (refine ih _ _ ⟨⟨by omega, by omega⟩, hf, ?_⟩ (by omega); rw [hM]; exact m_ek_s0 (by rw [← sb]; exact h_24))
  refine x_iconst B dX8_liftEnds_0 ?_
  refine x_ist_1 B dX8_liftEnds_1 (by first | rfl | exact x_cr _ _) ?_
  exact lp_2 _ 0 X ⟨⟨by omega, by omega⟩, tw.rf X, m_ek_0 _⟩ (Nat.lt_succ_self _)
theorem c_X8_goesOn {l : Launch} {E : x_E} {κ : x_Ka} {X : x_X}  (hK : t_K κ X) (hW : m_W (X 64 3) (t_M X)) (hP : t_P X) (hLa : t_La X) (h0 : 0 < X 64 3) : x_Met l yX8_goesOn cX8_goesOn 1 none 4 0 0 E κ X [x_rf E 64] κ (fun v Y => v = none ∧ tw X Y ∧ t_M Y = m_go (X 64 3) (fun l t => t_p3 X l t 0) (t_lot X) 20 (t_M X) ∧ t_La Y) := by
  refine x_Met.of [(false, x_rf E 64)] [some (x_rf E 64)] 0 (by decide) rfl rfl ⟨x_cr E (64), trivial⟩ rfl rfl ?_
  intro p e s m args below meth c hargs hin B
  obtain ⟨hT, h8, hn⟩ := id hK
  have hp0 : m_P (X 64 3) (fun l t => t_p3 X l t 0) := fun l l1 l2 t t1 t2 => (hP l l1 l2 t t1 t2).1
  have lp_0 : ∀ (n : Nat) (f : Nat) (Y : x_X), (tw X Y ∧ m_W (X 64 3) (t_M Y) ∧ t_La Y ∧ 3 * (3 - Y 72 0) + (2 - Y 72 1) < f ∧ m_go (X 64 3) (fun l t => t_p3 X l t 0) (t_lot X) 20 (t_M X) = m_go (X 64 3) (fun l t => t_p3 X l t 0) (t_lot X) f (t_M Y)) → (f < n) → x_G p l e (x_rm 4 0 0) s m args below meth c 1 E 0 0 (MQ below (x_Q E κ (fun v Y => v = none ∧ tw X Y ∧ t_M Y = m_go (X 64 3) (fun l t => t_p3 X l t 0) (t_lot X) 20 (t_M X) ∧ t_La Y)) args s 0 0 (fun q => E.1 ≤ q)) κ 0 [some (x_rf E 64)] [] Y := by
    intro n
    induction n with
    | zero => intro f Y hinv hme; exfalso; omega
    | succ n ih =>
      intro f Y hinv hme
      obtain ⟨hf, hWY, hLY, hfu, hM⟩ := hinv
      have hY : Y 64 = X 64 := hf 64 (by omega)
      have y3 : Y 64 3 = X 64 3 := by rw [hY]
      have hKY : t_K κ Y := by unfold t_K at *; rw [hY]; exact hK
      have hp := t_p3_e y3 (hf 71 (by omega))
      have hlt := t_lot_e y3 (hf 67 (by omega))
      have hPY : t_P Y := by unfold t_P at *; rw [hp, y3]; exact hP
      have hWY2 : m_W (Y 64 3) (t_M Y) := by rw [y3]; exact hWY
      have g1 : t_M Y (-1) 1 = Y 72 0 := t_M_g (by omega)
      have g2 : t_M Y (-1) 2 = Y 72 1 := t_M_g (by omega)
      have w1 := hWY.1
      have hcr := m_cb_r (t_lot Y) (t_M Y) (Y 64 3).toNat
      have hcr2 : -1 ≤ m_cal (Y 64 3) (t_lot Y) (t_M Y) ∧ m_cal (Y 64 3) (t_lot Y) (t_M Y) < 6 := by unfold m_cal; omega
      refine x_aload_n B dX8_goesOn_0 rfl ?_
      refine x_getI B (k := 3) 3 rfl rfl xc_7 (by decide) h8 (Or.inl q1338) (fun _ h => h) dX8_goesOn_1 (fun r_1 => ?_)
      refine x_if_le B (tgt := 56) dX8_goesOn_4 (by decide) ⟨by omega, by omega⟩ (fun h_4 => (by exfalso; omega)) (fun h_4 => ?_)
      refine x_aload_n B dX8_goesOn_7 rfl ?_
      refine x_goP (x_rV B h8 (show x_cl[7]? = some _ from rfl) (c_X8_isOver hT h8) (lw_V q1517 q1519 qs50 q122 q1520) hv_X8_isOver ⟨by decide, by decide⟩ ⟨by decide, by decide⟩ rfl rfl (by simp [x_cr, x_c1, x_c2]) dX8_goesOn_8) ?_
      refine x_if_ne B (tgt := 56) dX8_goesOn_11 (by decide) ⟨by split <;> omega, by split <;> omega⟩ (fun h_11 => ?_) (fun h_11 => ?_)
      · refine x_vret B (fun _ _ h => h) ?_ dX8_goesOn_56
        refine ⟨rfl, hf, ?_, hLY⟩
        rw [hM, m_go_stop]
        intro q
        first | (apply h_19; rw [hlt, y3]; exact q.2) | (rw [g1] at q; rw [if_neg q.1] at h_11; omega)
      · have hn3 : Y 72 0 ≠ 3 := by intro q; rw [if_pos q] at h_11; omega
        refine x_aload_n B dX8_goesOn_14 rfl ?_
        refine x_goP (x_rV B h8 (show x_cl[7]? = some _ from rfl) (c_X8_calledNow hKY hWY2) (lw_V q1608 q1610 qs63 q122 q1611) hv_X8_calledNow ⟨by decide, by decide⟩ ⟨by decide, by decide⟩ rfl rfl (by simp [x_cr, x_c1, x_c2]) dX8_goesOn_15) ?_
        refine x_iconst B dX8_goesOn_18 ?_
        refine x_icmp_ne B (tgt := 56) dX8_goesOn_19 (by decide) ⟨by omega, by omega⟩ ⟨by omega, by omega⟩ (fun h_19 => ?_) (fun h_19 => ?_)
        · refine x_vret B (fun _ _ h => h) ?_ dX8_goesOn_56
          refine ⟨rfl, hf, ?_, hLY⟩
          rw [hM, m_go_stop]
          intro q
          first | (apply h_19; rw [hlt, y3]; exact q.2) | (rw [g1] at q; rw [if_neg q.1] at h_11; omega)
        · refine x_aload_n B dX8_goesOn_22 rfl ?_
          refine x_getC0 B (k := 11) hT rfl rfl xc_7 (by decide) h8 (Or.inl q1346) (fun _ h => h) dX8_goesOn_23 (fun k_23 => ?_)
          refine x_iconst B dX8_goesOn_26 ?_
          refine x_iald B k_23 ⟨by omega, by omega⟩ dX8_goesOn_27 (fun r_27 => ?_)
          refine x_iconst B dX8_goesOn_28 ?_
          refine x_icmp_ne B (tgt := 39) dX8_goesOn_29 (by decide) ⟨by omega, by omega⟩ ⟨by omega, by omega⟩ (fun h_29 => ?_) (fun h_29 => ?_)
          · refine x_aload_n B dX8_goesOn_39 rfl ?_
            refine x_getC0 B (k := 11) hT rfl rfl xc_7 (by decide) h8 (Or.inl q1346) (fun _ h => h) dX8_goesOn_40 (fun k_40 => ?_)
            refine x_iconst B dX8_goesOn_43 ?_
            refine x_dup2 B dX8_goesOn_44 (by first | rfl | exact x_cr _ _) (by first | rfl | exact x_cr _ _) ?_
            refine x_iald B k_40 ⟨by omega, by omega⟩ dX8_goesOn_45 (fun r_45 => ?_)
            refine x_iconst B dX8_goesOn_46 ?_
            refine x_iadd B dX8_goesOn_47 ?_
            refine x_iast B k_40 ⟨by omega, by omega⟩ ⟨by omega, by omega⟩ dX8_goesOn_48 ?_
            refine x_aload_n B dX8_goesOn_49 rfl ?_
            refine x_go (x_rV B h8 (show x_cl[7]? = some _ from rfl) (c_X8_roundBegins (show t_K κ (x_up Y 72 1 (Y 72 1 + 1)) by unfold t_K at *; rw [x_up_o _ (by omega)]; exact hKY) ⟨⟨by rw [x_up_n _ (Or.inr (by omega))]; omega, by rw [x_up_n _ (Or.inr (by omega))]; omega⟩, ⟨by rw [x_up_s]; omega, by rw [x_up_s]; omega⟩⟩) (lw_V q1537 q1539 qs55 q122 q1540) hv_X8_roundBegins ⟨by decide, by decide⟩ ⟨by decide, by decide⟩ rfl rfl (by simp [x_cr, x_c1, x_c2]) dX8_goesOn_50) (fun v_50 X_50 p_50 => ?_)
            refine x_goto B (tgt := 0) dX8_goesOn_53 (by decide) ?_
            obtain ⟨f, rfl⟩ : ∃ q, f = q + 1 := ⟨f - 1, by omega⟩
            rw [hlt, y3] at h_19
            have hcb := m_cb_none (t_lot X) (t_M Y) (X 64 3).toNat h_19
            first
            | (obtain ⟨rfl, hf2, hM2, hq2⟩ := p_33; have hMn : t_M X_33 = m_next (X 64 3) (fun l t => t_p3 X l t 0) (t_M Y) := (by rw [hM2, hp, y3]; unfold m_next; rw [g2, if_neg (by omega), g1]); have hW3 : m_W (X 64 3) (t_M X_33) := (by rw [hMn]; unfold m_next; rw [if_neg (by omega)]; exact m_W_nl hp0 hWY (by omega)); have v1 : X_33 72 0 = Y 72 0 + 1 := (by have := t_M_g (X := X_33) (f := 1) (by omega); rw [show (1 : Int) - 1 = 0 by omega] at this; rw [← this, hMn]; unfold m_next; rw [if_neg (by omega), m_lift_g.1, x_up_s, g1]); have v2 : X_33 72 1 = 0 := (by have := t_M_g (X := X_33) (f := 2) (by omega); rw [show (2 : Int) - 1 = 1 by omega] at this; rw [← this, hMn]; unfold m_next; rw [if_neg (by omega), m_lift_g.2.1]); refine ih f X_33 ⟨hf.trans hf2, hW3, fun a a1 a2 => (by rw [hf2 64 (by omega), y3] at a2; have := hq2 a a1 (by rw [y3]; exact a2); rw [this.1, this.2]; omega), by omega, ?_⟩ (by omega); rw [hM, hMn]; conv => (lhs; unfold m_go); rw [if_pos ⟨by rw [g1]; exact hn3, h_19⟩])
            | (obtain ⟨rfl, hf2, hM2, hq2⟩ := p_50; have hZ : t_M (x_up Y 72 1 (Y 72 1 + 1)) = x_up (t_M Y) (-1) 2 (Y 72 1 + 1) := (by have eg := t_M_ug (X := Y) (f := 2) (z := Y 72 1 + 1) (by omega); rw [show (2 : Int) - 1 = 1 by omega] at eg; exact eg); have hMn : t_M X_50 = m_next (X 64 3) (fun l t => t_p3 X l t 0) (t_M Y) := (by rw [hM2, hZ, x_up_s, x_up_o _ (by omega), y3]; unfold m_next; rw [g2, if_pos (by omega)]; funext a f; simp only [m_rk, x_up]; grind); have hW3 : m_W (X 64 3) (t_M X_50) := (by rw [hMn]; unfold m_next; rw [if_pos (by omega)]; exact m_W_rk hWY (by omega) (fun l l1 l2 => hcb l l1 (by omega))); have v1 : X_50 72 0 = Y 72 0 := (by have := t_M_g (X := X_50) (f := 1) (by omega); rw [show (1 : Int) - 1 = 0 by omega] at this; rw [← this, hMn]; unfold m_next; rw [if_pos (by omega), ← g1]; simp [m_rk]); have v2 : X_50 72 1 = Y 72 1 + 1 := (by have := t_M_g (X := X_50) (f := 2) (by omega); rw [show (2 : Int) - 1 = 1 by omega] at this; rw [← this, hMn]; unfold m_next; rw [if_pos (by omega), ← g2]; simp [m_rk]); refine ih f X_50 ⟨(hf.up).trans hf2, hW3, fun a a1 a2 => (by rw [hf2 64 (by omega), x_up_o _ (by omega), y3] at a2; have := hq2 a a1 (by omega); rw [this.1, this.2, x_up_n _ (Or.inr (by omega)), x_up_n _ (Or.inr (by omega))]; exact hLY a a1 (by rw [y3]; exact a2)), by omega, ?_⟩ (by omega); rw [hM, hMn]; conv => (lhs; unfold m_go); rw [if_pos ⟨by rw [g1]; exact hn3, h_19⟩])
          · refine x_aload_n B dX8_goesOn_32 rfl ?_
            refine x_go (x_rV B h8 (show x_cl[7]? = some _ from rfl) (c_X8_liftEnds hKY hWY2 hPY (by omega)) (lw_V q1648 q1650 qs70 q122 q1651) hv_X8_liftEnds ⟨by decide, by decide⟩ ⟨by decide, by decide⟩ rfl rfl (by simp [x_cr, x_c1, x_c2]) dX8_goesOn_33) (fun v_33 X_33 p_33 => ?_)
            refine x_goto B (tgt := 0) dX8_goesOn_36 (by decide) ?_
            obtain ⟨f, rfl⟩ : ∃ q, f = q + 1 := ⟨f - 1, by omega⟩
            rw [hlt, y3] at h_19
            have hcb := m_cb_none (t_lot X) (t_M Y) (X 64 3).toNat h_19
            first
            | (obtain ⟨rfl, hf2, hM2, hq2⟩ := p_33; have hMn : t_M X_33 = m_next (X 64 3) (fun l t => t_p3 X l t 0) (t_M Y) := (by rw [hM2, hp, y3]; unfold m_next; rw [g2, if_neg (by omega), g1]); have hW3 : m_W (X 64 3) (t_M X_33) := (by rw [hMn]; unfold m_next; rw [if_neg (by omega)]; exact m_W_nl hp0 hWY (by omega)); have v1 : X_33 72 0 = Y 72 0 + 1 := (by have := t_M_g (X := X_33) (f := 1) (by omega); rw [show (1 : Int) - 1 = 0 by omega] at this; rw [← this, hMn]; unfold m_next; rw [if_neg (by omega), m_lift_g.1, x_up_s, g1]); have v2 : X_33 72 1 = 0 := (by have := t_M_g (X := X_33) (f := 2) (by omega); rw [show (2 : Int) - 1 = 1 by omega] at this; rw [← this, hMn]; unfold m_next; rw [if_neg (by omega), m_lift_g.2.1]); refine ih f X_33 ⟨hf.trans hf2, hW3, fun a a1 a2 => (by rw [hf2 64 (by omega), y3] at a2; have := hq2 a a1 (by rw [y3]; exact a2); rw [this.1, this.2]; omega), by omega, ?_⟩ (by omega); rw [hM, hMn]; conv => (lhs; unfold m_go); rw [if_pos ⟨by rw [g1]; exact hn3, h_19⟩])
            | (obtain ⟨rfl, hf2, hM2, hq2⟩ := p_50; have hZ : t_M (x_up Y 72 1 (Y 72 1 + 1)) = x_up (t_M Y) (-1) 2 (Y 72 1 + 1) := (by have eg := t_M_ug (X := Y) (f := 2) (z := Y 72 1 + 1) (by omega); rw [show (2 : Int) - 1 = 1 by omega] at eg; exact eg); have hMn : t_M X_50 = m_next (X 64 3) (fun l t => t_p3 X l t 0) (t_M Y) := (by rw [hM2, hZ, x_up_s, x_up_o _ (by omega), y3]; unfold m_next; rw [g2, if_pos (by omega)]; funext a f; simp only [m_rk, x_up]; grind); have hW3 : m_W (X 64 3) (t_M X_50) := (by rw [hMn]; unfold m_next; rw [if_pos (by omega)]; exact m_W_rk hWY (by omega) (fun l l1 l2 => hcb l l1 (by omega))); have v1 : X_50 72 0 = Y 72 0 := (by have := t_M_g (X := X_50) (f := 1) (by omega); rw [show (1 : Int) - 1 = 0 by omega] at this; rw [← this, hMn]; unfold m_next; rw [if_pos (by omega), ← g1]; simp [m_rk]); have v2 : X_50 72 1 = Y 72 1 + 1 := (by have := t_M_g (X := X_50) (f := 2) (by omega); rw [show (2 : Int) - 1 = 1 by omega] at this; rw [← this, hMn]; unfold m_next; rw [if_pos (by omega), ← g2]; simp [m_rk]); refine ih f X_50 ⟨(hf.up).trans hf2, hW3, fun a a1 a2 => (by rw [hf2 64 (by omega), x_up_o _ (by omega), y3] at a2; have := hq2 a a1 (by omega); rw [this.1, this.2, x_up_n _ (Or.inr (by omega)), x_up_n _ (Or.inr (by omega))]; exact hLY a a1 (by rw [y3]; exact a2)), by omega, ?_⟩ (by omega); rw [hM, hMn]; conv => (lhs; unfold m_go); rw [if_pos ⟨by rw [g1]; exact hn3, h_19⟩])
  refine lp_0 _ 20 X ⟨tw.rf X, hW, hLa, by have := hW.1; have g1 : t_M X (-1) 1 = X 72 0 := t_M_g (by omega); have g2 : t_M X (-1) 2 = X 72 1 := t_M_g (by omega); omega, rfl⟩ (Nat.lt_succ_self _)
