/-! ===== signs; asking; tries; plays ===== -/
theorem p_fr.cf {X Y : x_X} (h : p_fr X Y) : CFr X Y := fun a a1 a2 => h.1 a (by omega) (by omega) (by omega)
theorem Rel_sg {κ : x_Ka} {X Y Z : x_X} {j z : Int} (h : Rel κ X j) (hj : 0 ≤ j) (hq : ¬ (X 0 5 + 4 > 240)) (hY : Y = g_sg X z 4) (h8 : (∀ a, a ≠ 64 → a ≠ 75 → Z a = Y a) ∧ (∀ i, i ≠ 0 → i ≠ 18 → Z 64 i = Y 64 i) ∧ Z 64 18 = Y 64 18 + 4 ∧ (∀ i, i < Y 64 18 → Z 75 i = Y 75 i) ∧ ∀ k, 0 ≤ k → k < 4 → Z 75 (Y 64 18 + k) = i_and (i_shr z (24 - 8 * k)) 255) : Rel κ Z (j + 1) := by
  have ya : ∀ a, a ≠ 0 → a ≠ 31 → Y a = X a := fun a a1 a2 => by rw [hY]; funext i; unfold g_sg; rw [if_neg (fun q => a2 q.1), if_neg (fun q => a1 q.1)]
  have y0 : ∀ i, i ≠ 5 → Y 0 i = X 0 i := fun i hi => by rw [hY]; unfold g_sg; rw [if_neg (by omega), if_neg (fun q => hi q.2)]
  have y5 : Y 0 5 = X 0 5 + 4 := by rw [hY]; unfold g_sg; rw [if_neg (by omega), if_pos ⟨rfl, rfl⟩]
  have h5 := h.1.2.2.2.2.1
  have e18 : Y 64 18 = X 0 5 := by rw [ya 64 (by omega) (by omega)]; exact h.2.2.2.2.1.2.1
  have hS := h.2.2.2.2.1.2.2
  rw [e18] at h8
  refine Rel_s h hj (fun a a1 _ a2 => ya a (by omega) a2) y0 (by rw [ya (-1) (by omega) (by omega)]; omega) (by omega) (fun a a1 a2 _ => h8.1 a a1 a2) (fun i i1 i2 => h8.2.1 i i1 (by omega)) (by rw [h8.2.2.1, y5]) (fun p hp => ?_)
  by_cases q : p < X 0 5
  · rw [h8.2.2.2.1 p q, ya 75 (by omega) (by omega), hS p q, hY]
    unfold g_sg; rw [if_neg (by omega), if_neg (by omega)]
  · have e := h8.2.2.2.2 (p - X 0 5) (by omega) (by omega)
    rw [show X 0 5 + (p - X 0 5) = p by omega] at e
    rw [e, i_and_255, hY]
    unfold g_sg; rw [if_pos ⟨rfl, by omega, by omega⟩]
theorem Rel_end {κ : x_Ka} {X : x_X} {j z : Int} (h : Rel κ X j) (hj : 0 ≤ j) (hq : x_in z 0 (X 0 5) = 1) : Rel κ (x_up (x_up (x_up X 0 5 z) 64 0 0) 64 18 z) (j + 1) := by
  have hz : 0 ≤ z ∧ z ≤ X 0 5 := by unfold x_in at hq; split at hq <;> omega
  have h5 := h.1.2.2.2.2.1
  have hS := h.2.2.2.2.1.2.2
  refine Rel_s (Y := x_up X 0 5 z) h hj (fun a a1 _ _ => x_up_o _ (by omega)) (fun i hi => x_up_n _ (Or.inr hi)) (by rw [x_up_o _ (by omega)]; omega) (by rw [x_up_s]; omega) (fun a a1 a2 _ => by rw [x_up_o _ a1, x_up_o _ a1]) (fun i i1 i2 => by rw [x_up_n _ (Or.inr (by omega)), x_up_n _ (Or.inr i1)]) (by rw [x_up_s, x_up_s]) (fun p hp => ?_)
  rw [x_up_s] at hp
  rw [x_up_o _ (by omega), x_up_o _ (by omega), x_up_o _ (by omega), x_up_o _ (by omega)]
  exact hS p (by omega)
theorem m_W_up5 {n : Int} {M : x_X} {i z : Int} (h : m_W n M) (hi : 0 ≤ i ∧ i < n) (hz : 0 ≤ z ∧ z ≤ 2) : m_W n (x_up M i 5 z) := by
  obtain ⟨hG, hR, hS⟩ := h
  have g : ∀ f, x_up M i 5 z (-1) f = M (-1) f := fun f => x_up_n _ (Or.inl (by omega))
  have o : ∀ l f, f ≠ 5 → x_up M i 5 z l f = M l f := fun l f hf => x_up_n _ (Or.inr hf)
  refine ⟨by rw [g, g, g]; exact hG, fun l l1 l2 => ?_, fun l l1 l2 => ?_⟩
  · have hr := hR l l1 l2
    rw [o l 2 (by omega), o l 3 (by omega), o l 4 (by omega), o l 6 (by omega), o l 7 (by omega), o l 10 (by omega), o l 11 (by omega), o l 12 (by omega)]
    refine ⟨hr.1, hr.2.1, hr.2.2.1, ?_, hr.2.2.2.2⟩
    by_cases e : l = i
    · subst e; rw [x_up_s]; exact hz
    · rw [x_up_n _ (Or.inl e)]; exact hr.2.2.2.1
  · rw [g, g, o l 2 (by omega), o l 3 (by omega), o l 4 (by omega), o l 6 (by omega), o l 7 (by omega), o l 11 (by omega), o l 12 (by omega), o l (10 + M (-1) 1) (by omega)]
    exact hS l l1 l2
theorem u_asks_i {n : Int} {M : x_X} {i w : Int} (h : 0 ≤ u_asks n M i w) : (0 ≤ i ∧ i < n) ∧ (1 ≤ w ∧ w ≤ 40) ∧ (M i 3 > 0 ∧ M i 6 = 0) ∧ m_least M i ≤ w ∧ M i 5 ≠ 0 ∧ u_asks n M i w = M i 5 - 1 := by
  unfold u_asks at h ⊢
  by_cases q : x_in i 0 (n - 1) = 1 ∧ x_in w 1 40 = 1
  · rw [if_pos q] at h ⊢
    by_cases q2 : M i 3 > 0 ∧ M i 6 = 0
    · rw [if_pos q2] at h ⊢
      by_cases q3 : M i 5 = 0
      · rw [if_pos q3] at h; omega
      · rw [if_neg q3] at h ⊢
        by_cases q4 : w < m_least M i ∨ w = M i 3
        · rw [if_pos q4] at h; omega
        · rw [if_neg q4]
          have hw := q.2
          unfold x_in at hw
          refine ⟨x_in_i q.1, ?_, q2, by omega, q3, rfl⟩
          split at hw <;> omega
    · rw [if_neg q2] at h; omega
  · rw [if_neg q] at h; omega
theorem Rel_as {κ : x_Ka} {X Y Z : x_X} {j i w u : Int} (h : Rel κ X j) (hj : 0 ≤ j) (hud : u_asks (X 1 2) (c_M X 3) i w = u) (hu : 0 ≤ u) (hY : Y = x_up (x_up X (3 + 1 + 1 + 2 * i) 3 w) (3 + 1 + 1 + 2 * i) 5 u) (hZ : Z = x_up (x_up (x_up Y 64 0 0) 72 (3 + 10 * i + 0) w) 72 (3 + 10 * i + 5) u) : Rel κ Z (j + 1) := by
  have hC := h.1
  obtain ⟨hi, hw, hs, hle, h5, hu5⟩ := u_asks_i (by rw [hud]; exact hu)
  rw [hud] at hu5
  have hn := hC.1.1.1.2.2.1
  have hW := hC.1.1.2.2.2.1
  have hJ := hC.1.1.2.2.2.2
  have hQ := hC.2.2.2.2.2.2.2.2
  have hr := hW.2.1 i hi.1 hi.2
  have hml : c_M X 3 i 4 ≤ w := by
    unfold m_least at hle
    rw [if_neg (by omega), if_pos hs.2] at hle
    have := Int.le_max_left (c_M X 3 i 4) (c_M X 3 (-1) 3)
    omega
  have hM : c_M Y 3 = x_up (x_up (c_M X 3) i 3 w) i 5 u := by
    rw [hY, c_M_us (by omega) ⟨hi.1, by rw [x_up_o _ (by omega)]; exact hi.2⟩ (by omega), c_M_us (by omega) hi (by omega)]
  have hMo : ∀ l f, f ≠ 3 → f ≠ 5 → x_up (x_up (c_M X 3) i 3 w) i 5 u l f = c_M X 3 l f := fun l f f3 f5 => by rw [x_up_n _ (Or.inr f5), x_up_n _ (Or.inr f3)]
  have hMi : ∀ l f, l ≠ i → x_up (x_up (c_M X 3) i 3 w) i 5 u l f = c_M X 3 l f := fun l f hl => by rw [x_up_n _ (Or.inl hl), x_up_n _ (Or.inl hl)]
  have yo : ∀ a, a ≠ 3 + 1 + 1 + 2 * i → Y a = X a := fun a ha => by rw [hY, x_up_o _ ha, x_up_o _ ha]
  have yf : ∀ a k, k ≠ 3 → k ≠ 5 → Y a k = X a k := fun a k k1 k2 => by rw [hY, x_up_n _ (Or.inr k2), x_up_n _ (Or.inr k1)]
  have hp : p_fr X Y := ⟨fun a a1 a2 a3 => yo a (by omega), fun k k1 k2 k3 => by rw [yo 0 (by omega)]⟩
  have hcf := hp.cf
  have hVY := h.2.2.1.t (teq.cf hcf)
  have zo : ∀ a, a ≠ 64 → a ≠ 72 → Z a = Y a := fun a a1 a2 => by rw [hZ, x_up_o _ a2, x_up_o _ a2, x_up_o _ a1]
  have z64 : ∀ k, k ≠ 0 → Z 64 k = Y 64 k := fun k hk => by rw [hZ, x_up_o _ (by omega), x_up_o _ (by omega), x_up_n _ (Or.inr hk)]
  have z72 : ∀ k, k ≠ 3 + 10 * i + 0 → k ≠ 3 + 10 * i + 5 → Z 72 k = Y 72 k := fun k k1 k2 => by rw [hZ, x_up_n _ (Or.inr k2), x_up_n _ (Or.inr k1), x_up_o _ (by omega)]
  have n3 : Y 64 3 = X 1 2 := hVY.1
  have hTY := h.2.1.cf hcf h.2.1.1.1.1 h.2.1.1.1.2.1
  have hMZ : t_M Z = x_up (x_up (t_M Y) i 3 w) i 5 u := by
    have e0 : t_M (x_up Y 64 0 0) = t_M Y := t_M_e (x_up_n _ (Or.inr (by omega))) (x_up_o _ (by omega))
    have e3 : x_up Y 64 0 0 64 3 = X 1 2 := by rw [x_up_n _ (Or.inr (by omega))]; exact n3
    rw [hZ, t_M_us (f := 5) ⟨hi.1, by rw [x_up_o _ (by omega), e3]; exact hi.2⟩ (by rfl) (by omega), t_M_us (f := 3) ⟨hi.1, by rw [e3]; exact hi.2⟩ (by rfl) (by omega), e0]
  refine Rel_m h hj hp ?_ ?_ ?_ ?_ ?_ (fun b b1 b2 b3 b4 => zo b b3 b1) (fun k k1 k2 k3 k4 k5 k6 => z64 k k1) (by rw [hMZ, hM, hVY.2.1]) ?_ (hTY.2.e (z64 14 (by omega)) (z64 13 (by omega)) (t_G_e (z64 13 (by omega)) (zo 74 (by omega) (by omega)))) ⟨?_, ?_⟩ ?_
  · rw [hM]; exact m_W_up5 (m_W_up3 hW hi hs.1 ⟨hml, hw.2⟩) hi (by omega)
  · intro l l1 l2 l3
    rw [yo 1 (by omega)] at l2
    rw [yf _ 1 (by omega) (by omega), yf _ 6 (by omega) (by omega), yf 3 2 (by omega) (by omega)]
    refine hJ l l1 l2 ?_
    by_cases e : l = i
    · rw [e, ← c_M_s hi (by omega)]; exact hs.1
    · rw [yo _ (by omega)] at l3; exact l3
  · rw [hM]
    intro l l1 l2 l3 l6
    rw [hMo l 6 (by omega) (by omega)] at l6
    rw [hMo (-1) 2 (by omega) (by omega)]
    by_cases e : l = i
    · rw [e, hs.2] at l6; omega
    · rw [hMi l 3 e] at l3; exact hQ l l1 l2 l3 l6
  · rw [yo 0 (by omega)]; exact hC.2.2.2.2.2.1
  · have e : m_T (X 1 2) (c_M Y 3) = m_T (X 1 2) (c_M X 3) := by
      unfold m_T
      rw [hM, hMo (-1) 2 (by omega) (by omega), hMi (-1) 1 (by omega), g_sm_c (g := fun l => c_M X 3 l 6) _ (fun k _ _ => hMo k 6 (by omega) (by omega))]
    rw [e, yo 0 (by omega)]; exact hC.2.2.2.2.2.2.1
  · intro l l1 l2
    rw [z64 3 (by omega)] at l2
    rw [z72 _ (by omega) (by omega), z72 _ (by omega) (by omega)]
    exact hTY.1.2.2.2.2 l l1 l2
  · rw [t_G_e (z64 13 (by omega)) (zo 74 (by omega) (by omega)), t_G_e (congrFun (hcf 64 (by omega) (by omega)) 13) (hcf 74 (by omega) (by omega)), h.2.2.2.1.1]
    exact (c_G_e (by rw [yo 0 (by omega)]) (fun a a1 a2 => yo a (by omega))).symm
  · rw [z64 13 (by omega), hcf 64 (by omega) (by omega), yo 0 (by omega)]; exact h.2.2.2.1.2
  · have hR := h.2.2.2.2.2
    unfold ER at *
    rw [z64 1 (by omega), zo 65 (by omega) (by omega), hcf 64 (by omega) (by omega), hcf 65 (by omega) (by omega), yo 0 (by omega), yo 32 (by omega)]; exact hR
theorem t_tl2 (Z : x_X) (a b : Int) (h : Z 64 1 = 0) : t_tl (t_tl Z a) b 64 1 = 2 ∧ t_tl (t_tl Z a) b 65 0 = a ∧ t_tl (t_tl Z a) b 65 1 = b := by
  have h1 := t_tl1 Z a h
  have h2 := t_tl1 (t_tl Z a) b h1.1
  exact ⟨by rw [h2.1]; omega, by rw [h2.2.2 0 (by omega)]; exact h1.2.1, by have := h2.2.1; rw [show (0 : Int) + 1 = 1 by omega] at this; exact this⟩
theorem x_tl_o {Z : x_X} {a b : Int} (h0 : b ≠ 0) (h2 : b ≠ 32) : x_tl Z a b = Z b := by unfold x_tl; rw [x_up_o _ h0, x_up_o _ h2]
theorem x_tl_7 {Z : x_X} {a k : Int} (h : k ≠ 7) : x_tl Z a 0 k = Z 0 k := by unfold x_tl; rw [x_up_n _ (Or.inr h), x_up_o _ (by omega)]
theorem t_tl_o {Z : x_X} {a b : Int} (h0 : b ≠ 64) (h2 : b ≠ 65) : t_tl Z a b = Z b := by unfold t_tl; rw [x_up_o _ h0, x_up_o _ h2]
theorem t_tl_1 {Z : x_X} {a k : Int} (h : k ≠ 1) : t_tl Z a 64 k = Z 64 k := by unfold t_tl; rw [x_up_n _ (Or.inr h), x_up_o _ (by omega)]
/-- behind a try: the cells -/
theorem tr_fr {X Y Y1 : x_X} {l t x g a b : Int} (hf : c_fr 3 (c_lg X l t x g) Y1) (hY : Y = x_tl (x_tl (x_up Y1 0 7 0) a) b) : p_fr X Y ∧ (∀ c, c ≠ 0 → c ≠ 32 → Y c = Y1 c) ∧ (∀ k, k ≠ 7 → Y 0 k = Y1 0 k) ∧ Y 0 7 = 2 ∧ Y 32 0 = a ∧ Y 32 1 = b := by
  have hp := p_fr.lg hf
  have h1 : ∀ c, c ≠ 0 → c ≠ 32 → Y c = Y1 c := fun c c1 c2 => by rw [hY, x_tl_o c1 c2, x_tl_o c1 c2, x_up_o _ c1]
  have h2 : ∀ k, k ≠ 7 → Y 0 k = Y1 0 k := fun k hk => by rw [hY, x_tl_7 hk, x_tl_7 hk, x_up_n _ (Or.inr hk)]
  have h3 := x_tl2 (x_up Y1 0 7 0) a b (x_up_s _ _ _ _)
  rw [← hY] at h3
  exact ⟨⟨fun c c1 c2 c3 => (h1 c c3 (by omega)).trans (hp.1 c c1 c2 c3), fun k k1 k2 k3 => (h2 k k1).trans (hp.2 k k1 k2 k3)⟩, h1, h2, h3⟩
theorem Rel_tr {κ : x_Ka} {X Y Z Y1 Z1 : x_X} {j g : Int} (h : Rel κ X j) (hj : 0 ≤ j) (hg : 0 ≤ g ∧ g ≤ 1) (hc : m_cal (X 1 2) (c_lot X) (c_M X 3) ≠ -1)
    (hf : c_fr 3 (c_lg X (m_cal (X 1 2) (c_lot X) (c_M X 3)) (c_M X 3 (-1) 1) (c_M X 3 (m_cal (X 1 2) (c_lot X) (c_M X 3)) 3) g) Y1) (hM : c_M Y1 3 = y_M (X 1 2) (c_lot X) (c_p3 X) (c_M X 3) g) (hJ : c_J Y1 3) (hY : Y = x_tl (x_tl (x_up Y1 0 7 0) (c_M X 3 (m_cal (X 1 2) (c_lot X) (c_M X 3)) 3)) (y_v (X 1 2) (c_lot X) (c_p3 X) (c_M X 3) g))
    (h8 : (∀ b, b ≠ 72 → b ≠ 74 → b ≠ 64 → Z1 b = Y b) ∧ (∀ i, i ≠ 0 → i ≠ 13 → i ≠ 14 → i ≠ 16 → Z1 64 i = Y 64 i) ∧ (Z1 64 13 = Y 64 13 + 1 ∧ Z1 64 14 = Y 64 14 + g) ∧ t_G Z1 = y_G (Y 64 3) (t_lot Y) (t_M Y) (Y 64 13) (t_G Y) g ∧ t_M Z1 = y_M (Y 64 3) (t_lot Y) (t_p3 Y) (t_M Y) g ∧ t_La Z1 ∧ Z = t_tl (t_tl (x_up Z1 64 1 0) (t_M Y (m_cal (Y 64 3) (t_lot Y) (t_M Y)) 3)) (y_v (Y 64 3) (t_lot Y) (t_p3 Y) (t_M Y) g)) : Rel κ Z (j + 1) := by
  have hC := h.1
  have hn := hC.1.1.1.2.2.1
  have hW := hC.1.1.2.2.2.1
  have h12 := hC.2.2.2.2.2.2.1
  obtain ⟨hp, y1, y0, y7, r0, r1⟩ := tr_fr hf hY
  obtain ⟨hGl, h12l⟩ := c_G_lg hf h12.1
  have hcf := hp.cf
  have hVY := h.2.2.1.t (teq.cf hcf)
  have hTY := h.2.1.cf hcf h.2.1.1.1.1 h.2.1.1.1.2.1
  have y64 := hcf 64 (by omega) (by omega)
  have e13 : Y 64 13 = X 0 12 := by rw [y64]; exact h.2.2.2.1.2
  have eG : t_G Y = c_G X := by rw [t_G_e (congrFun y64 13) (hcf 74 (by omega) (by omega))]; exact h.2.2.2.1.1
  have hgd := hTY.2
  rw [hVY.1, hVY.2.1, hVY.2.2.2.1, hVY.2.2.2.2.1, eG] at h8
  obtain ⟨q1, q2, ⟨q13, q14⟩, qG, qM, qL, hZ⟩ := h8
  have e12 : Y 1 2 = X 1 2 := by rw [hp.1 1 (by omega) (by omega) (by omega)]
  have hMY : c_M Y 3 = c_M Y1 3 := by
    have e1 := y1 1 (by omega) (by omega)
    have e3 := y1 3 (by omega) (by omega)
    funext l f
    unfold c_M
    rw [e1, e3]
    by_cases q : l = -1
    · rw [if_pos q, if_pos q]
    · by_cases qq : 0 ≤ l ∧ l < Y1 1 2
      · have : Y1 1 2 ≤ 6 := by rw [← e1, e12]; exact hn.2
        rw [if_neg q, if_neg q, if_pos qq, if_pos qq, y1 (3 + 1 + 1 + 2 * l) (by omega) (by omega), y1 (3 + 1 + 1 + 2 * l + 1) (by omega) (by omega)]
      · rw [if_neg q, if_neg q, if_neg qq, if_neg qq]
  have hyM := y_M_W (pl := c_p3 X) hn.1 (c_p3_r hC.1.1.2.1) hW hg hc
  have h53 := m_T_53 hn hW hc
  have z1 : ∀ b, b ≠ 64 → b ≠ 65 → Z b = Z1 b := fun b b1 b2 => by rw [hZ, t_tl_o b1 b2, t_tl_o b1 b2, x_up_o _ b1]
  have z0 : ∀ k, k ≠ 1 → Z 64 k = Z1 64 k := fun k hk => by rw [hZ, t_tl_1 hk, t_tl_1 hk, x_up_n _ (Or.inr hk)]
  have hr2 := t_tl2 (x_up Z1 64 1 0) (c_M X 3 (m_cal (X 1 2) (c_lot X) (c_M X 3)) 3) (y_v (X 1 2) (c_lot X) (c_p3 X) (c_M X 3) g) (x_up_s _ _ _ _)
  rw [← hZ] at hr2
  have eGZ : t_G Z = t_G Z1 := t_G_e (z0 13 (by omega)) (z1 74 (by omega) (by omega))
  have z13 : Z 64 13 = X 0 12 + 1 := by rw [z0 13 (by omega), q13, e13]
  have hyG : t_G Z = y_log (c_G X) (X 0 12) (m_cal (X 1 2) (c_lot X) (c_M X 3)) (c_M X 3 (-1) 1) (c_M X 3 (m_cal (X 1 2) (c_lot X) (c_M X 3)) 3) g := by rw [eGZ, qG, e13]; rfl
  have Y12 : Y 0 12 = X 0 12 + 1 := by rw [y0 12 (by omega), h12l]
  refine Rel_m h hj hp (by rw [hMY, hM]; exact hyM.1.1) ?_ (by rw [hMY, hM]; exact y_M_Q hC.2.2.2.2.2.2.2.2 hW hc) (by omega) (by rw [hMY, hM, Y12]; omega) (fun b b1 b2 b3 b4 => (z1 b b3 b4).trans (q1 b b1 b2 b3)) (fun i i1 i2 i3 i4 i5 i6 => (z0 i i2).trans (q2 i i1 i3 i4 i5)) ?_ ?_ ⟨?_, ?_⟩ ⟨?_, by rw [z13, Y12]⟩ ⟨?_, ?_⟩
  · intro l l1 l2 l3
    have hb : l < 6 := by rw [e12] at l2; omega
    rw [y1 (3 + 1 + 1 + 2 * l) (by omega) (by omega)] at l3
    rw [y1 (3 + 1 + 1 + 2 * l) (by omega) (by omega), y1 3 (by omega) (by omega)]
    exact hJ l l1 (by rw [← y1 1 (by omega) (by omega)]; exact l2) l3
  · rw [t_M_e (z0 3 (by omega)) (z1 72 (by omega) (by omega)), qM, hMY, hM]
  · intro l l1 l2
    rw [z0 3 (by omega)] at l2
    rw [z1 72 (by omega) (by omega)]
    exact qL l l1 l2
  · rw [hyG, z13, y_log_sm h12.1, z0 14 (by omega), q14, hgd.1, e13, eG]
  · intro k k1 k2
    rw [z13] at k2
    rw [hyG]
    unfold y_log
    by_cases e : k = X 0 12
    · rw [if_pos e, if_neg (by omega), if_neg (by omega), if_neg (by omega), if_pos rfl]; exact hg
    · rw [if_neg e, ← eG]; exact hgd.2 k k1 (by omega)
  · rw [hyG, c_G_e (X := Y1) (y0 12 (by omega)) (fun a a1 a2 => y1 a (by omega) (by omega)), hGl]
  · rw [hr2.1, y7]
  · intro k k1 k2
    rw [y7] at k2
    rcases (show k = 0 ∨ k = 1 by omega) with e | e <;> rw [e]
    · rw [hr2.2.1, r0]
    · rw [hr2.2.2, r1]
theorem Rel_pp {κ : x_Ka} {X Y Z : x_X} {j sd : Int} (h : Rel κ X j) (hj : 0 ≤ j) (hpf : p_fr X Y) (hc : (c_M Y 3 = (q_run X sd (c_M X 3) (X 0 12) (c_G X)).2.1 ∧ c_J Y 3 ∧ Y 0 12 = (q_run X sd (c_M X 3) (X 0 12) (c_G X)).2.2.1 ∧ c_G Y = (q_run X sd (c_M X 3) (X 0 12) (c_G X)).2.2.2 ∧ Y 0 7 = X 1 2 ∧ ∀ k, 0 ≤ k → k < X 1 2 → Y 32 k = q_pl (X 1 2) (c_li X) (q_run X sd (c_M X 3) (X 0 12) (c_G X)).2.1 k))
    (h8 : (∀ b, b ≠ 72 → b ≠ 74 → b ≠ 64 → b ≠ 65 → Z b = Y b) ∧ (∀ i, i ≠ 0 → i ≠ 1 → i ≠ 13 → i ≠ 14 → i ≠ 16 → i ≠ 39 → Z 64 i = Y 64 i) ∧ t_M Z = (q_ru8 Y sd (t_M Y) (Y 64 13) (t_G Y)).2.1 ∧ (m_W (Y 64 3) (t_M Z) ∧ t_La Z) ∧ Z 64 13 = (q_ru8 Y sd (t_M Y) (Y 64 13) (t_G Y)).2.2.1 ∧ t_G Z = (q_ru8 Y sd (t_M Y) (Y 64 13) (t_G Y)).2.2.2 ∧ t_gd Z ∧ (Y 64 13 ≤ Z 64 13 ∧ Z 64 13 ≤ 54) ∧ (Z 64 1 = (w_out (fun k l => decide (m_cnt (t_li Y) (q_ru8 Y sd (t_M Y) (Y 64 13) (t_G Y)).2.1 l (Y 64 3).toNat = k)) (Y 64 3).toNat (Y 64 3).toNat).1 ∧ ∀ j, 0 ≤ j → j < (w_out (fun k l => decide (m_cnt (t_li Y) (q_ru8 Y sd (t_M Y) (Y 64 13) (t_G Y)).2.1 l (Y 64 3).toNat = k)) (Y 64 3).toNat (Y 64 3).toNat).1 → Z 65 j = (w_out (fun k l => decide (m_cnt (t_li Y) (q_ru8 Y sd (t_M Y) (Y 64 13) (t_G Y)).2.1 l (Y 64 3).toNat = k)) (Y 64 3).toNat (Y 64 3).toNat).2 j)) : Rel κ Z (j + 1) := by
  have hC := h.1
  have hn := hC.1.1.1.2.2.1
  have hW := hC.1.1.2.2.2.1
  have h12 := hC.2.2.2.2.2.2.1
  have hcf := hpf.cf
  have hVY := h.2.2.1.t (teq.cf hcf)
  have y64 := hcf 64 (by omega) (by omega)
  have e13 : Y 64 13 = X 0 12 := by rw [y64]; exact h.2.2.2.1.2
  have eG : t_G Y = c_G X := by rw [t_G_e (congrFun y64 13) (hcf 74 (by omega) (by omega))]; exact h.2.2.2.1.1
  rw [q8_ru_eq hVY, hVY.1, hVY.2.1, li_eq hVY, e13, eG] at h8
  have hK := y_run_K (lot := c_lot X) (O := c_O X) hn (c_p3_r hC.1.1.2.1) 60 sd (c_M X 3) (X 0 12) (c_G X) hW hC.2.2.2.2.2.2.2.2 h12.2.2 h12.2.1
  have hKe : y_run (X 1 2) (c_lot X) (c_p3 X) (c_O X) 60 sd (c_M X 3) (X 0 12) (c_G X) = q_run X sd (c_M X 3) (X 0 12) (c_G X) := rfl
  rw [hKe] at hK
  generalize q_run X sd (c_M X 3) (X 0 12) (c_G X) = r at hc h8 hK
  obtain ⟨c1, c2, c3, c4, c5, c6⟩ := hc
  obtain ⟨q1, q2, q3, ⟨q4, q5⟩, q6, q7, q8, q9, q10, q11⟩ := h8
  have hpl := m_pl (body := c_body X) (lot := c_lot X) (M := r.2.1) hn hC.2.2.2.2.2.2.2.1 (fun l l1 l2 => (hK.1.1.2.1 l l1 l2).2.2.2.2.2.1)
  refine Rel_m h hj hpf (by rw [c1]; exact hK.1.1) c2 (by rw [c1]; exact hK.1.2) (by omega) (by rw [c1, c3]; have := h12.1; have := hK.2; omega) q1 q2 (by rw [q3, c1]) q5 q8 ⟨by rw [q7, c4], by rw [q6, c3]⟩ ⟨by rw [q10, c5]; exact hpl.2.1, fun k k1 k2 => ?_⟩
  rw [c5] at k2
  rw [c6 k k1 k2, q11 k k1 (Int.lt_of_lt_of_le k2 (Int.le_of_eq hpl.2.1.symm))]
  exact hpl.2.2 k k1 k2
