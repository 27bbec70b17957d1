/-! ===== signs, tiring, the meet's own moves ===== -/
theorem TT.k {κ : x_Ka} {Y Z : x_X} (h : TT κ Y) (e3 : Z 64 3 = Y 64 3) (e13 : Z 64 13 = Y 64 13) (e14 : Z 64 14 = Y 64 14) (h10 : 0 ≤ Z 64 10 ∧ Z 64 10 ≤ 300) (ha : ∀ a, 66 ≤ a → a ≤ 74 → Z a = Y a) : TT κ Z := by
  refine h.g e3 h10 (fun a a1 a2 => ha a a1 (by omega)) (by rw [t_M_e e3 (ha 72 (by omega) (by omega))]; exact h.1.2.2.2.1) ?_ (h.2.e e14 e13 (t_G_e e13 (ha 74 (by omega) (by omega))))
  have hL := h.1.2.2.2.2
  unfold t_La at *
  rw [e3, ha 72 (by omega) (by omega)]; exact hL
theorem Rel_s {κ : x_Ka} {X Y Z : x_X} {j : Int} (h : Rel κ X j) (hj : 0 ≤ j) (hY : ∀ a, 1 ≤ a → a < X (-1) 0 → a ≠ 31 → Y a = X a) (hY0 : ∀ i, i ≠ 5 → Y 0 i = X 0 i) (lo : X (-1) 0 ≤ Y (-1) 0) (h5 : 0 ≤ Y 0 5 ∧ Y 0 5 ≤ 240) (hZ : ∀ a, a ≠ 64 → a ≠ 75 → (a < 76 ∨ 79 < a) → Z a = Y a) (hZ0 : ∀ i, i ≠ 0 → (i < 18 ∨ 23 < i) → Z 64 i = Y 64 i) (e18 : Z 64 18 = Y 0 5) (e75 : ∀ p, p < Y 0 5 → Z 75 p = Y 31 p % 256) : Rel κ Z (j + 1) := by
  obtain ⟨hC, hT, hV, hG, hS, hR⟩ := h
  have hI := hC.1.1.1
  have hlo := hC.1.2.1
  have h88 := hlo.1
  have hv : v_eq X Y := ⟨fun a a1 a2 => hY a (by omega) (by omega) (by omega), fun l l1 l2 k k1 k2 => hY _ (by have := hI.2.2.2.2 l l1 l2; omega) (by have := hlo.2 l l1 l2; omega) (by have := hI.2.2.2.2 l l1 l2; omega), hY0 1 (by omega)⟩
  have e12 : Y 1 2 = X 1 2 := by rw [hY 1 (by omega) (by omega) (by omega)]
  have hM := hv.M hI.2.2.1.2
  have hCY : CC κ Y (j + 1) := CC.mk ((hC.pre.s hj).l hv.l lo (fun a a1 a2 => hY a (by omega) (by omega) (by omega)) h5 (by rw [hY0 7 (by omega)]; exact hC.2.2.2.2.2.1)) (by rw [e12, hM]; exact hC.1.1.2.2.2.1) (hv.C hC.1.1).2.2.2.2 (by rw [hY0 12 (by omega), e12, hM]; exact hC.2.2.2.2.2.2.1) (by rw [e12, hM]; exact hC.2.2.2.2.2.2.2.2)
  have hcf : CFr X Y := fun a a1 a2 => hY a (by omega) (by omega) (by omega)
  have hTY := hT.cf hcf hT.1.1.1 hT.1.1.2.1
  have z64 := hcf 64 (by omega) (by omega)
  have hTZ : TT κ Z := hTY.k (hZ0 3 (by omega) (by omega)) (hZ0 13 (by omega) (by omega)) (hZ0 14 (by omega) (by omega)) (by rw [hZ0 10 (by omega) (by omega)]; exact hTY.1.2.2.1.2) (fun a a1 a2 => hZ a (by omega) (by omega) (by omega))
  refine Rel_fin hCY (fun a ha => hZ a (by omega) (by omega) (by omega)) hTZ (((hV.c (ceq_v hv hI.2.2.1.2)).t (teq.cf hcf)).t (teq_e (hZ0 3 (by omega) (by omega)) (hZ0 10 (by omega) (by omega)) (fun a a1 a2 => hZ a (by omega) (by omega) (by omega)))) ⟨?_, ?_⟩ ⟨?_, e18, e75⟩ ?_
  · rw [t_G_e (hZ0 13 (by omega) (by omega)) (hZ 74 (by omega) (by omega) (by omega)), t_G_e (congrFun z64 13) (hcf 74 (by omega) (by omega)), hG.1]
    exact (c_G_e (hY0 12 (by omega)) (fun a a1 a2 => hY a (by omega) (by omega) (by omega))).symm
  · rw [hZ0 13 (by omega) (by omega), z64, hY0 12 (by omega)]; exact hG.2
  · rw [hZ0 10 (by omega) (by omega), z64, hY0 1 (by omega)]; exact hS.1
  · unfold ER at *
    rw [hZ0 1 (by omega) (by omega), hZ 65 (by omega) (by omega) (by omega), z64, hcf 65 (by omega) (by omega), hY0 7 (by omega), hY 32 (by omega) (by omega) (by omega)]; exact hR
/-- a table's odds, on both sides -/
theorem tb_eq {X : x_X} (hV : t_O X = c_O X) (hO : t_Ow X) (hN : n_O X) (h3 : X 64 3 = X 1 2) {l t : Int} (hl : 0 ≤ l ∧ l < X 1 2) (ht : 0 ≤ t ∧ t < 3) (x : Int) : t_tb X l t x = l_od X (X 2 l) t x := by
  have e := congrFun (congrFun (congrFun (congrFun hV l) t) x) 0
  unfold t_O c_O l_odds at e
  rw [if_pos ⟨hl.1, by omega, ht⟩, if_pos ⟨hl.1, hl.2, ht⟩, Int.mul_zero, Int.mul_zero, Int.sub_zero, Int.sub_zero] at e
  have a := t_of_r (x := x) (hO.1 l hl.1 (by omega) t ht.1 ht.2)
  have b := t_of_r (x := x) (hN.1 l hl.1 hl.2 t ht.1 ht.2)
  unfold t_tb l_od at *
  rw [Int.max_eq_right a.1, Int.max_eq_right b.1] at e
  exact e
theorem Rel_t {κ : x_Ka} {X : x_X} {j z : Int} (h : Rel κ X j) (hj : 0 ≤ j) (hz : 0 ≤ z ∧ z ≤ 300) : Rel κ (x_up (x_up (x_up X 0 1 z) 64 0 0) 64 10 z) (j + 1) := by
  obtain ⟨hC, hT, hV, hG, hS, hR⟩ := h
  obtain ⟨Y, hYd⟩ : ∃ Y, Y = x_up X 0 1 z := ⟨_, rfl⟩
  obtain ⟨Z, hZd⟩ : ∃ Z, Z = x_up (x_up Y 64 0 0) 64 10 z := ⟨_, rfl⟩
  rw [← hYd, ← hZd]
  have y : ∀ a, a ≠ 0 → Y a = X a := fun a ha => by rw [hYd]; exact x_up_o _ ha
  have y0 : ∀ i, i ≠ 1 → Y 0 i = X 0 i := fun i hi => by rw [hYd]; exact x_up_n _ (Or.inr hi)
  have y1 : Y 0 1 = z := by rw [hYd]; exact x_up_s _ _ _ _
  have zz : ∀ a, a ≠ 64 → Z a = Y a := fun a ha => by rw [hZd, x_up_o _ ha, x_up_o _ ha]
  have z0 : ∀ i, i ≠ 0 → i ≠ 10 → Z 64 i = Y 64 i := fun i i1 i2 => by rw [hZd, x_up_n _ (Or.inr i2), x_up_n _ (Or.inr i1)]
  have z10 : Z 64 10 = z := by rw [hZd]; exact x_up_s _ _ _ _
  have hI := hC.1.1.1
  have hla := hI.2.2.2.2
  have hlc : ∀ l, 0 ≤ l → l < X 1 2 → ∀ k, 0 ≤ k → Y (X 2 l + k) = X (X 2 l + k) := fun l l1 l2 k k1 => y _ (by have := hla l l1 l2; omega)
  have e1 := y 1 (by omega)
  have e2 := y 2 (by omega)
  have hM : c_M Y 3 = c_M X 3 := by
    funext l f
    unfold c_M
    rw [e1, y 3 (by omega)]
    by_cases q : l = -1
    · rw [if_pos q, if_pos q]
    · by_cases q2 : 0 ≤ l ∧ l < X 1 2
      · rw [if_neg q, if_neg q, if_pos q2, if_pos q2, y (3 + 1 + 1 + 2 * l) (by omega), y (3 + 1 + 1 + 2 * l + 1) (by omega)]
      · rw [if_neg q, if_neg q, if_neg q2, if_neg q2]
  have hbl : c_body Y = c_body X ∧ c_lot Y = c_lot X := by
    constructor
    · funext l; unfold c_body; rw [e1, e2]
      by_cases q : 0 ≤ l ∧ l < X 1 2
      · rw [if_pos q, if_pos q, y (X 2 l) (by have := hla l q.1 q.2; omega)]
      · rw [if_neg q, if_neg q]
    · funext l; unfold c_lot; rw [e1, e2]
      by_cases q : 0 ≤ l ∧ l < X 1 2
      · rw [if_pos q, if_pos q, y (X 2 l) (by have := hla l q.1 q.2; omega)]
      · rw [if_neg q, if_neg q]
  have hp3 : c_p3 Y = c_p3 X := by
    funext l t w; unfold c_p3; rw [e1, e2]
    by_cases q : 0 ≤ l ∧ l < X 1 2 ∧ 0 ≤ t ∧ t < 3 ∧ 0 ≤ w ∧ w < 3
    · rw [if_pos q, if_pos q, y (X 2 l + 11 + w) (by have := hla l q.1 q.2.1; omega)]
    · rw [if_neg q, if_neg q]
  have hod : ∀ l, 0 ≤ l → l < X 1 2 → ∀ t, 0 ≤ t → t < 3 → ∀ x, l_od Y (X 2 l) t x = l_od X (X 2 l) t x := fun l l1 l2 t t1 t2 x => by
    have := hla l l1 l2
    unfold l_od
    rw [y (X 2 l + 1 + 1 + 3 * t + 1) (by omega), y (X 2 l + 1 + 1 + 3 * t + 2) (by omega), y (X 2 l + 1 + 1 + 3 * t) (by omega)]
  have hpre : PRE κ Y (j + 1) := by
    obtain ⟨⟨a1, a2, a3⟩, ⟨b2, b3⟩, h4, h5, h6, h7, h8, h10⟩ := hC.pre.s hj
    refine ⟨⟨?_, ?_, ?_⟩, ⟨?_, b3⟩, ?_, ?_, ?_, ?_, ?_, ?_⟩
    · unfold n_I at *; rw [e1, e2]; exact a1
    · intro l l1 l2 t t1 t2
      rw [e1] at l2
      rw [e2, hlc l l1 l2 11 (by omega), hlc l l1 l2 12 (by omega), hlc l l1 l2 13 (by omega)]
      exact a2 l l1 l2 t t1 t2
    · refine ⟨fun l l1 l2 t t1 t2 => ?_, by rw [y1]; exact hz⟩
      rw [e1] at l2
      have := hla l l1 l2
      rw [e2, y (X 2 l + 1 + 1 + 3 * t + 1) (by omega), y (X 2 l + 1 + 1 + 3 * t + 2) (by omega), y (X 2 l + 1 + 1 + 3 * t) (by omega)]
      exact a3.1 l l1 l2 t t1 t2
    · unfold n_low at *; rw [y (-1) (by omega), e1, e2]; exact b2
    · rw [e1, e2]; exact h4
    · unfold FB at *
      rw [y 38 (by omega)]
      exact ⟨h5.1, fun t t1 t2 k k1 k2 => by rw [y _ (by omega)]; exact h5.2 t t1 t2 k k1 k2⟩
    · rw [e1]; exact h6
    · rw [y0 5 (by omega)]; exact h7
    · rw [y0 7 (by omega)]; exact h8
    · rw [e1, hbl.2]; exact h10
  have hJ : c_J Y 3 := by
    have hJ := hC.1.1.2.2.2.2
    intro l l1 l2
    rw [e1] at l2
    rw [y (3 + 1 + 1 + 2 * l) (by omega), y 3 (by omega)]
    exact hJ l l1 l2
  have hCY : CC κ Y (j + 1) := CC.mk hpre (by rw [e1, hM]; exact hC.1.1.2.2.2.1) hJ (by rw [y0 12 (by omega), e1, hM]; exact hC.2.2.2.2.2.2.1) (by rw [e1, hM]; exact hC.2.2.2.2.2.2.2.2)
  have hcf : CFr X Y := fun a a1 a2 => y a (by omega)
  have hTY := hT.cf hcf hT.1.1.1 hT.1.1.2.1
  have z64 := hcf 64 (by omega) (by omega)
  have e3 : Z 64 3 = X 64 3 := by rw [z0 3 (by omega) (by omega), z64]
  have zx : ∀ a, 65 ≤ a → a ≤ 86 → Z a = X a := fun a a1 a2 => (zz a (by omega)).trans (hcf a (by omega) (by omega))
  refine Rel_fin hCY (fun a ha => zz a (by omega)) (hTY.k (z0 3 (by omega) (by omega)) (z0 13 (by omega) (by omega)) (z0 14 (by omega) (by omega)) (by rw [z10]; exact hz) (fun a a1 a2 => zz a (by omega))) ⟨?_, ?_, ?_, ?_, ?_, ?_⟩ ⟨?_, ?_⟩ ⟨?_, ?_, ?_⟩ ?_
  · rw [e3, e1]; exact hV.1
  · rw [t_M_e e3 (zx 72 (by omega) (by omega)), hM]; exact hV.2.1
  · rw [t_body_e e3 (zx 66 (by omega) (by omega)), hbl.1]; exact hV.2.2.1
  · rw [t_lot_e e3 (zx 67 (by omega) (by omega)), hbl.2]; exact hV.2.2.2.1
  · rw [t_p3_e e3 (zx 71 (by omega) (by omega)), hp3]; exact hV.2.2.2.2.1
  · funext l t x f
    unfold t_O c_O l_odds
    rw [e3, e1, e2, hV.1, z10, y1]
    by_cases q : 0 ≤ l ∧ l < X 1 2 ∧ 0 ≤ t ∧ t < 3
    · rw [if_pos q, if_pos q, hod l q.1 q.2.1 t q.2.2.1 q.2.2.2, ← tb_eq hV.2.2.2.2.2 hT.1.2.2.1 hC.1.1.2.2.1 hV.1 ⟨q.1, q.2.1⟩ q.2.2 x]
      unfold t_tb
      rw [zx 68 (by omega) (by omega), zx 69 (by omega) (by omega), zx 70 (by omega) (by omega)]
    · rw [if_neg q, if_neg q]
  · rw [t_G_e (by rw [z0 13 (by omega) (by omega), z64]) (zx 74 (by omega) (by omega)), hG.1]
    exact (c_G_e (y0 12 (by omega)) (fun a a1 a2 => y a (by omega))).symm
  · rw [z0 13 (by omega) (by omega), z64, y0 12 (by omega)]; exact hG.2
  · rw [z10, y1]
  · rw [z0 18 (by omega) (by omega), z64, y0 5 (by omega)]; exact hS.2.1
  · rw [y0 5 (by omega), zx 75 (by omega) (by omega), y 31 (by omega)]; exact hS.2.2
  · unfold ER at *
    rw [z0 1 (by omega) (by omega), z64, zx 65 (by omega) (by omega), y0 7 (by omega), y 32 (by omega)]; exact hR
/-- the meet begins anew -/
theorem Rel_beg {κ : x_Ka} {X Y Z : x_X} {j : Int} (h : Rel κ X j) (hj : 0 ≤ j) (hb : BG X Y) (hb8 : BG8 (x_up Y 64 0 0) Z) : Rel κ Z (j + 1) := by
  obtain ⟨hC, hT, hV, hG, hS, hR⟩ := h
  have hcf : CFr X Y := fun a a1 a2 => hb.1 a (by omega) (by omega)
  have hTY := hT.cf hcf hT.1.1.1 hT.1.1.2.1
  have hW := (h_eq.z (X := Y)).C hTY.1
  have z64 := hcf 64 (by omega) (by omega)
  have w0 : ∀ i, i ≠ 0 → x_up Y 64 0 0 64 i = X 64 i := fun i hi => by rw [x_up_n _ (Or.inr hi), z64]
  have wa : ∀ a, a ≠ 64 → x_up Y 64 0 0 a = Y a := fun a ha => x_up_o _ ha
  refine Rel_bg (hC.pre.s hj) hb hW.1 hW.2.1 hW.2.2.1 hb8 (hV.el.t (w0 3 (by omega)) (w0 10 (by omega)) (fun a a1 a2 => (wa a (by omega)).trans (hcf a (by omega) (by omega)))) (fun a ha => wa a (by omega)) ⟨?_, ?_, ?_⟩ ⟨?_, ?_⟩
  · rw [w0 10 (by omega), hb.2.1 1 (by omega)]; exact hS.1
  · rw [w0 18 (by omega), hb.2.1 5 (by omega)]; exact hS.2.1
  · rw [wa 75 (by omega), hcf 75 (by omega) (by omega), hb.2.1 5 (by omega), hb.1 31 (by omega) (by omega)]; exact hS.2.2
  · rw [w0 1 (by omega), hb.2.1 7 (by omega)]; exact hR.1
  · rw [wa 65 (by omega), hcf 65 (by omega) (by omega), hb.2.1 7 (by omega), hb.1 32 (by omega) (by omega)]; exact hR.2
/-- the meet moves on -/
theorem Rel_m {κ : x_Ka} {X Y Z : x_X} {j : Int} (h : Rel κ X j) (hj : 0 ≤ j) (hp : p_fr X Y) (hW : m_W (X 1 2) (c_M Y 3)) (hJ : c_J Y 3) (hQ : m_Q (X 1 2) (c_M Y 3)) (h7 : 0 ≤ Y 0 7 ∧ Y 0 7 ≤ 64) (h12 : 0 ≤ Y 0 12 ∧ Y 0 12 ≤ 54 ∧ Y 0 12 ≤ m_T (X 1 2) (c_M Y 3)) (hZ : ∀ b, b ≠ 72 → b ≠ 74 → b ≠ 64 → b ≠ 65 → Z b = Y b) (hZ0 : ∀ i, i ≠ 0 → i ≠ 1 → i ≠ 13 → i ≠ 14 → i ≠ 16 → i ≠ 39 → Z 64 i = Y 64 i) (hM : t_M Z = c_M Y 3) (hLa : t_La Z) (hgd : t_gd Z) (hG : EG Y Z) (hR : ER Y Z) : Rel κ Z (j + 1) := by
  obtain ⟨hC, hT, hV, -, hS, -⟩ := h
  have hI := hC.1.1.1
  have hl := hp.l hI
  have e12 : Y 1 2 = X 1 2 := congrFun hl.1 2
  have hCY : CC κ Y (j + 1) := CC.mk ((hC.pre.s hj).l hl (by rw [hp.1 (-1) (by omega) (by omega) (by omega)]; omega) (fun a a1 a2 => hp.1 a (by omega) (by omega) (by omega)) (by rw [hp.2 5 (by omega) (by omega) (by omega)]; exact hC.2.2.2.2.1) h7) (by rw [e12]; exact hW) hJ (by rw [e12]; exact h12) (by rw [e12]; exact hQ)
  have hcf : CFr X Y := fun a a1 a2 => hp.1 a (by omega) (by omega) (by omega)
  have hTY := hT.cf hcf hT.1.1.1 hT.1.1.2.1
  have z64 := hcf 64 (by omega) (by omega)
  have w0 : ∀ i, i ≠ 0 → i ≠ 1 → i ≠ 13 → i ≠ 14 → i ≠ 16 → i ≠ 39 → Z 64 i = X 64 i := fun i i1 i2 i3 i4 i5 i6 => by rw [hZ0 i i1 i2 i3 i4 i5 i6, z64]
  have n3 : Y 64 3 = X 1 2 := by rw [z64]; exact hV.1
  refine Rel_fin hCY (fun a ha => hZ a (by omega) (by omega) (by omega) (by omega)) (hTY.g (hZ0 3 (by omega) (by omega) (by omega) (by omega) (by omega) (by omega)) (by rw [hZ0 10 (by omega) (by omega) (by omega) (by omega) (by omega) (by omega)]; exact hTY.1.2.2.1.2) (fun a a1 a2 => hZ a (by omega) (by omega) (by omega) (by omega)) (by rw [n3, hM]; exact hW) hLa hgd) (EL.v ((hV.el.c hl).t (w0 3 (by omega) (by omega) (by omega) (by omega) (by omega) (by omega)) (w0 10 (by omega) (by omega) (by omega) (by omega) (by omega) (by omega)) (fun a a1 a2 => (hZ a (by omega) (by omega) (by omega) (by omega)).trans (hcf a (by omega) (by omega)))) hM) hG ⟨?_, ?_, ?_⟩ hR
  · rw [w0 10 (by omega) (by omega) (by omega) (by omega) (by omega) (by omega), hp.2 1 (by omega) (by omega) (by omega)]; exact hS.1
  · rw [w0 18 (by omega) (by omega) (by omega) (by omega) (by omega) (by omega), hp.2 5 (by omega) (by omega) (by omega)]; exact hS.2.1
  · rw [hZ 75 (by omega) (by omega) (by omega) (by omega), hcf 75 (by omega) (by omega), hp.2 5 (by omega) (by omega) (by omega), hp.1 31 (by omega) (by omega) (by omega)]; exact hS.2.2
/-- behind a meet that was only drawn -/
theorem Rel_o {κ : x_Ka} {X Y Z : x_X} {j : Int} (h : Rel κ X j) (hj : 0 ≤ j) (hk : k_eq X Y) (hfe : f_eq X Y) (h7 : 0 ≤ Y 0 7 ∧ Y 0 7 ≤ 64) (hZ : ∀ b, b ≠ 72 → b ≠ 73 → b ≠ 74 → b ≠ 64 → b ≠ 65 → Z b = Y b) (h72 : ∀ k, 0 ≤ k → k < 63 → Z 72 k = Y 72 k) (hZ0 : ∀ i, i ≠ 0 → i ≠ 1 → i ≠ 16 → i ≠ 39 → Z 64 i = Y 64 i) (h74 : ∀ k, k < 4 * Y 64 13 → Z 74 k = Y 74 k) (hR : ER Y Z) : Rel κ Z (j + 1) := by
  obtain ⟨hC, hT, hV, hG, hS, -⟩ := h
  have hI := hC.1.1.1
  have hlo := hC.1.2.1
  have hc := ceq_v (hk.v hI hlo) hI.2.2.1.2
  have hcf := hk.cf hlo
  have hTY := hT.cf hcf hT.1.1.1 hT.1.1.2.1
  have z64 := hcf 64 (by omega) (by omega)
  have e3 := hZ0 3 (by omega) (by omega) (by omega) (by omega)
  have e13 := hZ0 13 (by omega) (by omega) (by omega) (by omega)
  have hM : t_M Z = t_M Y := t_M_r e3 hTY.1.1.2.2.2 h72
  have hGZ : t_G Z = t_G Y := by
    funext k w
    unfold t_G
    rw [e13]
    by_cases q : 0 ≤ k ∧ k < Y 64 13
    · rw [if_pos q, if_pos q]
      by_cases q2 : 0 ≤ w ∧ w < 4
      · rw [if_pos q2, if_pos q2, h74 _ (by omega)]
      · rw [if_neg q2, if_neg q2]
    · rw [if_neg q, if_neg q]
  have ha : ∀ a, 66 ≤ a → a ≤ 71 → Z a = Y a := fun a a1 a2 => hZ a (by omega) (by omega) (by omega) (by omega) (by omega)
  have e10 := hZ0 10 (by omega) (by omega) (by omega) (by omega)
  have hVY := (hV.c hc).t (teq.cf hcf)
  refine Rel_fin (hC.q hj hk (Or.inl hfe) h7) (fun a ha => hZ a (by omega) (by omega) (by omega) (by omega) (by omega)) (hTY.g e3 (by rw [e10]; exact hTY.1.2.2.1.2) ha (by rw [hM]; exact hTY.1.2.2.2.1) ?_ (hTY.2.e (hZ0 14 (by omega) (by omega) (by omega) (by omega)) e13 hGZ)) (EL.v (hVY.el.t e3 e10 ha) (by rw [hM]; exact hVY.2.1)) ⟨?_, ?_⟩ ⟨?_, ?_, ?_⟩ hR
  · have hn := hTY.1.1.2.2
    intro l l1 l2
    rw [e3] at l2
    rw [h72 _ (by omega) (by omega), h72 _ (by omega) (by omega)]
    exact hTY.1.2.2.2.2 l l1 l2
  · rw [hGZ, t_G_e (congrFun z64 13) (hcf 74 (by omega) (by omega)), hG.1]
    exact (c_G_e hk.2.2.1.2.2 (fun a a1 a2 => hk.1 a (by omega) (by omega) (by omega) (by omega))).symm
  · rw [e13, z64, hk.2.2.1.2.2]; exact hG.2
  · rw [e10, z64, hk.2.2.1.1]; exact hS.1
  · rw [hZ0 18 (by omega) (by omega) (by omega) (by omega), z64, hk.2.2.1.2.1]; exact hS.2.1
  · rw [hk.2.2.1.2.1, hZ 75 (by omega) (by omega) (by omega) (by omega) (by omega), hcf 75 (by omega) (by omega), hk.1 31 (by omega) (by omega) (by omega) (by omega)]; exact hS.2.2
