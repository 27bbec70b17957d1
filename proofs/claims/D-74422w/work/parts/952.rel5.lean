/-! ===== lifters: plans, leaving, entering ===== -/
/-- a lifter's cells are its own -/
theorem ap_i {X : x_X} {n : Int} (h : ∀ l k, 0 ≤ l → l < k → k < n → X 2 l + 14 ≤ X 2 k) {a b p q : Int} (ha : 0 ≤ a ∧ a < n) (hb : 0 ≤ b ∧ b < n) (hp : 0 ≤ p ∧ p < 14) (hq : 0 ≤ q ∧ q < 14) (e : X 2 a + p = X 2 b + q) : a = b ∧ p = q := by
  rcases (show a < b ∨ b < a ∨ a = b by omega) with c | c | c
  · have := h a b ha.1 c hb.2; omega
  · have := h b a hb.1 c ha.2; omega
  · rw [c] at e; exact ⟨c, by omega⟩
theorem Rel_pl {κ : x_Ka} {X W Y V Z : x_X} {j i t w v : Int} (h : Rel κ X j) (hj : 0 ≤ j) (hi : 0 ≤ i ∧ i < X 1 2) (ht : 0 ≤ t ∧ t ≤ 2) (hw : 0 ≤ w ∧ w ≤ 2) (hv : (if w = 2 then 0 else 1) ≤ v ∧ v ≤ (if w = 0 then 40 else 9)) (hWd : W = x_up X (X 2 i + 11 + w) t v) (hb : BG W Y) (hVd : V = x_up (x_up Y 64 0 0) 71 (3 * (3 * i + t) + w) v) (hb8 : BG8 V Z) : Rel κ Z (j + 1) := by
  obtain ⟨hC, hT, hVV, hG, hS, hR⟩ := h
  obtain ⟨⟨a1, a2, a3⟩, ⟨b2, b3⟩, h4, h5, h6, h7, h8, h10⟩ := hC.pre.s hj
  have hla := a1.2.2.2.2
  have hi88 := hla i hi.1 hi.2
  have wo : ∀ a, a ≠ X 2 i + 11 + w → W a = X a := fun a ha => by rw [hWd]; exact x_up_o _ ha
  have w1 := wo 1 (by omega)
  have w2 := wo 2 (by omega)
  have w0 := wo 0 (by omega)
  have wl : ∀ l, 0 ≤ l → l < X 1 2 → ∀ k, 0 ≤ k → k < 11 → W (X 2 l + k) = X (X 2 l + k) := fun l l1 l2 k k1 k2 => wo _ (fun e => by have := (ap_i h4 (a := l) (b := i) (p := k) (q := 11 + w) ⟨l1, l2⟩ hi ⟨k1, by omega⟩ ⟨by omega, by omega⟩ (by omega)).2; omega)
  have wl0 : ∀ l, 0 ≤ l → l < X 1 2 → W (X 2 l) = X (X 2 l) := fun l l1 l2 => by have := wl l l1 l2 0 (by omega) (by omega); rw [Int.add_zero] at this; exact this
  have wp : ∀ l, 0 ≤ l → l < X 1 2 → ∀ k, 0 ≤ k → k < 3 → ∀ u, W (X 2 l + 11 + k) u = if l = i ∧ u = t ∧ k = w then v else X (X 2 l + 11 + k) u := fun l l1 l2 k k1 k2 u => by
    by_cases e : l = i ∧ u = t ∧ k = w
    · rw [if_pos e, e.1, e.2.1, e.2.2, hWd, x_up_s]
    · rw [if_neg e]
      by_cases e2 : l = i ∧ k = w
      · rw [hWd]; exact x_up_n _ (Or.inr (fun q => e ⟨e2.1, q, e2.2⟩))
      · rw [wo _ (fun q => e2 (by have := ap_i h4 (a := l) (b := i) (p := 11 + k) (q := 11 + w) ⟨l1, l2⟩ hi ⟨by omega, by omega⟩ ⟨by omega, by omega⟩ (by omega); exact ⟨this.1, by omega⟩))]
  have hlot : c_lot W = c_lot X := by
    funext l; unfold c_lot; rw [w1, w2]
    by_cases q : 0 ≤ l ∧ l < X 1 2
    · rw [if_pos q, if_pos q, wl0 l q.1 q.2]
    · rw [if_neg q, if_neg q]
  have hbody : c_body W = c_body X := by
    funext l; unfold c_body; rw [w1, w2]
    by_cases q : 0 ≤ l ∧ l < X 1 2
    · rw [if_pos q, if_pos q, wl0 l q.1 q.2]
    · rw [if_neg q, if_neg q]
  have hpre : PRE κ W (j + 1) := by
    refine ⟨⟨?_, ?_, ?_⟩, ⟨?_, b3⟩, ?_, ?_, ?_, ?_, ?_, ?_⟩
    · unfold n_I at *; rw [w1, w2]; exact a1
    · intro l l1 l2 u u1 u2
      rw [w1] at l2
      have hp := a2 l l1 l2 u u1 u2
      have e0 := wp l l1 l2 0 (by omega) (by omega) u
      have e1 := wp l l1 l2 1 (by omega) (by omega) u
      have e2 := wp l l1 l2 2 (by omega) (by omega) u
      rw [Int.add_zero] at e0
      rw [show X 2 l + 11 + 1 = X 2 l + 12 by omega] at e1
      rw [show X 2 l + 11 + 2 = X 2 l + 13 by omega] at e2
      rw [w2, e0, e1, e2]
      refine ⟨?_, ?_, ?_⟩
      · split
        · rename_i e; rw [if_neg (by omega), if_pos (by omega)] at hv; exact hv
        · exact hp.1
      · split
        · rename_i e; rw [if_neg (by omega), if_neg (by omega)] at hv; exact hv
        · exact hp.2.1
      · split
        · rename_i e; rw [if_pos (by omega), if_neg (by omega)] at hv; exact hv
        · exact hp.2.2
    · refine ⟨fun l l1 l2 u u1 u2 => ?_, by rw [w0]; exact a3.2⟩
      rw [w1] at l2
      have c := a3.1 l l1 l2 u u1 u2
      have e1 := wl l l1 l2 (1 + 1 + 3 * u + 1) (by omega) (by omega)
      have e2 := wl l l1 l2 (1 + 1 + 3 * u + 2) (by omega) (by omega)
      have e3 := wl l l1 l2 (1 + 1 + 3 * u) (by omega) (by omega)
      rw [show X 2 l + (1 + 1 + 3 * u + 1) = X 2 l + 1 + 1 + 3 * u + 1 by omega] at e1
      rw [show X 2 l + (1 + 1 + 3 * u + 2) = X 2 l + 1 + 1 + 3 * u + 2 by omega] at e2
      rw [show X 2 l + (1 + 1 + 3 * u) = X 2 l + 1 + 1 + 3 * u by omega] at e3
      rw [w2, e1, e2, e3]
      exact c
    · unfold n_low at *; rw [wo (-1) (by omega), w1, w2]; exact b2
    · rw [w1, w2]; exact h4
    · unfold FB at *
      rw [wo 38 (by omega)]
      exact ⟨h5.1, fun t t1 t2 k k1 k2 => by rw [wo _ (by omega)]; exact h5.2 t t1 t2 k k1 k2⟩
    · rw [w1]; exact h6
    · rw [w0]; exact h7
    · rw [w0]; exact h8
    · rw [w1, hlot]; exact h10
  have hcf : CFr X Y := fun a q1 q2 => (hb.1 a (by omega) (by omega)).trans (wo a (by omega))
  have hTY := hT.cf hcf hT.1.1.1 hT.1.1.2.1
  have y64 := hcf 64 (by omega) (by omega)
  have v64 : ∀ k, k ≠ 0 → V 64 k = X 64 k := fun k hk => by rw [hVd, x_up_o _ (by omega), x_up_n _ (Or.inr hk), y64]
  have vo : ∀ a, a ≠ 64 → a ≠ 71 → V a = Y a := fun a q1 q2 => by rw [hVd, x_up_o _ q2, x_up_o _ q1]
  have vx : ∀ a, 65 ≤ a → a ≤ 86 → a ≠ 71 → V a = X a := fun a q1 q2 q3 => (vo a (by omega) q3).trans (hcf a (by omega) q2)
  have v3 := v64 3 (by omega)
  have e3 : X 64 3 = X 1 2 := hVV.1
  have hTO := hTY.1.2.2.1
  refine Rel_bg hpre hb ⟨hTY.1.1.1, hTY.1.1.2.1, by rw [v3]; exact hT.1.1.2.2⟩ ?_ ?_ hb8 ⟨?_, ?_, ?_, ?_, ?_⟩ (fun a ha => vo a (by omega) (by omega)) ⟨?_, ?_, ?_⟩ ⟨?_, ?_⟩
  · rw [hVd]; exact t_P_up hTY.1.2.1 (by rw [y64, e3]; exact hi) ht hw hv
  · have hO := hT.1.2.2.1
    unfold t_Ow at *
    rw [v3, v64 10 (by omega), vx 68 (by omega) (by omega) (by omega), vx 69 (by omega) (by omega) (by omega), vx 70 (by omega) (by omega) (by omega)]; exact hO
  · rw [v3, w1]; exact e3
  · rw [t_body_e v3 (vx 66 (by omega) (by omega) (by omega)), hbody]; exact hVV.2.2.1
  · rw [t_lot_e v3 (vx 67 (by omega) (by omega) (by omega)), hlot]; exact hVV.2.2.2.1
  · funext l u k
    have e := congrFun (congrFun (congrFun hVV.2.2.2.2.1 l) u) k
    unfold t_p3 c_p3 at *
    rw [v3, w1, w2, e3] at *
    by_cases q : 0 ≤ l ∧ l < X 1 2 ∧ 0 ≤ u ∧ u < 3 ∧ 0 ≤ k ∧ k < 3
    · rw [if_pos q, if_pos q] at e
      rw [if_pos q, if_pos q, wp l q.1 q.2.1 k q.2.2.2.2.1 q.2.2.2.2.2 u]
      by_cases z : l = i ∧ u = t ∧ k = w
      · rw [if_pos z, hVd, z.1, z.2.1, z.2.2, x_up_s]
      · rw [if_neg z, hVd, x_up_n _ (Or.inr (by omega)), x_up_o _ (by omega), hcf 71 (by omega) (by omega)]; exact e
    · rw [if_neg q, if_neg q]
  · rw [t_O_e v3 (v64 10 (by omega)) (vx 68 (by omega) (by omega) (by omega)) (vx 69 (by omega) (by omega) (by omega)) (vx 70 (by omega) (by omega) (by omega)), hVV.2.2.2.2.2]
    funext l u x f
    unfold c_O l_odds l_od
    rw [w1, w2, w0]
    by_cases q : 0 ≤ l ∧ l < X 1 2 ∧ 0 ≤ u ∧ u < 3
    · have e1 := wl l q.1 q.2.1 (1 + 1 + 3 * u + 1) (by omega) (by omega)
      have e2 := wl l q.1 q.2.1 (1 + 1 + 3 * u + 2) (by omega) (by omega)
      have e3 := wl l q.1 q.2.1 (1 + 1 + 3 * u) (by omega) (by omega)
      rw [show X 2 l + (1 + 1 + 3 * u + 1) = X 2 l + 1 + 1 + 3 * u + 1 by omega] at e1
      rw [show X 2 l + (1 + 1 + 3 * u + 2) = X 2 l + 1 + 1 + 3 * u + 2 by omega] at e2
      rw [show X 2 l + (1 + 1 + 3 * u) = X 2 l + 1 + 1 + 3 * u by omega] at e3
      rw [if_pos q, if_pos q, e1, e2, e3]
    · rw [if_neg q, if_neg q]
  · rw [v64 10 (by omega), hb.2.1 1 (by omega), w0]; exact hS.1
  · rw [v64 18 (by omega), hb.2.1 5 (by omega), w0]; exact hS.2.1
  · rw [vx 75 (by omega) (by omega) (by omega), hb.2.1 5 (by omega), w0, hb.1 31 (by omega) (by omega), wo 31 (by omega)]; exact hS.2.2
  · rw [v64 1 (by omega), hb.2.1 7 (by omega), w0]; exact hR.1
  · rw [vx 65 (by omega) (by omega) (by omega), hb.2.1 7 (by omega), w0, hb.1 32 (by omega) (by omega), wo 32 (by omega)]; exact hR.2
theorem Rel_lv {κ : x_Ka} {X W Y V Z : x_X} {j : Int} (h : Rel κ X j) (hj : 0 ≤ j) (hn : X 1 2 ≠ 0) (hWd : W = x_up (x_up (x_up X 1 0 (X 1 0 + 1)) 1 2 (X 1 2 - 1)) 2 (X 1 2 - 1) (-1)) (hb : BG W Y) (hVd : V = x_up (x_up Y 64 0 0) 64 3 (Y 64 3 - 1)) (hb8 : BG8 V Z) : Rel κ Z (j + 1) := by
  obtain ⟨hC, hT, hVV, hG, hS, hR⟩ := h
  have h6' := hC.pre.2.2.2.2.1
  obtain ⟨⟨a1, a2, a3⟩, ⟨b2, b3⟩, h4, h5, h6, h7, h8, h10⟩ := hC.pre.s hj
  have hn6 := a1.2.2.1
  have hla := a1.2.2.2.2
  have wo : ∀ a, a ≠ 1 → a ≠ 2 → W a = X a := fun a q1 q2 => by rw [hWd, x_up_o _ q2, x_up_o _ q1, x_up_o _ q1]
  have w12 : W 1 2 = X 1 2 - 1 := by rw [hWd, x_up_o _ (by omega), x_up_s]
  have w10 : W 1 0 = X 1 0 + 1 := by rw [hWd, x_up_o _ (by omega), x_up_n _ (Or.inr (by omega)), x_up_s]
  have w2 : ∀ l, l < X 1 2 - 1 → W 2 l = X 2 l := fun l hl => by rw [hWd, x_up_n _ (Or.inr (by omega)), x_up_o _ (by omega), x_up_o _ (by omega)]
  have w0 := wo 0 (by omega) (by omega)
  have wl : ∀ l, 0 ≤ l → l < X 1 2 → ∀ k, 0 ≤ k → W (X 2 l + k) = X (X 2 l + k) := fun l l1 l2 k k1 => wo _ (by have := hla l l1 l2; omega) (by have := hla l l1 l2; omega)
  have wl0 : ∀ l, 0 ≤ l → l < X 1 2 → W (X 2 l) = X (X 2 l) := fun l l1 l2 => wo _ (by have := hla l l1 l2; omega) (by have := hla l l1 l2; omega)
  have hlot : ∀ l, 0 ≤ l → l < X 1 2 - 1 → c_lot W l = c_lot X l := fun l l1 l2 => by
    unfold c_lot; rw [if_pos ⟨l1, by omega⟩, if_pos ⟨l1, by omega⟩, w2 l l2, wl0 l l1 (by omega)]
  have hpre : PRE κ W (j + 1) := by
    refine ⟨⟨by rw [hWd]; exact n_I.rem a1 (by omega), ?_, ?_⟩, ⟨?_, b3⟩, ?_, ?_, ?_, ?_, ?_, ?_⟩
    · intro l l1 l2 u u1 u2
      rw [w12] at l2
      rw [w2 l l2, wl l l1 (by omega) 11 (by omega), wl l l1 (by omega) 12 (by omega), wl l l1 (by omega) 13 (by omega)]
      exact a2 l l1 (by omega) u u1 u2
    · refine ⟨fun l l1 l2 u u1 u2 => ?_, by rw [w0]; exact a3.2⟩
      rw [w12] at l2
      have := hla l l1 (by omega)
      rw [w2 l l2, wo (X 2 l + 1 + 1 + 3 * u + 1) (by omega) (by omega), wo (X 2 l + 1 + 1 + 3 * u + 2) (by omega) (by omega), wo (X 2 l + 1 + 1 + 3 * u) (by omega) (by omega)]
      exact a3.1 l l1 (by omega) u u1 u2
    · unfold n_low at *
      rw [wo (-1) (by omega) (by omega), w12]
      exact ⟨b2.1, fun l l1 l2 => by rw [w2 l l2]; exact b2.2 l l1 (by omega)⟩
    · intro l k l1 l2 k2
      rw [w12] at k2
      rw [w2 l (by omega), w2 k k2]
      exact h4 l k l1 l2 (by omega)
    · unfold FB at *
      rw [wo 38 (by omega) (by omega)]
      exact ⟨h5.1, fun t t1 t2 k k1 k2 => by rw [wo _ (by omega) (by omega)]; exact h5.2 t t1 t2 k k1 k2⟩
    · rw [w10]; omega
    · rw [w0]; exact h7
    · rw [w0]; exact h8
    · rw [w12]
      intro a b ha hb hab
      rw [hlot a ha.1 ha.2, hlot b hb.1 hb.2]
      exact h10 a b ⟨ha.1, by omega⟩ ⟨hb.1, by omega⟩ hab
  have hcf : CFr X Y := fun a q1 q2 => (hb.1 a (by omega) (by omega)).trans (wo a (by omega) (by omega))
  have hTY := hT.cf hcf hT.1.1.1 hT.1.1.2.1
  have y64 := hcf 64 (by omega) (by omega)
  have e3 : X 64 3 = X 1 2 := hVV.1
  have v3 : V 64 3 = X 1 2 - 1 := by rw [hVd, x_up_s, y64, e3]
  have v64 : ∀ k, k ≠ 0 → k ≠ 3 → V 64 k = X 64 k := fun k hk k3 => by rw [hVd, x_up_n _ (Or.inr k3), x_up_n _ (Or.inr hk), y64]
  have vo : ∀ a, a ≠ 64 → V a = Y a := fun a q1 => by rw [hVd, x_up_o _ q1, x_up_o _ q1]
  have vx : ∀ a, 65 ≤ a → a ≤ 86 → V a = X a := fun a q1 q2 => (vo a (by omega)).trans (hcf a (by omega) q2)
  refine Rel_bg hpre hb ⟨hTY.1.1.1, hTY.1.1.2.1, by omega⟩ ?_ ?_ hb8 ⟨?_, ?_, ?_, ?_, ?_⟩ (fun a ha => vo a (by omega)) ⟨?_, ?_, ?_⟩ ⟨?_, ?_⟩
  · intro l l1 l2 u u1 u2
    rw [v3] at l2
    have e : ∀ k, 0 ≤ k → k < 3 → t_p3 V l u k = t_p3 X l u k := fun k k1 k2 => by
      unfold t_p3; rw [if_pos ⟨l1, by omega, u1, u2, k1, k2⟩, if_pos ⟨l1, by omega, u1, u2, k1, k2⟩, vx 71 (by omega) (by omega)]
    rw [e 0 (by omega) (by omega), e 1 (by omega) (by omega), e 2 (by omega) (by omega)]
    exact hT.1.2.1 l l1 (by omega) u u1 u2
  · refine ⟨fun l l1 l2 u u1 u2 => ?_, by rw [v64 10 (by omega) (by omega)]; exact hT.1.2.2.1.2⟩
    rw [v3] at l2
    rw [vx 68 (by omega) (by omega), vx 69 (by omega) (by omega), vx 70 (by omega) (by omega)]
    exact hT.1.2.2.1.1 l l1 (by omega) u u1 u2
  · rw [v3, w12]
  · funext l
    have e := congrFun hVV.2.2.1 l
    unfold t_body c_body at *
    rw [v3, w12]
    by_cases q : 0 ≤ l ∧ l < X 1 2 - 1
    · rw [if_pos ⟨q.1, by omega⟩, if_pos ⟨q.1, by omega⟩] at e
      rw [if_pos q, if_pos q, w2 l q.2, wl0 l q.1 (by omega), vx 66 (by omega) (by omega)]; exact e
    · rw [if_neg q, if_neg q]
  · funext l
    have e := congrFun hVV.2.2.2.1 l
    unfold t_lot c_lot at *
    rw [v3, w12]
    by_cases q : 0 ≤ l ∧ l < X 1 2 - 1
    · rw [if_pos ⟨q.1, by omega⟩, if_pos ⟨q.1, by omega⟩] at e
      rw [if_pos q, if_pos q, w2 l q.2, wl0 l q.1 (by omega), vx 67 (by omega) (by omega)]; exact e
    · rw [if_neg q, if_neg q]
  · funext l u k
    have e := congrFun (congrFun (congrFun hVV.2.2.2.2.1 l) u) k
    unfold t_p3 c_p3 at *
    rw [v3, w12]
    by_cases q : 0 ≤ l ∧ l < X 1 2 - 1 ∧ 0 ≤ u ∧ u < 3 ∧ 0 ≤ k ∧ k < 3
    · rw [if_pos ⟨q.1, by omega, q.2.2⟩, if_pos ⟨q.1, by omega, q.2.2⟩] at e
      have e2 := wl l q.1 (by omega) (11 + k) (by omega)
      rw [show X 2 l + (11 + k) = X 2 l + 11 + k by omega] at e2
      rw [if_pos q, if_pos q, w2 l q.2.1, e2, vx 71 (by omega) (by omega)]; exact e
    · rw [if_neg q, if_neg q]
  · funext l u x f
    have e := congrFun (congrFun (congrFun (congrFun hVV.2.2.2.2.2 l) u) x) f
    unfold t_O c_O l_odds l_od t_tb at *
    rw [v3, w12, v64 10 (by omega) (by omega), vx 68 (by omega) (by omega), vx 69 (by omega) (by omega), vx 70 (by omega) (by omega), w0]
    by_cases q : 0 ≤ l ∧ l < X 1 2 - 1 ∧ 0 ≤ u ∧ u < 3
    · rw [if_pos ⟨q.1, by omega, q.2.2⟩, if_pos ⟨q.1, by omega, q.2.2⟩] at e
      have := hla l q.1 (by omega)
      rw [if_pos q, if_pos q, w2 l q.2.1, wo (X 2 l + 1 + 1 + 3 * u + 1) (by omega) (by omega), wo (X 2 l + 1 + 1 + 3 * u + 2) (by omega) (by omega), wo (X 2 l + 1 + 1 + 3 * u) (by omega) (by omega)]; exact e
    · rw [if_neg q, if_neg q]
  · rw [v64 10 (by omega) (by omega), hb.2.1 1 (by omega), w0]; exact hS.1
  · rw [v64 18 (by omega) (by omega), hb.2.1 5 (by omega), w0]; exact hS.2.1
  · rw [vx 75 (by omega) (by omega), hb.2.1 5 (by omega), w0, hb.1 31 (by omega) (by omega), wo 31 (by omega) (by omega)]; exact hS.2.2
  · rw [v64 1 (by omega) (by omega), hb.2.1 7 (by omega), w0]; exact hR.1
  · rw [vx 65 (by omega) (by omega), hb.2.1 7 (by omega), w0, hb.1 32 (by omega) (by omega), wo 32 (by omega) (by omega)]; exact hR.2
/-- a text that reads as no lifter -/
theorem Rel_ef {κ : x_Ka} {X Y Z : x_X} {j : Int} (h : Rel κ X j) (hj : 0 ≤ j) (he : e_f X Y) (h8 : j8 Y Z) : Rel κ Z (j + 1) := by
  have h88 := h.1.1.2.1.1
  have h5 := h.1.2.2.2.2.1
  refine Rel_s h hj (fun a q1 q2 _ => he.1 a q1 q2) he.2.1 he.2.2.2 (by rw [he.2.2.1]; omega) (fun a q1 q2 q3 => h8.1 a q1 q3) (fun i q1 q2 => h8.2.1 i q1 q2) (by rw [h8.2.2, he.2.2.1]) (fun p hp => ?_)
  rw [he.2.2.1] at hp
  rw [h8.1 75 (by omega) (by omega), he.1 75 (by omega) (by omega), he.1 31 (by omega) (by omega)]
  exact h.2.2.2.2.1.2.2 p (by omega)
