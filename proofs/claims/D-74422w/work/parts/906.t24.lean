def j8 (X Y : x_X) : Prop := (∀ b, b ≠ 64 → (b < 76 ∨ 79 < b) → Y b = X b) ∧ (∀ i, i ≠ 0 → (i < 18 ∨ 23 < i) → Y 64 i = X 64 i) ∧ Y 64 18 = 0
/-- the rows of the readings in S are laid behind N lifters -/
def cp8 (S Z : x_X) (N t J W : Int) : Prop := (∀ b, (b < 68 ∨ 71 < b) → Z b = S b) ∧ (∀ k, 0 ≤ k → k < t → Z 68 (3 * N + k) = S 76 k) ∧ (∀ k, 0 ≤ k → k < J → Z 69 (18 * N + k) = S 77 k ∧ Z 70 (18 * N + k) = S 78 k) ∧ (∀ k, 0 ≤ k → k < W → Z 71 (9 * N + k) = S 79 k) ∧ (∀ k, k < 3 * N → Z 68 k = S 68 k) ∧ (∀ k, k < 18 * N → Z 69 k = S 69 k ∧ Z 70 k = S 70 k) ∧ (∀ k, k < 9 * N → Z 71 k = S 71 k)
theorem cp8.rf (S : x_X) (N : Int) : cp8 S S N 0 0 0 := ⟨fun _ _ => rfl, fun k k1 k2 => by omega, fun k k1 k2 => by omega, fun k k1 k2 => by omega, fun _ _ => rfl, fun _ _ => ⟨rfl, rfl⟩, fun _ _ => rfl⟩
theorem cp8.p68 {S Z : x_X} {N t J W : Int} (h : cp8 S Z N t J W) (ht : 0 ≤ t) : cp8 S (x_up Z 68 (3 * N + t) (S 76 t)) N (t + 1) J W := by
  obtain ⟨h1, h2, h3, h4, h5, h6, h7⟩ := h
  refine ⟨fun b hb => by rw [x_up_o _ (by omega)]; exact h1 b hb, fun k k1 k2 => ?_, fun k k1 k2 => by rw [x_up_o _ (by omega), x_up_o _ (by omega)]; exact h3 k k1 k2, fun k k1 k2 => by rw [x_up_o _ (by omega)]; exact h4 k k1 k2, fun k k1 => by rw [x_up_n _ (Or.inr (by omega))]; exact h5 k k1, fun k k1 => by rw [x_up_o _ (by omega), x_up_o _ (by omega)]; exact h6 k k1, fun k k1 => by rw [x_up_o _ (by omega)]; exact h7 k k1⟩
  by_cases e : k = t
  · rw [e, x_up_s]
  · rw [x_up_n _ (Or.inr (by omega))]; exact h2 k k1 (by omega)
theorem cp8.p69 {S Z : x_X} {N t J W : Int} (h : cp8 S Z N t J W) (hJ : 0 ≤ J) : cp8 S (x_up (x_up Z 69 (18 * N + J) (S 77 J)) 70 (18 * N + J) (S 78 J)) N t (J + 1) W := by
  obtain ⟨h1, h2, h3, h4, h5, h6, h7⟩ := h
  refine ⟨fun b hb => by rw [x_up_o _ (by omega), x_up_o _ (by omega)]; exact h1 b hb, fun k k1 k2 => by rw [x_up_o _ (by omega), x_up_o _ (by omega)]; exact h2 k k1 k2, fun k k1 k2 => ?_, fun k k1 k2 => by rw [x_up_o _ (by omega), x_up_o _ (by omega)]; exact h4 k k1 k2, fun k k1 => by rw [x_up_o _ (by omega), x_up_o _ (by omega)]; exact h5 k k1, fun k k1 => by rw [x_up_o _ (by omega), x_up_n _ (Or.inr (by omega)), x_up_n _ (Or.inr (by omega)), x_up_o _ (by omega)]; exact h6 k k1, fun k k1 => by rw [x_up_o _ (by omega), x_up_o _ (by omega)]; exact h7 k k1⟩
  by_cases e : k = J
  · rw [e, x_up_s, x_up_o _ (by omega), x_up_s]; exact ⟨rfl, rfl⟩
  · rw [x_up_o _ (by omega), x_up_n _ (Or.inr (by omega)), x_up_n _ (Or.inr (by omega)), x_up_o _ (by omega)]; exact h3 k k1 (by omega)
theorem cp8.p71 {S Z : x_X} {N t J W : Int} (h : cp8 S Z N t J W) (hW : 0 ≤ W) : cp8 S (x_up Z 71 (9 * N + W) (S 79 W)) N t J (W + 1) := by
  obtain ⟨h1, h2, h3, h4, h5, h6, h7⟩ := h
  refine ⟨fun b hb => by rw [x_up_o _ (by omega)]; exact h1 b hb, fun k k1 k2 => by rw [x_up_o _ (by omega)]; exact h2 k k1 k2, fun k k1 k2 => by rw [x_up_o _ (by omega), x_up_o _ (by omega)]; exact h3 k k1 k2, fun k k1 k2 => ?_, fun k k1 => by rw [x_up_o _ (by omega)]; exact h5 k k1, fun k k1 => by rw [x_up_o _ (by omega), x_up_o _ (by omega)]; exact h6 k k1, fun k k1 => by rw [x_up_n _ (Or.inr (by omega))]; exact h7 k k1⟩
  by_cases e : k = W
  · rw [e, x_up_s]
  · rw [x_up_n _ (Or.inr (by omega))]; exact h4 k k1 (by omega)
/-- a lifter has entered: F holds it -/
def en8 (X Z F : x_X) : Prop := (∀ b, b ≠ 64 → (b < 66 ∨ 71 < b) → (b < 76 ∨ 79 < b) → Z b = X b) ∧ (∀ i, i ≠ 0 → i ≠ 3 → (i < 18 ∨ 23 < i) → Z 64 i = X 64 i) ∧ (Z 64 18 = 0 ∧ Z 64 3 = X 64 3 + 1) ∧ (Z 66 (X 64 3) = F 0 0 ∧ ∀ k, k ≠ X 64 3 → Z 66 k = X 66 k) ∧ (Z 67 (X 64 3) = F 0 1 ∧ ∀ k, k ≠ X 64 3 → Z 67 k = X 67 k) ∧ (∀ t, 0 ≤ t → t ≤ 2 → Z 68 (3 * X 64 3 + t) = F (10 + t) 0 ∧ (∀ i, 0 ≤ i → i < F (10 + t) 0 → Z 69 (6 * (3 * X 64 3 + t) + i) = F (20 + t) i ∧ Z 70 (6 * (3 * X 64 3 + t) + i) = F (30 + t) i) ∧ ∀ w, 0 ≤ w → w ≤ 2 → Z 71 (3 * (3 * X 64 3 + t) + w) = F (40 + t) w) ∧ (∀ k, k < 3 * X 64 3 → Z 68 k = X 68 k) ∧ (∀ k, k < 18 * X 64 3 → Z 69 k = X 69 k ∧ Z 70 k = X 70 k) ∧ (∀ k, k < 9 * X 64 3 → Z 71 k = X 71 k)
theorem en8.P {X Z F : x_X} (h : en8 X Z F) (hn : 0 ≤ X 64 3) (hP : t_P X) (hG : ∀ u, 0 ≤ u → u < 3 → r_G F u) : t_P Z := by
  obtain ⟨-, -, ⟨-, e3⟩, -, -, hr, -, -, h71⟩ := h
  intro l l1 l2 t t1 t2
  have key : ∀ w, 0 ≤ w → w ≤ 2 → t_p3 Z l t w = if l = X 64 3 then F (40 + t) w else t_p3 X l t w := fun w w1 w2 => by
    unfold t_p3
    rw [if_pos ⟨l1, l2, t1, t2, w1, by omega⟩]
    by_cases e : l = X 64 3
    · rw [if_pos e, e]; exact (hr t t1 (by omega)).2.2 w w1 w2
    · rw [if_neg e, if_pos ⟨l1, by omega, t1, t2, w1, by omega⟩]; exact h71 _ (by omega)
  rw [key 0 (by omega) (by omega), key 1 (by omega) (by omega), key 2 (by omega) (by omega)]
  by_cases e : l = X 64 3
  · rw [if_pos e, if_pos e, if_pos e]; exact (hG t t1 t2).2
  · rw [if_neg e, if_neg e, if_neg e]; exact hP l l1 (by omega) t t1 t2
theorem en8.mk {X Y S Z F : x_X} {N : Int} (hN : X 64 3 = N) (hj : j8 X Y) (hu : ∀ u, 0 ≤ u → u ≤ 2 → f8 Y F u) (hf : Y 64 22 = F 0 0 ∧ Y 64 23 = F 0 1) (hS : S = x_up (x_up Y 66 N (F 0 0)) 67 N (F 0 1)) (hc : cp8 S Z N 3 18 9) : en8 X (x_up Z 64 3 (N + 1)) F := by
  subst hN
  obtain ⟨h1, h2, h3, h4, h5, h6, h7⟩ := hc
  have sY : ∀ b, b ≠ 66 → b ≠ 67 → S b = Y b := fun b b1 b2 => by rw [hS, x_up_o _ b2, x_up_o _ b1]
  have z64 : ∀ i, i ≠ 3 → x_up Z 64 3 (X 64 3 + 1) 64 i = Y 64 i := fun i hi => by rw [x_up_n _ (Or.inr hi), h1 64 (by omega), sY 64 (by omega) (by omega)]
  refine ⟨fun b b1 b2 b3 => ?_, fun i i1 i2 i3 => ?_, ⟨?_, x_up_s _ _ _ _⟩, ⟨?_, fun k hk => ?_⟩, ⟨?_, fun k hk => ?_⟩, fun t t1 t2 => ⟨?_, fun i i1 i2 => ?_, fun w w1 w2 => ?_⟩, fun k hk => ?_, fun k hk => ?_, fun k hk => ?_⟩
  · rw [x_up_o _ b1, h1 b (by omega), sY b (by omega) (by omega)]; exact hj.1 b b1 b3
  · rw [z64 i i2]; exact hj.2.1 i i1 i3
  · rw [z64 18 (by omega)]; exact hj.2.2
  · rw [x_up_o _ (by omega), h1 66 (by omega), hS, x_up_o _ (by omega), x_up_s]
  · rw [x_up_o _ (by omega), h1 66 (by omega), hS, x_up_o _ (by omega), x_up_n _ (Or.inr hk), hj.1 66 (by omega) (by omega)]
  · rw [x_up_o _ (by omega), h1 67 (by omega), hS, x_up_s]
  · rw [x_up_o _ (by omega), h1 67 (by omega), hS, x_up_n _ (Or.inr hk), x_up_o _ (by omega), hj.1 67 (by omega) (by omega)]
  · rw [x_up_o _ (by omega), h2 t t1 (by omega), sY 76 (by omega) (by omega)]; exact (hu t t1 t2).1
  · have h0 := (hu t t1 t2).2.1
    have := h3 (6 * t + i) (by omega) (by omega)
    rw [x_up_o _ (by omega), x_up_o _ (by omega), show 6 * (3 * X 64 3 + t) + i = 18 * X 64 3 + (6 * t + i) by omega, this.1, this.2, sY 77 (by omega) (by omega), sY 78 (by omega) (by omega)]
    exact (hu t t1 t2).2.2.1 i i1 i2
  · rw [x_up_o _ (by omega), show 3 * (3 * X 64 3 + t) + w = 9 * X 64 3 + (3 * t + w) by omega, h4 (3 * t + w) (by omega) (by omega), sY 79 (by omega) (by omega)]
    exact (hu t t1 t2).2.2.2 w w1 w2
  · rw [x_up_o _ (by omega), h5 k hk, sY 68 (by omega) (by omega), hj.1 68 (by omega) (by omega)]
  · rw [x_up_o _ (by omega), x_up_o _ (by omega), (h6 k hk).1, (h6 k hk).2, sY 69 (by omega) (by omega), sY 70 (by omega) (by omega), hj.1 69 (by omega) (by omega), hj.1 70 (by omega) (by omega)]; exact ⟨rfl, rfl⟩
  · rw [x_up_o _ (by omega), h7 k hk, sY 71 (by omega) (by omega), hj.1 71 (by omega) (by omega)]
theorem c_X8_enters {l : Launch} {E : x_E} {κ : x_Ka} {X : x_X}  (hK : t_K κ X) (hP : t_P X) (hn18 : 0 ≤ X 64 18 ∧ X 64 18 ≤ 240) : x_Met l yX8_enters cX8_enters 3 (some .int) 6 0 0 E κ X [x_rf E 64] κ (fun v_ Y_ => ((r_lif (r8_num (X 75) (X 64 18)) (X 75) (X 64 18) (X 67) (X 64 3)).1 = 0 → v_ = some (vi (-21 - (r_lif (r8_num (X 75) (X 64 18)) (X 75) (X 64 18) (X 67) (X 64 3)).2.1)) ∧ j8 X Y_) ∧ ((r_lif (r8_num (X 75) (X 64 18)) (X 75) (X 64 18) (X 67) (X 64 3)).1 = 1 → X 64 3 = 6 → v_ = some (vi (-2)) ∧ j8 X Y_) ∧ ((r_lif (r8_num (X 75) (X 64 18)) (X 75) (X 64 18) (X 67) (X 64 3)).1 = 1 → X 64 3 ≠ 6 → v_ = some (vi (X 64 3)) ∧ ∃ Z_, en8 X Z_ (r_lif (r8_num (X 75) (X 64 18)) (X 75) (X 64 18) (X 67) (X 64 3)).2.2 ∧ (∀ a, a ≠ 72 → a ≠ 64 → Y_ a = Z_ a) ∧ (∀ i, i ≠ 13 → i ≠ 14 → Y_ 64 i = Z_ 64 i) ∧ (Y_ 64 13 = 0 ∧ Y_ 64 14 = 0) ∧ t_M Y_ = m_beg (Z_ 64 3) (fun l t => t_p3 Z_ l t 0) (t_M Z_) ∧ ∀ a, 0 ≤ a → a < Z_ 64 3 → Y_ 72 (3 + 10 * a + 2) = 0 ∧ Y_ 72 (3 + 10 * a + 3) = 0)) := by
  refine x_Met.of [(false, x_rf E 64)] [some (x_rf E 64), none, none] 2 (by decide) rfl rfl ⟨x_cr E (64), trivial⟩ rfl rfl ?_
  intro p e s m args below meth c hargs hin B
  obtain ⟨hT, h8, hn⟩ := id hK
  have hNr := r8_num_r (X 75) (X 64 18)
  have hRf := r_lif_f (r8_num (X 75) (X 64 18)) (X 75) (X 64 18) (X 67) (X 64 3)
  have lp_78 : ∀ (n : Nat) (t : Int) (Y0 S0 Z : x_X), ((0 ≤ t ∧ t ≤ 3) ∧ (((r_lif (r8_num (X 75) (X 64 18)) (X 75) (X 64 18) (X 67) (X 64 3)).1 = 1 ∧ X 64 3 ≠ 6) ∧ (j8 X Y0 ∧ (Y0 64 22 = (r_lif (r8_num (X 75) (X 64 18)) (X 75) (X 64 18) (X 67) (X 64 3)).2.2 0 0 ∧ Y0 64 23 = (r_lif (r8_num (X 75) (X 64 18)) (X 75) (X 64 18) (X 67) (X 64 3)).2.2 0 1) ∧ ∀ u, 0 ≤ u → u ≤ 2 → f8 Y0 (r_lif (r8_num (X 75) (X 64 18)) (X 75) (X 64 18) (X 67) (X 64 3)).2.2 u) ∧ S0 = x_up (x_up Y0 66 (X 64 3) ((r_lif (r8_num (X 75) (X 64 18)) (X 75) (X 64 18) (X 67) (X 64 3)).2.2 0 0)) 67 (X 64 3) ((r_lif (r8_num (X 75) (X 64 18)) (X 75) (X 64 18) (X 67) (X 64 3)).2.2 0 1) ∧ cp8 S0 Z (X 64 3) (t) (6 * t) (3 * t))) → ((4 - t).toNat < n) → x_G p l e (x_rm 6 0 0) s m args below meth c 3 E 0 0 (MQ below (x_Q E κ (fun v_ Y_ => ((r_lif (r8_num (X 75) (X 64 18)) (X 75) (X 64 18) (X 67) (X 64 3)).1 = 0 → v_ = some (vi (-21 - (r_lif (r8_num (X 75) (X 64 18)) (X 75) (X 64 18) (X 67) (X 64 3)).2.1)) ∧ j8 X Y_) ∧ ((r_lif (r8_num (X 75) (X 64 18)) (X 75) (X 64 18) (X 67) (X 64 3)).1 = 1 → X 64 3 = 6 → v_ = some (vi (-2)) ∧ j8 X Y_) ∧ ((r_lif (r8_num (X 75) (X 64 18)) (X 75) (X 64 18) (X 67) (X 64 3)).1 = 1 → X 64 3 ≠ 6 → v_ = some (vi (X 64 3)) ∧ ∃ Z_, en8 X Z_ (r_lif (r8_num (X 75) (X 64 18)) (X 75) (X 64 18) (X 67) (X 64 3)).2.2 ∧ (∀ a, a ≠ 72 → a ≠ 64 → Y_ a = Z_ a) ∧ (∀ i, i ≠ 13 → i ≠ 14 → Y_ 64 i = Z_ 64 i) ∧ (Y_ 64 13 = 0 ∧ Y_ 64 14 = 0) ∧ t_M Y_ = m_beg (Z_ 64 3) (fun l t => t_p3 Z_ l t 0) (t_M Z_) ∧ ∀ a, 0 ≤ a → a < Z_ 64 3 → Y_ 72 (3 + 10 * a + 2) = 0 ∧ Y_ 72 (3 + 10 * a + 3) = 0))) args s 0 0 (fun q => E.1 ≤ q)) κ 78 [some (x_rf E 64), some (vi t), none] [] Z := by
    intro n
    induction n with
    | zero => intro t Y0 S0 Z hinv hme; exfalso; omega
    | succ n ih =>
      intro t Y0 S0 Z hinv hme
      have ih78 := ih
      obtain ⟨ht, hb⟩ := hinv
      obtain ⟨hr, hy, hS, hc⟩ := hb
      have z3 : Z 64 3 = X 64 3 := by rw [hc.1 64 (by omega), hS, x_up_o _ (by omega), x_up_o _ (by omega)]; exact hy.1.2.1 3 (by omega) (by omega)
      have lp_176 : ∀ (n : Nat) (k : Int) (Z : x_X), (t < 3 ∧ (0 ≤ k ∧ k ≤ 3) ∧ (((r_lif (r8_num (X 75) (X 64 18)) (X 75) (X 64 18) (X 67) (X 64 3)).1 = 1 ∧ X 64 3 ≠ 6) ∧ (j8 X Y0 ∧ (Y0 64 22 = (r_lif (r8_num (X 75) (X 64 18)) (X 75) (X 64 18) (X 67) (X 64 3)).2.2 0 0 ∧ Y0 64 23 = (r_lif (r8_num (X 75) (X 64 18)) (X 75) (X 64 18) (X 67) (X 64 3)).2.2 0 1) ∧ ∀ u, 0 ≤ u → u ≤ 2 → f8 Y0 (r_lif (r8_num (X 75) (X 64 18)) (X 75) (X 64 18) (X 67) (X 64 3)).2.2 u) ∧ S0 = x_up (x_up Y0 66 (X 64 3) ((r_lif (r8_num (X 75) (X 64 18)) (X 75) (X 64 18) (X 67) (X 64 3)).2.2 0 0)) 67 (X 64 3) ((r_lif (r8_num (X 75) (X 64 18)) (X 75) (X 64 18) (X 67) (X 64 3)).2.2 0 1) ∧ cp8 S0 Z (X 64 3) (t + 1) (6 * t + 6) (3 * t + k))) → ((4 - k).toNat < n) → x_G p l e (x_rm 6 0 0) s m args below meth c 3 E 0 0 (MQ below (x_Q E κ (fun v_ Y_ => ((r_lif (r8_num (X 75) (X 64 18)) (X 75) (X 64 18) (X 67) (X 64 3)).1 = 0 → v_ = some (vi (-21 - (r_lif (r8_num (X 75) (X 64 18)) (X 75) (X 64 18) (X 67) (X 64 3)).2.1)) ∧ j8 X Y_) ∧ ((r_lif (r8_num (X 75) (X 64 18)) (X 75) (X 64 18) (X 67) (X 64 3)).1 = 1 → X 64 3 = 6 → v_ = some (vi (-2)) ∧ j8 X Y_) ∧ ((r_lif (r8_num (X 75) (X 64 18)) (X 75) (X 64 18) (X 67) (X 64 3)).1 = 1 → X 64 3 ≠ 6 → v_ = some (vi (X 64 3)) ∧ ∃ Z_, en8 X Z_ (r_lif (r8_num (X 75) (X 64 18)) (X 75) (X 64 18) (X 67) (X 64 3)).2.2 ∧ (∀ a, a ≠ 72 → a ≠ 64 → Y_ a = Z_ a) ∧ (∀ i, i ≠ 13 → i ≠ 14 → Y_ 64 i = Z_ 64 i) ∧ (Y_ 64 13 = 0 ∧ Y_ 64 14 = 0) ∧ t_M Y_ = m_beg (Z_ 64 3) (fun l t => t_p3 Z_ l t 0) (t_M Z_) ∧ ∀ a, 0 ≤ a → a < Z_ 64 3 → Y_ 72 (3 + 10 * a + 2) = 0 ∧ Y_ 72 (3 + 10 * a + 3) = 0))) args s 0 0 (fun q => E.1 ≤ q)) κ 176 [some (x_rf E 64), some (vi t), some (vi k)] [] Z := by
        intro n
        induction n with
        | zero => intro k Z hin2 hme; exfalso; omega
        | succ n ih =>
          intro k Z hin2 hme
          obtain ⟨ht3, hk, hb⟩ := hin2
          obtain ⟨hr, hy, hS, hc⟩ := hb
          have z3 : Z 64 3 = X 64 3 := by rw [hc.1 64 (by omega), hS, x_up_o _ (by omega), x_up_o _ (by omega)]; exact hy.1.2.1 3 (by omega) (by omega)
          refine x_iload_n B dX8_enters_176 rfl ?_
          refine x_iconst B dX8_enters_177 ?_
          refine x_icmp_ge B (tgt := 214) dX8_enters_178 (by decide) ⟨by omega, by omega⟩ ⟨by omega, by omega⟩ (fun h_178 => ?_) (fun h_178 => ?_)
          · refine x_iinc_1 B dX8_enters_214 (by first | rfl | exact x_cr _ _) ?_
            refine x_goto B (tgt := 78) dX8_enters_217 (by decide) ?_
            refine x_fg_2 ?_
            refine ih78 _ _ _ _ ⟨⟨by omega, by omega⟩, hr, hy, hS, ?_⟩ (by omega)
            obtain rfl : k = 3 := by omega
            rw [show 6 * (t + 1) = 6 * t + 6 by omega, show 3 * (t + 1) = 3 * t + 3 by omega]; exact hc
          · refine x_aload_n B dX8_enters_181 rfl ?_
            refine x_getC0 B (k := 9) hT rfl rfl xc_7 (by decide) h8 (Or.inl q1344) (fun _ h => h) dX8_enters_182 (fun k_182 => ?_)
            refine x_iconst B dX8_enters_185 ?_
            refine x_iconst B dX8_enters_186 ?_
            refine x_aload_n B dX8_enters_187 rfl ?_
            refine x_getI B (k := 3) 3 rfl rfl xc_7 (by decide) h8 (Or.inl q1338) (fun _ h => h) dX8_enters_188 (fun r_188 => ?_)
            rw [z3] at r_188 ⊢
            refine x_imul B dX8_enters_191 ?_
            refine x_iload_n B dX8_enters_192 rfl ?_
            refine x_iadd B dX8_enters_193 ?_
            refine x_imul B dX8_enters_194 ?_
            refine x_iload_n B dX8_enters_195 rfl ?_
            refine x_iadd B dX8_enters_196 ?_
            refine x_aload_n B dX8_enters_197 rfl ?_
            refine x_getC0 B (k := 27) hT rfl rfl xc_7 (by decide) h8 (Or.inl q1362) (fun _ h => h) dX8_enters_198 (fun k_198 => ?_)
            refine x_iconst B dX8_enters_201 ?_
            refine x_iload_n B dX8_enters_202 rfl ?_
            refine x_imul B dX8_enters_203 ?_
            refine x_iload_n B dX8_enters_204 rfl ?_
            refine x_iadd B dX8_enters_205 ?_
            refine x_iald B k_198 ⟨by omega, by omega⟩ dX8_enters_206 (fun r_206 => ?_)
            have e206 : Z 79 (3 * t + k) = S0 79 (3 * t + k) := by rw [hc.1 79 (by omega)]
            rw [e206] at r_206 ⊢
            refine x_iast B k_182 ⟨by omega, by omega⟩ ⟨by omega, by omega⟩ dX8_enters_207 ?_
            refine x_iinc_2 B dX8_enters_208 (by first | rfl | exact x_cr _ _) ?_
            refine x_goto B (tgt := 176) dX8_enters_211 (by decide) ?_
            refine ih _ _ ⟨ht3, ⟨by omega, by omega⟩, hr, hy, hS, ?_⟩ (by omega)
            have := hc.p71 (by omega)
            rw [show 9 * X 64 3 + (3 * t + k) = 3 * (3 * X 64 3 + t) + k by omega, show 3 * t + k + 1 = 3 * t + (k + 1) by omega] at this
            exact this
      have lp_104 : ∀ (n : Nat) (k : Int) (Z : x_X), (t < 3 ∧ (0 ≤ k ∧ k ≤ 6) ∧ (((r_lif (r8_num (X 75) (X 64 18)) (X 75) (X 64 18) (X 67) (X 64 3)).1 = 1 ∧ X 64 3 ≠ 6) ∧ (j8 X Y0 ∧ (Y0 64 22 = (r_lif (r8_num (X 75) (X 64 18)) (X 75) (X 64 18) (X 67) (X 64 3)).2.2 0 0 ∧ Y0 64 23 = (r_lif (r8_num (X 75) (X 64 18)) (X 75) (X 64 18) (X 67) (X 64 3)).2.2 0 1) ∧ ∀ u, 0 ≤ u → u ≤ 2 → f8 Y0 (r_lif (r8_num (X 75) (X 64 18)) (X 75) (X 64 18) (X 67) (X 64 3)).2.2 u) ∧ S0 = x_up (x_up Y0 66 (X 64 3) ((r_lif (r8_num (X 75) (X 64 18)) (X 75) (X 64 18) (X 67) (X 64 3)).2.2 0 0)) 67 (X 64 3) ((r_lif (r8_num (X 75) (X 64 18)) (X 75) (X 64 18) (X 67) (X 64 3)).2.2 0 1) ∧ cp8 S0 Z (X 64 3) (t + 1) (6 * t + k) (3 * t))) → ((7 - k).toNat < n) → x_G p l e (x_rm 6 0 0) s m args below meth c 3 E 0 0 (MQ below (x_Q E κ (fun v_ Y_ => ((r_lif (r8_num (X 75) (X 64 18)) (X 75) (X 64 18) (X 67) (X 64 3)).1 = 0 → v_ = some (vi (-21 - (r_lif (r8_num (X 75) (X 64 18)) (X 75) (X 64 18) (X 67) (X 64 3)).2.1)) ∧ j8 X Y_) ∧ ((r_lif (r8_num (X 75) (X 64 18)) (X 75) (X 64 18) (X 67) (X 64 3)).1 = 1 → X 64 3 = 6 → v_ = some (vi (-2)) ∧ j8 X Y_) ∧ ((r_lif (r8_num (X 75) (X 64 18)) (X 75) (X 64 18) (X 67) (X 64 3)).1 = 1 → X 64 3 ≠ 6 → v_ = some (vi (X 64 3)) ∧ ∃ Z_, en8 X Z_ (r_lif (r8_num (X 75) (X 64 18)) (X 75) (X 64 18) (X 67) (X 64 3)).2.2 ∧ (∀ a, a ≠ 72 → a ≠ 64 → Y_ a = Z_ a) ∧ (∀ i, i ≠ 13 → i ≠ 14 → Y_ 64 i = Z_ 64 i) ∧ (Y_ 64 13 = 0 ∧ Y_ 64 14 = 0) ∧ t_M Y_ = m_beg (Z_ 64 3) (fun l t => t_p3 Z_ l t 0) (t_M Z_) ∧ ∀ a, 0 ≤ a → a < Z_ 64 3 → Y_ 72 (3 + 10 * a + 2) = 0 ∧ Y_ 72 (3 + 10 * a + 3) = 0))) args s 0 0 (fun q => E.1 ≤ q)) κ 104 [some (x_rf E 64), some (vi t), some (vi k)] [] Z := by
        intro n
        induction n with
        | zero => intro k Z hin2 hme; exfalso; omega
        | succ n ih =>
          intro k Z hin2 hme
          obtain ⟨ht3, hk, hb⟩ := hin2
          obtain ⟨hr, hy, hS, hc⟩ := hb
          have z3 : Z 64 3 = X 64 3 := by rw [hc.1 64 (by omega), hS, x_up_o _ (by omega), x_up_o _ (by omega)]; exact hy.1.2.1 3 (by omega) (by omega)
          refine x_iload_n B dX8_enters_104 rfl ?_
          refine x_bipush B dX8_enters_105 (by decide) ?_
          refine x_icmp_ge B (tgt := 174) dX8_enters_107 (by decide) ⟨by omega, by omega⟩ ⟨by omega, by omega⟩ (fun h_107 => ?_) (fun h_107 => ?_)
          · refine x_iconst B dX8_enters_174 ?_
            refine x_ist_2 B dX8_enters_175 (by first | rfl | exact x_cr _ _) ?_
            obtain rfl : k = 6 := by omega
            exact lp_176 _ 0 Z ⟨ht3, ⟨by omega, by omega⟩, hr, hy, hS, by rw [show 3 * t + 0 = 3 * t by omega]; exact hc⟩ (Nat.lt_succ_self _)
          · refine x_aload_n B dX8_enters_110 rfl ?_
            refine x_getC0 B (k := 7) hT rfl rfl xc_7 (by decide) h8 (Or.inl q1342) (fun _ h => h) dX8_enters_111 (fun k_111 => ?_)
            refine x_bipush B dX8_enters_114 (by decide) ?_
            refine x_iconst B dX8_enters_116 ?_
            refine x_aload_n B dX8_enters_117 rfl ?_
            refine x_getI B (k := 3) 3 rfl rfl xc_7 (by decide) h8 (Or.inl q1338) (fun _ h => h) dX8_enters_118 (fun r_118 => ?_)
            rw [z3] at r_118 ⊢
            refine x_imul B dX8_enters_121 ?_
            refine x_iload_n B dX8_enters_122 rfl ?_
            refine x_iadd B dX8_enters_123 ?_
            refine x_imul B dX8_enters_124 ?_
            refine x_iload_n B dX8_enters_125 rfl ?_
            refine x_iadd B dX8_enters_126 ?_
            refine x_aload_n B dX8_enters_127 rfl ?_
            refine x_getC0 B (k := 25) hT rfl rfl xc_7 (by decide) h8 (Or.inl q1360) (fun _ h => h) dX8_enters_128 (fun k_128 => ?_)
            refine x_bipush B dX8_enters_131 (by decide) ?_
            refine x_iload_n B dX8_enters_133 rfl ?_
            refine x_imul B dX8_enters_134 ?_
            refine x_iload_n B dX8_enters_135 rfl ?_
            refine x_iadd B dX8_enters_136 ?_
            refine x_iald B k_128 ⟨by omega, by omega⟩ dX8_enters_137 (fun r_137 => ?_)
            have e137 : Z 77 (6 * t + k) = S0 77 (6 * t + k) := by rw [hc.1 77 (by omega)]
            rw [e137] at r_137 ⊢
            refine x_iast B k_111 ⟨by omega, by omega⟩ ⟨by omega, by omega⟩ dX8_enters_138 ?_
            refine x_aload_n B dX8_enters_139 rfl ?_
            refine x_getC0 B (k := 8) hT rfl rfl xc_7 (by decide) h8 (Or.inl q1343) (fun _ h => h) dX8_enters_140 (fun k_140 => ?_)
            refine x_bipush B dX8_enters_143 (by decide) ?_
            refine x_iconst B dX8_enters_145 ?_
            refine x_aload_n B dX8_enters_146 rfl ?_
            refine x_getI B (k := 3) 3 rfl rfl xc_7 (by decide) h8 (Or.inl q1338) (fun _ h => h) dX8_enters_147 (fun r_147 => ?_)
            rw [x_up_o _ (by omega), z3] at r_147 ⊢
            refine x_imul B dX8_enters_150 ?_
            refine x_iload_n B dX8_enters_151 rfl ?_
            refine x_iadd B dX8_enters_152 ?_
            refine x_imul B dX8_enters_153 ?_
            refine x_iload_n B dX8_enters_154 rfl ?_
            refine x_iadd B dX8_enters_155 ?_
            refine x_aload_n B dX8_enters_156 rfl ?_
            refine x_getC0 B (k := 26) hT rfl rfl xc_7 (by decide) h8 (Or.inl q1361) (fun _ h => h) dX8_enters_157 (fun k_157 => ?_)
            refine x_bipush B dX8_enters_160 (by decide) ?_
            refine x_iload_n B dX8_enters_162 rfl ?_
            refine x_imul B dX8_enters_163 ?_
            refine x_iload_n B dX8_enters_164 rfl ?_
            refine x_iadd B dX8_enters_165 ?_
            refine x_iald B k_157 ⟨by omega, by omega⟩ dX8_enters_166 (fun r_166 => ?_)
            rw [x_up_o _ (by omega)] at r_166 ⊢
            have e166 : Z 78 (6 * t + k) = S0 78 (6 * t + k) := by rw [hc.1 78 (by omega)]
            rw [e166] at r_166 ⊢
            refine x_iast B k_140 ⟨by omega, by omega⟩ ⟨by omega, by omega⟩ dX8_enters_167 ?_
            refine x_iinc_2 B dX8_enters_168 (by first | rfl | exact x_cr _ _) ?_
            refine x_goto B (tgt := 104) dX8_enters_171 (by decide) ?_
            refine ih _ _ ⟨ht3, ⟨by omega, by omega⟩, hr, hy, hS, ?_⟩ (by omega)
            have := hc.p69 (by omega)
            rw [show 18 * X 64 3 + (6 * t + k) = 6 * (3 * X 64 3 + t) + k by omega, show 6 * t + k + 1 = 6 * t + (k + 1) by omega] at this
            exact this
      refine x_iload_n B dX8_enters_78 rfl ?_
      refine x_iconst B dX8_enters_79 ?_
      refine x_icmp_ge B (tgt := 220) dX8_enters_80 (by decide) ⟨by omega, by omega⟩ ⟨by omega, by omega⟩ (fun h_80 => ?_) (fun h_80 => ?_)
      · obtain rfl : t = 3 := by omega
        refine x_aload_n B dX8_enters_220 rfl ?_
        refine x_dup B dX8_enters_221 (by first | rfl | exact x_cr _ _) ?_
        refine x_getI B (k := 3) 3 rfl rfl xc_7 (by decide) h8 (Or.inl q1338) (fun _ h => h) dX8_enters_222 (fun r_222 => ?_)
        rw [z3] at r_222 ⊢
        refine x_iconst B dX8_enters_225 ?_
        refine x_iadd B dX8_enters_226 ?_
        refine x_putI B (k := 3) 3 rfl rfl rfl ⟨by omega, by omega⟩ xc_7 (by decide) rfl nn_7_3 (fun _ => rfl) h8 (Or.inl q1338) (fun _ h => h) dX8_enters_227 ?_
        have hEn := en8.mk (X := X) (Y := Y0) rfl hy.1 hy.2.2 hy.2.1 hS hc
        have hok := r_lif_ok hNr hn18.1 hr.1
        have hPZ := hEn.P hn.1 hP hok.1
        have e33 : x_up Z 64 3 (X 64 3 + 1) 64 3 = X 64 3 + 1 := x_up_s _ _ _ _
        have hKZ : t_K κ (x_up Z 64 3 (X 64 3 + 1)) := ⟨hT, h8, by rw [e33]; omega⟩
        refine x_aload_n B dX8_enters_230 rfl ?_
        refine x_go (x_rV B h8 (show x_cl[7]? = some _ from rfl) (c_X8_meetBegins hKZ hPZ) (lw_V q1509 q1511 qs48 q122 q1512) hv_X8_meetBegins ⟨by decide, by decide⟩ ⟨by decide, by decide⟩ rfl rfl (by simp [x_cr, x_c1, x_c2]) dX8_enters_231) (fun v_231 X_231 p_231 => ?_)
        obtain ⟨rfl, b1, b2, b3, b4, b5⟩ := p_231
        refine x_aload_n B dX8_enters_234 rfl ?_
        refine x_getI B (k := 3) 3 rfl rfl xc_7 (by decide) h8 (Or.inl q1338) (fun _ h => h) dX8_enters_235 (fun r_235 => ?_)
        rw [b2 3 (by omega) (by omega), e33] at r_235 ⊢
        refine x_iconst B dX8_enters_238 ?_
        refine x_isub B dX8_enters_239 ?_
        refine x_iret B (fun _ _ h => h) ?_ dX8_enters_240
        refine ⟨fun q => by omega, fun _ q => absurd q hr.2, fun _ _ => ⟨?_, _, hEn, b1, b2, b3, b4, b5⟩⟩
        rw [show X 64 3 + 1 - 1 = X 64 3 by omega]
      · refine x_aload_n B dX8_enters_83 rfl ?_
        refine x_getC0 B (k := 6) hT rfl rfl xc_7 (by decide) h8 (Or.inl q1341) (fun _ h => h) dX8_enters_84 (fun k_84 => ?_)
        refine x_iconst B dX8_enters_87 ?_
        refine x_aload_n B dX8_enters_88 rfl ?_
        refine x_getI B (k := 3) 3 rfl rfl xc_7 (by decide) h8 (Or.inl q1338) (fun _ h => h) dX8_enters_89 (fun r_89 => ?_)
        rw [z3] at r_89 ⊢
        refine x_imul B dX8_enters_92 ?_
        refine x_iload_n B dX8_enters_93 rfl ?_
        refine x_iadd B dX8_enters_94 ?_
        refine x_aload_n B dX8_enters_95 rfl ?_
        refine x_getC0 B (k := 24) hT rfl rfl xc_7 (by decide) h8 (Or.inl q1359) (fun _ h => h) dX8_enters_96 (fun k_96 => ?_)
        refine x_iload_n B dX8_enters_99 rfl ?_
        refine x_iald B k_96 ⟨by omega, by omega⟩ dX8_enters_100 (fun r_100 => ?_)
        have e100 : Z 76 t = S0 76 t := by rw [hc.1 76 (by omega)]
        rw [e100] at r_100 ⊢
        refine x_iast B k_84 ⟨by omega, by omega⟩ ⟨by omega, by omega⟩ dX8_enters_101 ?_
        refine x_iconst B dX8_enters_102 ?_
        refine x_ist_2 B dX8_enters_103 (by first | rfl | exact x_cr _ _) ?_
        refine lp_104 _ 0 _ ⟨by omega, ⟨by omega, by omega⟩, hr, hy, hS, ?_⟩ (Nat.lt_succ_self _)
        rw [show 6 * t + 0 = 6 * t by omega]; exact hc.p68 ht.1
  refine x_aload_n B dX8_enters_0 rfl ?_
  refine x_iconst B dX8_enters_1 ?_
  refine x_putI B (k := 0) 0 rfl rfl rfl ⟨by omega, by omega⟩ xc_7 (by decide) rfl nn_7_0 (fun _ => rfl) h8 (Or.inl q1335) (fun _ h => h) dX8_enters_2 ?_
  refine x_aload_n B dX8_enters_5 rfl ?_
  refine x_aload_n B dX8_enters_6 rfl ?_
  refine x_getI B (k := 18) 18 rfl rfl xc_7 (by decide) h8 (Or.inl q1353) (fun _ h => h) dX8_enters_7 (fun r_7 => ?_)
  rw [x_up_n _ (Or.inr (by omega))] at r_7 ⊢
  refine x_putI B (k := 20) 20 rfl rfl rfl ⟨by omega, by omega⟩ xc_7 (by decide) rfl nn_7_20 (fun _ => rfl) h8 (Or.inl q1355) (fun _ h => h) dX8_enters_10 ?_
  refine x_aload_n B dX8_enters_13 rfl ?_
  refine x_iconst B dX8_enters_14 ?_
  refine x_putI B (k := 18) 18 rfl rfl rfl ⟨by omega, by omega⟩ xc_7 (by decide) rfl nn_7_18 (fun _ => rfl) h8 (Or.inl q1353) (fun _ h => h) dX8_enters_15 ?_
  refine x_aload_n B dX8_enters_18 rfl ?_
  refine x_iconst B dX8_enters_19 ?_
  refine x_putI B (k := 19) 19 rfl rfl rfl ⟨by omega, by omega⟩ xc_7 (by decide) rfl nn_7_19 (fun _ => rfl) h8 (Or.inl q1354) (fun _ h => h) dX8_enters_20 ?_
  have hq : q8 κ (x_up (x_up (x_up (x_up X 64 0 0) 64 20 (X 64 18)) 64 18 0) 64 19 0) (X 75) (X 64 18) 0 := ⟨⟨hT, h8⟩, by rw [x_up_o _ (by omega), x_up_o _ (by omega), x_up_o _ (by omega), x_up_o _ (by omega)], by rw [x_up_n _ (Or.inr (by omega)), x_up_n _ (Or.inr (by omega)), x_up_s], x_up_s _ _ _ _, ⟨by omega, by omega⟩, hn18.2⟩
  have o1 : ∀ b, b ≠ 64 → (x_up (x_up (x_up (x_up X 64 0 0) 64 20 (X 64 18)) 64 18 0) 64 19 0) b = X b := fun b hb => by rw [x_up_o _ hb, x_up_o _ hb, x_up_o _ hb, x_up_o _ hb]
  have o2 : ∀ i, i ≠ 0 → (i < 18 ∨ 23 < i) → (x_up (x_up (x_up (x_up X 64 0 0) 64 20 (X 64 18)) 64 18 0) 64 19 0) 64 i = X 64 i := fun i i1 i2 => by rw [x_up_n _ (Or.inr (by omega)), x_up_n _ (Or.inr (by omega)), x_up_n _ (Or.inr (by omega)), x_up_n _ (Or.inr (by omega))]
  have o18 : (x_up (x_up (x_up (x_up X 64 0 0) 64 20 (X 64 18)) 64 18 0) 64 19 0) 64 18 = 0 := by rw [x_up_n _ (Or.inr (by omega)), x_up_s]
  generalize (x_up (x_up (x_up (x_up X 64 0 0) 64 20 (X 64 18)) 64 18 0) 64 19 0) = X1 at hq o1 o2 o18 ⊢
  have o3 : X1 64 3 = X 64 3 := o2 3 (by omega) (by omega)
  refine x_aload_n B dX8_enters_23 rfl ?_
  refine x_go (x_rV B h8 (show x_cl[7]? = some _ from rfl) (c_X8_takesLifter hq (by rw [o3]; exact hn)) (lw_V q1475 q1477 qs40 q122 q1478) hv_X8_takesLifter ⟨by decide, by decide⟩ ⟨by decide, by decide⟩ rfl rfl (by simp [x_cr, x_c1, x_c2]) dX8_enters_24) (fun v_24 X_24 p_24 => ?_)
  rw [o3, o1 67 (by omega)] at p_24
  obtain ⟨rfl, hs, k19, hfu0, kr⟩ := p_24
  have hj : j8 X X_24 := ⟨fun b b1 b2 => (hs.1 b b1 b2).trans (o1 b b1), fun i i1 i2 => (hs.2 i (by omega) (by omega) (by omega) (by omega)).trans (o2 i i1 i2), (hs.2 18 (by omega) (by omega) (by omega) (by omega)).trans o18⟩
  have k3 : X_24 64 3 = X 64 3 := hj.2.1 3 (by omega) (by omega)
  refine x_if_ne B (tgt := 38) dX8_enters_27 (by decide) ⟨by omega, by omega⟩ (fun h_27 => ?_) (fun h_27 => ?_)
  · have hr1 : (r_lif (r8_num (X 75) (X 64 18)) (X 75) (X 64 18) (X 67) (X 64 3)).1 = 1 := by omega
    obtain ⟨hff, hfu⟩ := hfu0 hr1
    refine x_aload_n B dX8_enters_38 rfl ?_
    refine x_getI B (k := 3) 3 rfl rfl xc_7 (by decide) h8 (Or.inl q1338) (fun _ h => h) dX8_enters_39 (fun r_39 => ?_)
    rw [k3] at r_39 ⊢
    refine x_bipush B dX8_enters_42 (by decide) ?_
    refine x_icmp_ne B (tgt := 50) dX8_enters_44 (by decide) ⟨by omega, by omega⟩ ⟨by omega, by omega⟩ (fun h_44 => ?_) (fun h_44 => ?_)
    · have hn6 : X 64 3 ≠ 6 := by omega
      refine x_aload_n B dX8_enters_50 rfl ?_
      refine x_getC0 B (k := 4) hT rfl rfl xc_7 (by decide) h8 (Or.inl q1339) (fun _ h => h) dX8_enters_51 (fun k_51 => ?_)
      refine x_aload_n B dX8_enters_54 rfl ?_
      refine x_getI B (k := 3) 3 rfl rfl xc_7 (by decide) h8 (Or.inl q1338) (fun _ h => h) dX8_enters_55 (fun r_55 => ?_)
      rw [k3] at r_55 ⊢
      refine x_aload_n B dX8_enters_58 rfl ?_
      refine x_getI B (k := 22) 22 rfl rfl xc_7 (by decide) h8 (Or.inl q1357) (fun _ h => h) dX8_enters_59 (fun r_59 => ?_)
      rw [hff.1] at r_59 ⊢
      refine x_iast B k_51 ⟨by omega, by omega⟩ ⟨by omega, by omega⟩ dX8_enters_62 ?_
      refine x_aload_n B dX8_enters_63 rfl ?_
      refine x_getC0 B (k := 5) hT rfl rfl xc_7 (by decide) h8 (Or.inl q1340) (fun _ h => h) dX8_enters_64 (fun k_64 => ?_)
      refine x_aload_n B dX8_enters_67 rfl ?_
      refine x_getI B (k := 3) 3 rfl rfl xc_7 (by decide) h8 (Or.inl q1338) (fun _ h => h) dX8_enters_68 (fun r_68 => ?_)
      rw [x_up_o _ (by omega), k3] at r_68 ⊢
      refine x_aload_n B dX8_enters_71 rfl ?_
      refine x_getI B (k := 23) 23 rfl rfl xc_7 (by decide) h8 (Or.inl q1358) (fun _ h => h) dX8_enters_72 (fun r_72 => ?_)
      rw [x_up_o _ (by omega), hff.2] at r_72 ⊢
      refine x_iast B k_64 ⟨by omega, by omega⟩ ⟨by omega, by omega⟩ dX8_enters_75 ?_
      refine x_iconst B dX8_enters_76 ?_
      refine x_ist_1 B dX8_enters_77 (by first | rfl | exact x_cr _ _) ?_
      exact lp_78 _ 0 X_24 _ _ ⟨⟨by omega, by omega⟩, ⟨hr1, hn6⟩, ⟨hj, hff, hfu⟩, rfl, cp8.rf _ _⟩ (Nat.lt_succ_self _)
    · refine x_bipush B dX8_enters_47 (by decide) ?_
      refine x_iret B (fun _ _ h => h) ?_ dX8_enters_49
      exact ⟨fun q => by omega, fun _ _ => ⟨rfl, hj⟩, fun _ q => by omega⟩
  · refine x_bipush B dX8_enters_30 (by decide) ?_
    refine x_aload_n B dX8_enters_32 rfl ?_
    refine x_getI B (k := 19) 19 rfl rfl xc_7 (by decide) h8 (Or.inl q1354) (fun _ h => h) dX8_enters_33 (fun r_33 => ?_)
    rw [k19] at r_33 ⊢
    refine x_isub B dX8_enters_36 ?_
    refine x_iret B (fun _ _ h => h) ?_ dX8_enters_37
    exact ⟨fun _ => ⟨rfl, hj⟩, fun q => by omega, fun q => by omega⟩
