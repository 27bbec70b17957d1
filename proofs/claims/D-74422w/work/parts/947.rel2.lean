/-! ===== what moves: the relation again ===== -/
theorem e_in_b {D : Int → Int → Int → Int → Int} {g : Int} : ∀ (k : Nat) (tr fl best least n : Int) (R : Int → Int), n ≤ (e_in D g k tr fl best least n R).2.1 ∧ (e_in D g k tr fl best least n R).2.1 ≤ n + k
  | 0, tr, fl, best, least, n, R => by show n ≤ n ∧ n ≤ n + ((0 : Nat) : Int); omega
  | k + 1, tr, fl, best, least, n, R => by
    unfold e_in
    split
    · have := e_in_b (D := D) (g := g) k (tr + 1) (fl + (1 - g)) (if g = 1 then D tr fl best least else best) (D tr fl best least + g) (n + 1) (fun j => if j = n then D tr fl best least else R j)
      omega
    · show n ≤ n ∧ n ≤ n + ((k + 1 : Nat) : Int); omega
theorem e_out_b {O : Int → Int → Int → Int} {A : Int → Int} {g : Int} : ∀ (k : Nat) (t sum tr fl best least n : Int) (R : Int → Int), n ≤ (e_out O A g k t sum tr fl best least n R).1 ∧ (e_out O A g k t sum tr fl best least n R).1 ≤ n + 3 * k
  | 0, t, sum, tr, fl, best, least, n, R => by show n ≤ n ∧ n ≤ n + 3 * ((0 : Nat) : Int); omega
  | k + 1, t, sum, tr, fl, best, least, n, R => by
    by_cases q : t < 3
    · rw [e_out_s q]
      have h := e_in_b (D := f_d O A t sum) (g := g) 3 tr fl best least n R
      generalize e_in (f_d O A t sum) g 3 tr fl best least n R = r at h ⊢
      unfold e_re
      split
      · omega
      · have := e_out_b (O := O) (A := A) (g := g) k (t + 1) (sum + r.1) 0 0 0 1 r.2.1 r.2.2
        omega
    · rw [e_out_e q]
      show n ≤ n ∧ n ≤ n + 3 * ((k + 1 : Nat) : Int); omega
theorem q_li_b (X : x_X) (i w g : Int) : 0 ≤ (q_li X i w g).1 ∧ (q_li X i w g).1 ≤ 64 := by
  unfold q_li q_ln
  split
  · show (0 : Int) ≤ 0 ∧ (0 : Int) ≤ 64; omega
  · have := e_out_b (O := c_O X i) (A := q_lA X i w) (g := g) 3 (c_M X 3 (-1) 1) (m_sum (c_M X 3) i - c_M X 3 i (10 + c_M X 3 (-1) 1)) (if c_M X 3 i 3 = 0 then 3 else c_M X 3 (-1) 2 + c_M X 3 i 6) (c_M X 3 i 2) (c_M X 3 i (10 + c_M X 3 (-1) 1)) (m_least (c_M X 3) i) 0 (fun _ => 0)
    omega
/-! who has tried and asks again does so ahead of the last round -/
theorem m_Q_z {n : Int} {M : x_X} (h : ∀ l, 0 ≤ l → l < n → M l 6 = 0) : m_Q n M := fun l l1 l2 _ h6 => by rw [h l l1 l2] at h6; omega
theorem m_Q_lift {n : Int} {op : Int → Int → Int} {N : x_X} : m_Q n (m_lift n op N) := m_Q_z (fun l l1 l2 => (m_lift_l (op := op) (N := N) l1 l2).1.2.2.2.2)
theorem m_Q_next {n : Int} {op : Int → Int → Int} {M : x_X} : m_Q n (m_next n op M) := by
  unfold m_next
  split
  · exact m_Q_z (fun l l1 l2 => by unfold m_rk; rw [if_neg (by omega), if_pos ⟨l1, l2⟩, if_pos rfl])
  · exact m_Q_lift
theorem m_Q_go {n : Int} {op : Int → Int → Int} {lot : Int → Int} : ∀ (k : Nat) (M : x_X), m_Q n M → m_Q n (m_go n op lot k M)
  | 0, M, h => h
  | k + 1, M, h => by
    unfold m_go
    split
    · exact m_Q_go k _ m_Q_next
    · exact h
theorem m_Q_tr {n : Int} {M : x_X} {l g w : Int} (h : m_Q n M) (h2 : M (-1) 2 ≤ 2) (hl : 0 ≤ l) : m_Q n (m_tr M l g w) := by
  obtain ⟨⟨-, v2, -⟩, w3, -⟩ := m_tr_v (M := M) (l := l) (g := g) (w := w) hl
  intro a a1 a2 a3 a6
  rw [v2]
  by_cases e : a = l
  · subst e
    rw [w3] at a3
    by_cases q : M (-1) 2 = 2
    · rw [if_pos q] at a3; omega
    · omega
  · rw [m_tr_o (by omega) e] at a3 a6
    exact h a a1 a2 a3 a6
theorem y_M_Q {n : Int} {lot : Int → Int} {pl : Int → Int → Int → Int} {M : x_X} {g : Int} (h : m_Q n M) (hW : m_W n M) (hc : m_cal n lot M ≠ -1) : m_Q n (y_M n lot pl M g) := by
  have hr := m_cb_r lot M n.toNat
  exact m_Q_go _ _ (m_Q_tr h hW.1.2.1.2 (by unfold m_cal at hc ⊢; omega))
theorem y_g_r (n : Int) (lot : Int → Int) (O : Int → Int → Int → Int → Int) (d : Int) (M : x_X) : 0 ≤ y_g n lot O d M ∧ y_g n lot O d M ≤ 1 := by unfold y_g; split <;> omega
theorem y_run_K {n : Int} {lot : Int → Int} {pl : Int → Int → Int → Int} {O : Int → Int → Int → Int → Int} (hn : 0 ≤ n ∧ n ≤ 6) (hpl : ∀ l, 0 ≤ l → l < n → ∀ t, 0 ≤ t → t < 3 → (1 ≤ pl l t 0 ∧ pl l t 0 ≤ 40) ∧ (1 ≤ pl l t 1 ∧ pl l t 1 ≤ 9) ∧ (0 ≤ pl l t 2 ∧ pl l t 2 ≤ 9)) : ∀ (f : Nat) (d : Int) (M : x_X) (c : Int) (G : x_X), m_W n M → m_Q n M → c ≤ m_T n M → c ≤ 54 → (m_W n (y_run n lot pl O f d M c G).2.1 ∧ m_Q n (y_run n lot pl O f d M c G).2.1) ∧ c ≤ (y_run n lot pl O f d M c G).2.2.1 ∧ (y_run n lot pl O f d M c G).2.2.1 ≤ 54 ∧ (y_run n lot pl O f d M c G).2.2.1 ≤ m_T n (y_run n lot pl O f d M c G).2.1
  | 0, d, M, c, G, hW, hQ, h1, h2 => ⟨⟨hW, hQ⟩, Int.le_refl _, h2, h1⟩
  | f + 1, d, M, c, G, hW, hQ, h1, h2 => by
    by_cases q : m_cal n lot M = -1
    · rw [y_run_e q]
      exact ⟨⟨hW, hQ⟩, Int.le_refl _, h2, h1⟩
    · rw [y_run_s q]
      have h5 := m_T_53 hn hW q
      have hy := y_M_W (pl := pl) hn.1 hpl hW (y_g_r n lot O d M) q
      have ih := y_run_K (lot := lot) (O := O) hn hpl f (d_nx d) _ (c + 1) (y_G n lot M c G (y_g n lot O d M)) hy.1.1 (y_M_Q hQ hW q) (by omega) (by omega)
      exact ⟨ih.1, by omega, ih.2.2⟩
/-! the component, whatever its meet -/
def PRE (κ : x_Ka) (X : x_X) (j : Int) : Prop := (n_I κ X ∧ n_P X ∧ n_O X) ∧ (n_low X ∧ κ 87 = some (.inr (1, 1))) ∧ (∀ l k, 0 ≤ l → l < k → k < X 1 2 → X 2 l + 14 ≤ X 2 k) ∧ FB X j ∧ (0 ≤ X 1 0 ∧ X 1 0 ≤ j) ∧ (0 ≤ X 0 5 ∧ X 0 5 ≤ 240) ∧ (0 ≤ X 0 7 ∧ X 0 7 ≤ 64) ∧ g_ds (c_lot X) (X 1 2)
theorem CC.pre {κ : x_Ka} {X : x_X} {j : Int} (h : CC κ X j) : PRE κ X j := by
  obtain ⟨⟨h1, h2, h3⟩, h4, h5, h6, h7, h8, h9, h10, h11⟩ := h
  exact ⟨⟨h1.1, h1.2.1, h1.2.2.1⟩, ⟨h2, h3⟩, h4, h5, h6, h7, h8, h10⟩
theorem CC.mk {κ : x_Ka} {X : x_X} {j : Int} (h : PRE κ X j) (hW : m_W (X 1 2) (c_M X 3)) (hJ : c_J X 3) (h12 : 0 ≤ X 0 12 ∧ X 0 12 ≤ 54 ∧ X 0 12 ≤ m_T (X 1 2) (c_M X 3)) (hQ : m_Q (X 1 2) (c_M X 3)) : CC κ X j := by
  obtain ⟨⟨a1, a2, a3⟩, ⟨h2, h3⟩, h4, h5, h6, h7, h8, h10⟩ := h
  exact ⟨⟨⟨a1, a2, a3, hW, hJ⟩, h2, h3⟩, h4, h5, h6, h7, h8, h12, h10, hQ⟩
theorem PRE.s {κ : x_Ka} {X : x_X} {j : Int} (h : PRE κ X j) (hj : 0 ≤ j) : PRE κ X (j + 1) := by
  obtain ⟨h1, h2, h4, h5, h6, h7, h8, h10⟩ := h
  exact ⟨h1, h2, h4, h5.k hj (Or.inl (fun _ _ _ => rfl)), by omega, h7, h8, h10⟩
theorem PRE.l {κ : x_Ka} {X Y : x_X} {j : Int} (h : PRE κ X j) (hl : l_eq X Y) (lo : X (-1) 0 ≤ Y (-1) 0) (hf : f_eq X Y) (n5 : 0 ≤ Y 0 5 ∧ Y 0 5 ≤ 240) (n7 : 0 ≤ Y 0 7 ∧ Y 0 7 ≤ 64) : PRE κ Y j := by
  obtain ⟨⟨a1, a2, a3⟩, ⟨h2, h3⟩, h4, h5, h6, h7, h8, h10⟩ := h
  have e1 := hl.1
  have e2 := hl.2.1
  refine ⟨hl.n a1 a2 a3, ⟨?_, h3⟩, ?_, ?_, ?_, n5, n7, ?_⟩
  · unfold n_low at *; rw [e1, e2]; exact ⟨by omega, fun l l1 l2 => by have := h2.2 l l1 l2; omega⟩
  · rw [e1, e2]; exact h4
  · unfold FB at *
    rw [hf 38 (by omega) (by omega)]
    exact ⟨h5.1, fun t t1 t2 k k1 k2 => by rw [hf _ (by omega) (by omega)]; exact h5.2 t t1 t2 k k1 k2⟩
  · rw [e1]; exact h6
  · rw [e1, hl.bl.2]; exact h10
/-- the meet begins, at W -/
def BG (W Y : x_X) : Prop := (∀ a, (a < 3 ∨ 17 ≤ a) → a ≠ 0 → Y a = W a) ∧ (∀ i, i ≠ 12 → Y 0 i = W 0 i) ∧ Y 0 12 = 0 ∧ c_M Y 3 = m_beg (W 1 2) (c_op W) (c_M W 3) ∧ ∀ l, 0 ≤ l → l < W 1 2 → Y (3 + 1 + 1 + 2 * l) 1 = 0
theorem BG.l {κ : x_Ka} {W Y : x_X} (h : BG W Y) (hI : n_I κ W) : l_eq W Y := ⟨h.1 1 (by omega) (by omega), h.1 2 (by omega) (by omega), fun l l1 l2 k k1 k2 => h.1 _ (by have := hI.2.2.2.2 l l1 l2; omega) (by have := hI.2.2.2.2 l l1 l2; omega), h.2.1 1 (by omega)⟩
theorem CC.bg {κ : x_Ka} {W Y : x_X} {j : Int} (h : PRE κ W j) (hb : BG W Y) : CC κ Y j := by
  have hl := hb.l h.1.1
  obtain ⟨b1, b2, b3, b4, b5⟩ := hb
  have hn := h.1.1.2.2.1
  have e12 : Y 1 2 = W 1 2 := congrFun hl.1 2
  have hp : m_P (W 1 2) (c_op W) := fun l l1 l2 t t1 t2 => by unfold c_op; rw [if_pos ⟨l1, l2⟩]; exact (h.1.2.1 l l1 l2 t t1 t2).1
  refine CC.mk (h.l hl (by rw [b1 (-1) (by omega) (by omega)]; omega) (fun a a1 a2 => b1 a (by omega) (by omega)) (by rw [b2 5 (by omega)]; exact h.2.2.2.2.2.1) (by rw [b2 7 (by omega)]; exact h.2.2.2.2.2.2.1)) ?_ ?_ ?_ ?_
  · rw [e12, b4]; exact m_W_beg hp
  · intro l l1 l2 _
    rw [e12] at l2
    have g2 : Y 3 2 = 0 := by rw [← c_M_g (X := Y) (mo := 3) (f := 2) (by omega), b4]; exact m_lift_g.2.1
    have g6 : Y (3 + 1 + 1 + 2 * l) 6 = 0 := by rw [← c_M_s (X := Y) (mo := 3) (l := l) (f := 6) ⟨l1, by omega⟩ (by omega), b4]; exact (m_lift_l l1 l2).1.2.2.2.2
    rw [b5 l l1 l2, g2, g6]; omega
  · rw [b3, e12, b4]; exact ⟨by omega, by omega, m_T_0 hn.1⟩
  · rw [e12, b4]; exact m_Q_lift
def BG8 (W Z : x_X) : Prop := (∀ a, a ≠ 72 → a ≠ 64 → Z a = W a) ∧ (∀ i, i ≠ 13 → i ≠ 14 → Z 64 i = W 64 i) ∧ (Z 64 13 = 0 ∧ Z 64 14 = 0) ∧ t_M Z = m_beg (W 64 3) (fun l t => t_p3 W l t 0) (t_M W) ∧ ∀ a, 0 ≤ a → a < W 64 3 → Z 72 (3 + 10 * a + 2) = 0 ∧ Z 72 (3 + 10 * a + 3) = 0
theorem TT.bg {κ : x_Ka} {W Z : x_X} (hK : t_K κ W) (hP : t_P W) (hO : t_Ow W) (hb : BG8 W Z) : TT κ Z := by
  obtain ⟨b1, b2, b3, b4, b5⟩ := hb
  have e3 : Z 64 3 = W 64 3 := b2 3 (by omega) (by omega)
  refine ⟨⟨⟨hK.1, hK.2.1, by rw [e3]; exact hK.2.2⟩, ?_, ?_, ?_, ?_⟩, ?_, ?_⟩
  · unfold t_P at *; rw [e3, t_p3_e e3 (b1 71 (by omega) (by omega))]; exact hP
  · unfold t_Ow at *; rw [e3, b2 10 (by omega) (by omega), b1 68 (by omega) (by omega), b1 69 (by omega) (by omega), b1 70 (by omega) (by omega)]; exact hO
  · rw [e3, b4]; exact m_W_beg (fun l l1 l2 t t1 t2 => (hP l l1 l2 t t1 t2).1)
  · intro l l1 l2
    rw [e3] at l2
    rw [(b5 l l1 l2).1, (b5 l l1 l2).2]; omega
  · rw [b3.1, b3.2]; rfl
  · intro k k1 k2; rw [b3.1] at k2; omega
/-- the same lifters -/
def EL (X Z : x_X) : Prop := Z 64 3 = X 1 2 ∧ t_body Z = c_body X ∧ t_lot Z = c_lot X ∧ t_p3 Z = c_p3 X ∧ t_O Z = c_O X
theorem EV.el {X Z : x_X} (h : EV X Z) : EL X Z := ⟨h.1, h.2.2.1, h.2.2.2.1, h.2.2.2.2.1, h.2.2.2.2.2⟩
theorem EL.c {X Y Z : x_X} (h : EL X Z) (hl : l_eq X Y) : EL Y Z := by
  unfold EL at *
  rw [congrFun hl.1 2, hl.bl.1, hl.bl.2, hl.p3, hl.O]; exact h
theorem EL.t {X Y Z : x_X} (h : EL X Y) (h3 : Z 64 3 = Y 64 3) (h10 : Z 64 10 = Y 64 10) (ha : ∀ a, 66 ≤ a → a ≤ 71 → Z a = Y a) : EL X Z := by
  unfold EL at *
  rw [h3, t_body_e h3 (ha 66 (by omega) (by omega)), t_lot_e h3 (ha 67 (by omega) (by omega)), t_p3_e h3 (ha 71 (by omega) (by omega)), t_O_e h3 h10 (ha 68 (by omega) (by omega)) (ha 69 (by omega) (by omega)) (ha 70 (by omega) (by omega))]
  exact h
theorem EL.v {X Z : x_X} (h : EL X Z) (hM : t_M Z = c_M X 3) : EV X Z := ⟨h.1, hM, h.2.1, h.2.2.1, h.2.2.2.1, h.2.2.2.2⟩
theorem EV.bg {κ : x_Ka} {W Y W8 Z : x_X} (hI : n_I κ W) (he : EL W W8) (hb : BG W Y) (hb8 : BG8 W8 Z) : EV Y Z := by
  refine EL.v ((he.c (hb.l hI)).t (hb8.2.1 3 (by omega) (by omega)) (hb8.2.1 10 (by omega) (by omega)) (fun a a1 a2 => hb8.1 a (by omega) (by omega))) ?_
  rw [hb8.2.2.2.1, hb.2.2.2.1, he.1]
  have e1 : m_beg (W 1 2) (fun l t => t_p3 W8 l t 0) (t_M W8) = m_beg (W 1 2) (c_op W) (t_M W8) := m_beg_c (fun l l1 l2 => by rw [he.2.2.2.1, c_p3_op (by omega)])
  rw [e1]
  exact m_beg_i (by rw [← he.1]; exact t_M_Z W8) (c_M_Z W 3)
theorem EG.bg {W Y W8 Z : x_X} (hb : BG W Y) (hb8 : BG8 W8 Z) : EG Y Z := by
  refine ⟨?_, by rw [hb8.2.2.1.1, hb.2.2.1]⟩
  funext k w
  unfold t_G c_G
  rw [hb8.2.2.1.1, hb.2.2.1, if_neg (by omega), if_neg (by omega)]
theorem Rel_bg {κ : x_Ka} {W Y W8 Z : x_X} {j : Int} (hp : PRE κ W j) (hb : BG W Y) (hK : t_K κ W8) (hP : t_P W8) (hO : t_Ow W8) (hb8 : BG8 W8 Z) (he : EL W W8) (hf : TFr Y W8) (hS : ES Y W8) (hR : ER Y W8) : Rel κ Z j := by
  refine Rel_fin (CC.bg hp hb) (fun a ha => (hb8.1 a (by omega) (by omega)).trans (hf a ha)) (TT.bg hK hP hO hb8) (EV.bg hp.1.1 he hb hb8) (EG.bg hb hb8) ?_ ?_
  · unfold ES at *
    rw [hb8.2.1 10 (by omega) (by omega), hb8.2.1 18 (by omega) (by omega), hb8.1 75 (by omega) (by omega)]; exact hS
  · unfold ER at *
    rw [hb8.2.1 1 (by omega) (by omega), hb8.1 65 (by omega) (by omega)]; exact hR
/-- the twin keeps its lifters -/
theorem TT.g {κ : x_Ka} {X Y : x_X} (h : TT κ X) (h3 : Y 64 3 = X 64 3) (h10 : 0 ≤ Y 64 10 ∧ Y 64 10 ≤ 300) (ha : ∀ a, 66 ≤ a → a ≤ 71 → Y a = X a) (hW : m_W (X 64 3) (t_M Y)) (hL : t_La Y) (hg : t_gd Y) : TT κ Y := by
  obtain ⟨⟨hK, hP, hO, -, -⟩, -⟩ := h
  refine ⟨⟨⟨hK.1, hK.2.1, by rw [h3]; exact hK.2.2⟩, ?_, ?_, by rw [h3]; exact hW, hL⟩, hg⟩
  · unfold t_P at *; rw [h3, t_p3_e h3 (ha 71 (by omega) (by omega))]; exact hP
  · unfold t_Ow at *; rw [h3, ha 68 (by omega) (by omega), ha 69 (by omega) (by omega), ha 70 (by omega) (by omega)]; exact ⟨hO.1, h10⟩
