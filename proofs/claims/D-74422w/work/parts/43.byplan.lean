/-! ===== what of the component counts: views are the same where these cells are ===== -/
def v_eq (X Y : x_X) : Prop := (∀ a, 1 ≤ a → a ≤ 16 → Y a = X a) ∧ (∀ l, 0 ≤ l → l < X 1 2 → ∀ j, 0 ≤ j → j < 14 → Y (X 2 l + j) = X (X 2 l + j)) ∧ Y 0 1 = X 0 1
theorem v_eq.rf (X : x_X) : v_eq X X := ⟨fun _ _ _ => rfl, fun _ _ _ _ _ _ => rfl, rfl⟩
theorem v_eq.trans {X Y Z : x_X} (h : v_eq X Y) (h2 : v_eq Y Z) : v_eq X Z := by
  refine ⟨fun a a1 a2 => (h2.1 a a1 a2).trans (h.1 a a1 a2), fun l l1 l2 j j1 j2 => ?_, h2.2.2.trans h.2.2⟩
  have := h2.2.1 l l1 (by rw [h.1 1 (by omega) (by omega)]; exact l2) j j1 j2
  rw [h.1 2 (by omega) (by omega)] at this
  exact this.trans (h.2.1 l l1 l2 j j1 j2)
def n_C (κ : x_Ka) (X : x_X) : Prop := n_I κ X ∧ n_P X ∧ n_O X ∧ m_W (X 1 2) (c_M X 3) ∧ c_J X 3
theorem v_eq.M {X Y : x_X} (h : v_eq X Y) (hn : X 1 2 ≤ 6) : c_M Y 3 = c_M X 3 := by
  have h1 := h.1
  funext l f
  unfold c_M
  rw [h1 1 (by omega) (by omega), h1 3 (by omega) (by omega)]
  by_cases q : l = -1
  · rw [if_pos q, if_pos q]
  · rw [if_neg q, if_neg q]
    by_cases q2 : 0 ≤ l ∧ l < X 1 2
    · rw [if_pos q2, if_pos q2, h1 (3 + 1 + 1 + 2 * l) (by omega) (by omega), h1 (3 + 1 + 1 + 2 * l + 1) (by omega) (by omega)]
    · rw [if_neg q2, if_neg q2]
theorem v_eq.C {κ : x_Ka} {X Y : x_X} (h : v_eq X Y) (hC : n_C κ X) : n_C κ Y := by
  obtain ⟨hI, hP, hO, hW, hJ⟩ := hC
  have h1 := h.1 1 (by omega) (by omega)
  have h2 := h.1 2 (by omega) (by omega)
  have hM := h.M hI.2.2.1.2
  have e0 : ∀ l, 0 ≤ l → l < X 1 2 → Y (X 2 l) = X (X 2 l) := fun l l1 l2 => by have := h.2.1 l l1 l2 0 (by omega) (by omega); rwa [Int.add_zero] at this
  refine ⟨?_, ?_, ?_, ?_, ?_⟩
  · unfold n_I at *; rw [h1, h2]; exact hI
  · intro l l1 l2 t t1 t2
    rw [h1] at l2
    rw [h2, h.2.1 l l1 l2 11 (by omega) (by omega), h.2.1 l l1 l2 12 (by omega) (by omega), h.2.1 l l1 l2 13 (by omega) (by omega)]
    exact hP l l1 l2 t t1 t2
  · refine ⟨fun l l1 l2 t t1 t2 => ?_, by rw [h.2.2]; exact hO.2⟩
    rw [h1] at l2
    rw [h2]
    have c := hO.1 l l1 l2 t t1 t2
    have e1 := h.2.1 l l1 l2 (1 + 1 + 3 * t + 1) (by omega) (by omega)
    have e2 := h.2.1 l l1 l2 (1 + 1 + 3 * t + 2) (by omega) (by omega)
    have e3 := h.2.1 l l1 l2 (1 + 1 + 3 * t) (by omega) (by omega)
    rw [show X 2 l + (1 + 1 + 3 * t + 1) = X 2 l + 1 + 1 + 3 * t + 1 by omega] at e1
    rw [show X 2 l + (1 + 1 + 3 * t + 2) = X 2 l + 1 + 1 + 3 * t + 2 by omega] at e2
    rw [show X 2 l + (1 + 1 + 3 * t) = X 2 l + 1 + 1 + 3 * t by omega] at e3
    rw [e1, e2, e3]
    exact c
  · rw [h1, hM]; exact hW
  · intro l l1 l2
    rw [h1] at l2
    have hn := hI.2.2.1
    rw [h.1 (3 + 1 + 1 + 2 * l) (by omega) (by omega), h.1 3 (by omega) (by omega)]
    exact hJ l l1 l2
theorem l_odds_c {X Y : x_X} {a : Int} (h : ∀ j, 0 ≤ j → j < 14 → Y (a + j) = X (a + j)) (h0 : Y 0 1 = X 0 1) {t x f : Int} (ht : 0 ≤ t ∧ t < 3) : l_odds Y a t x f = l_odds X a t x f := by
  have e1 := h (1 + 1 + 3 * t + 1) (by omega) (by omega)
  have e2 := h (1 + 1 + 3 * t + 2) (by omega) (by omega)
  have e3 := h (1 + 1 + 3 * t) (by omega) (by omega)
  rw [show a + (1 + 1 + 3 * t + 1) = a + 1 + 1 + 3 * t + 1 by omega] at e1
  rw [show a + (1 + 1 + 3 * t + 2) = a + 1 + 1 + 3 * t + 2 by omega] at e2
  rw [show a + (1 + 1 + 3 * t) = a + 1 + 1 + 3 * t by omega] at e3
  unfold l_odds l_od
  rw [e1, e2, e3, h0]
theorem v_eq.V {X Y : x_X} (h : v_eq X Y) : c_O Y = c_O X ∧ c_pl Y = c_pl X ∨ True := Or.inr trivial
theorem v_eq.O {X Y : x_X} (h : v_eq X Y) : c_O Y = c_O X := by
  funext l t x f
  unfold c_O
  rw [h.1 1 (by omega) (by omega), h.1 2 (by omega) (by omega)]
  by_cases q : 0 ≤ l ∧ l < X 1 2 ∧ 0 ≤ t ∧ t < 3
  · rw [if_pos q, if_pos q]
    exact l_odds_c (h.2.1 l q.1 q.2.1) h.2.2 ⟨q.2.2.1, q.2.2.2⟩
  · rw [if_neg q, if_neg q]
theorem v_eq.pl {X Y : x_X} (h : v_eq X Y) {w : Int} (hw : 0 ≤ w ∧ w ≤ 2) (l t : Int) : c_pl Y l t w = c_pl X l t w := by
  unfold c_pl
  rw [h.1 1 (by omega) (by omega), h.1 2 (by omega) (by omega)]
  by_cases q : 0 ≤ l ∧ l < X 1 2
  · rw [if_pos q, if_pos q, show X 2 l + 11 + w = X 2 l + (11 + w) by omega, h.2.1 l q.1 q.2 (11 + w) (by omega) (by omega)]
  · rw [if_neg q, if_neg q]
theorem v_eq.li {X Y : x_X} (h : v_eq X Y) : c_li Y = c_li X := by
  have e : ∀ l, (if 0 ≤ l ∧ l < X 1 2 then Y (X 2 l) 0 else 0) = (if 0 ≤ l ∧ l < X 1 2 then X (X 2 l) 0 else 0) ∧ (if 0 ≤ l ∧ l < X 1 2 then Y (X 2 l) 1 else 0) = (if 0 ≤ l ∧ l < X 1 2 then X (X 2 l) 1 else 0) := fun l => by
    by_cases q : 0 ≤ l ∧ l < X 1 2
    · have := h.2.1 l q.1 q.2 0 (by omega) (by omega)
      rw [Int.add_zero] at this
      rw [this]; exact ⟨rfl, rfl⟩
    · simp only [if_neg q, and_self]
  funext i j
  unfold c_li m_li c_body c_lot
  rw [h.1 1 (by omega) (by omega), h.1 2 (by omega) (by omega), (e i).1, (e i).2, (e j).1, (e j).2]
/-- worth by plan looks at its functions' domain alone -/
theorem p_w_c {O O2 : Int → Int → Int → Int} {op op2 mr mr2 ag ag2 A A2 : Int → Int} (hO : ∀ t x f, 0 ≤ t → t ≤ 2 → O t x f = O2 t x f) (hp : ∀ t, 0 ≤ t → t ≤ 2 → op t = op2 t ∧ mr t = mr2 t ∧ ag t = ag2 t) (hA : ∀ v, 0 ≤ v → v ≤ 120 → A v = A2 v) :
    ∀ (k : Nat) (t sum tr fl best load : Int), (0 ≤ t ∧ t ≤ 2) → (0 ≤ sum ∧ sum ≤ 40 * t) → (0 ≤ best ∧ best ≤ 40) → (0 ≤ load) → (∀ t, 0 ≤ t → t ≤ 2 → 0 ≤ op t ∧ 0 ≤ mr t ∧ 0 ≤ ag t) → p_w O op mr ag A k t sum tr fl best load = p_w O2 op2 mr2 ag2 A2 k t sum tr fl best load
  | 0, _, _, _, _, _, _, _, _, _, _, _ => rfl
  | k + 1, t, sum, tr, fl, best, load, h1, h2, h3, h4, h5 => by
    have hq := h5 t h1.1 h1.2
    unfold p_w
    by_cases q : tr = 3 ∨ load > 40
    · rw [if_pos q, if_pos q]
      by_cases q2 : best = 0
      · rw [if_pos q2, if_pos q2, hA 0 (by omega) (by omega)]
      · rw [if_neg q2, if_neg q2]
        by_cases q3 : t = 2
        · rw [if_pos q3, if_pos q3, hA _ (by omega) (by omega)]
        · have := h5 (t + 1) (by omega) (by omega)
          rw [if_neg q3, if_neg q3, ← (hp (t + 1) (by omega) (by omega)).1, p_w_c hO hp hA k _ _ _ _ _ _ (by omega) (by omega) (by omega) (by omega) h5]
    · rw [if_neg q, if_neg q, hO _ _ _ h1.1 h1.2, ← (hp t h1.1 h1.2).2.1, ← (hp t h1.1 h1.2).2.2, p_w_c hO hp hA k _ _ _ _ _ _ h1 h2 (by omega) (by omega) h5, p_w_c hO hp hA k _ _ _ _ _ _ h1 h2 h3 (by omega) h5]
theorem p_now_c {O O2 : Int → Int → Int → Int} {op op2 mr mr2 ag ag2 A A2 : Int → Int} (hO : ∀ t x f, 0 ≤ t → t ≤ 2 → O t x f = O2 t x f) (hp : ∀ t, 0 ≤ t → t ≤ 2 → op t = op2 t ∧ mr t = mr2 t ∧ ag t = ag2 t) (hA : ∀ v, 0 ≤ v → v ≤ 120 → A v = A2 v) (h5 : ∀ t, 0 ≤ t → t ≤ 2 → 0 ≤ op t ∧ 0 ≤ mr t ∧ 0 ≤ ag t) {n l load : Int} {M : x_X} (hW : m_W n M) (h1 : 0 ≤ l) (h2 : l < n) (hl : 0 ≤ load) : p_now O op mr ag A M l load = p_now O2 op2 mr2 ag2 A2 M l load := by
  have hs := m_sum_r hW h1 h2
  unfold p_now
  by_cases q : M l 7 ≠ 0
  · rw [if_pos q, if_pos q, hA 0 (by omega) (by omega)]
  · rw [if_neg q, if_neg q]
    by_cases q2 : M (-1) 1 = 3
    · rw [if_pos q2, if_pos q2, hA _ hs.1 hs.2]
    · have hr := m_rest hW h1 h2 (by omega) q2
      have hw := hW.1.1
      rw [if_neg q2, if_neg q2]
      by_cases q3 : M l 3 = 0
      · rw [if_pos q3, if_pos q3]
        unfold p_e
        by_cases q4 : M l (10 + M (-1) 1) = 0
        · rw [if_pos q4, if_pos q4, hA 0 (by omega) (by omega)]
        · rw [if_neg q4, if_neg q4]
          by_cases q5 : M (-1) 1 = 2
          · rw [if_pos q5, if_pos q5, hA _ (by omega) (by omega)]
          · have := h5 (M (-1) 1 + 1) (by omega) (by omega)
            rw [if_neg q5, if_neg q5, ← (hp (M (-1) 1 + 1) (by omega) (by omega)).1, p_w_c hO hp hA 12 _ _ _ _ _ _ (by omega) (by omega) (by omega) (by omega) h5]
      · rw [if_neg q3, if_neg q3, p_w_c hO hp hA 12 _ _ _ _ _ _ (by omega) hr.1 hr.2 hl h5]
/-- what l comes to by plan, by an aim A -/
def q_plan (X : x_X) (A : Int → Int) (i : Int) : Int := p_now (c_O X i) (fun t => c_pl X i t 0) (fun t => c_pl X i t 1) (fun t => c_pl X i t 2) A (c_M X 3) i (c_M X 3 i 3)
theorem v_eq.q {X Y : x_X} (h : v_eq X Y) (hn : X 1 2 ≤ 6) (A : Int → Int) (i : Int) : q_plan Y A i = q_plan X A i := by
  unfold q_plan
  rw [h.O, h.M hn]
  rw [show (fun t => c_pl Y i t 0) = (fun t => c_pl X i t 0) from funext fun t => h.pl ⟨by omega, by omega⟩ i t, show (fun t => c_pl Y i t 1) = (fun t => c_pl X i t 1) from funext fun t => h.pl ⟨by omega, by omega⟩ i t, show (fun t => c_pl Y i t 2) = (fun t => c_pl X i t 2) from funext fun t => h.pl ⟨by omega, by omega⟩ i t]
/-- an aim is the same where the aims' cells are -/
def a_kd (k : x_k) : Prop := k = .inl (12, 0) ∨ k = .inl (13, 0) ∨ k = .inl (14, 0) ∨ k = .inl (15, 0) ∨ k = .inr (1, 122) ∨ k = .inr (7, 6)
theorem a_bok.fr {κ : x_Ka} {X Y : x_X} {m : Int} (h : a_bok κ X m) (hf : ∀ a k, κ a = some k → a_kd k → Y a = X a) : a_bok κ Y m ∧ a_beat Y m = a_beat X m := by
  obtain ⟨h1, h2, h3, h4⟩ := h
  have e1 := hf m _ h1 (by unfold a_kd; simp)
  have e2 := hf (X m 0) _ h2 (by unfold a_kd; simp)
  refine ⟨⟨h1, by rw [e1]; exact h2, by rw [e1]; exact h3, by rw [e1, e2]; exact h4⟩, ?_⟩
  funext v
  unfold a_beat
  rw [e1, e2]
theorem x_Aim.fr {κ : x_Ka} {X Y : x_X} {m : Int} {A : Int → Int} (h : x_Aim κ X m A) (hf : ∀ a k, κ a = some k → a_kd k → Y a = X a) : x_Aim κ Y m A := by
  rcases h with h | h | h | h
  · exact Or.inl h
  · exact Or.inr (Or.inl ⟨h.1, by rw [hf m _ h.1 (by unfold a_kd; simp)]; exact h.2⟩)
  · exact Or.inr (Or.inr (Or.inl ⟨(h.1.fr hf).1, by rw [(h.1.fr hf).2]; exact h.2⟩))
  · obtain ⟨h1, h2, h3, h4, h5⟩ := h
    have e1 := hf m _ h1 (by unfold a_kd; simp)
    have e2 := hf (X m 0) _ h2 (by unfold a_kd; simp)
    refine Or.inr (Or.inr (Or.inr ⟨h1, by rw [e1]; exact h2, by rw [e1]; exact h3, by rw [e1, e2]; exact fun k k1 k2 => (h4 k k1 k2).fr hf |>.1, ?_⟩))
    intro v v1 v2
    rw [h5 v v1 v2, e1]
    have key : ∀ n : Nat, (n : Int) ≤ X m 1 → a_win Y (X m 0) v n = a_win X (X m 0) v n := by
      intro n
      induction n with
      | zero => intro _; rfl
      | succ n ih =>
        intro hn
        unfold a_win
        rw [ih (by omega), e2, ((h4 n (by omega) (by omega)).fr hf).2]
    rw [key _ (by omega)]
theorem x_up2_o {X : x_X} {c i j y z a : Int} (h : a ≠ c) : x_up (x_up X c i y) c j z a = X a := by rw [x_up_o _ h, x_up_o _ h]
theorem v_eq.up37 {κ : x_Ka} {X : x_X} (hI : n_I κ X) {c i j y z : Int} (hc : 17 ≤ c ∧ c < 88) : v_eq X (x_up (x_up X c i y) c j z) :=
  ⟨fun a a1 a2 => x_up2_o (by omega), fun l l1 l2 k k1 k2 => x_up2_o (by have := hI.2.2.2.2 l l1 l2; omega), by rw [x_up2_o (by omega)]⟩
theorem c_X1_byPlan {l : Launch} {E : x_E} {κ : x_Ka} {X : x_X} {A : Int → Int} {i ma : Int} (hC : n_C κ X) (hi : 0 ≤ i ∧ i < X 1 2) (hA : x_Aim κ X ma A) : x_De l yX1_byPlan cX1_byPlan 3 (some .long) 57 E κ X [x_rf E 0, vi i, x_rf E ma] (vl (q_plan X A i)) (x_up (x_up X 37 0 (X 2 i)) 37 1 ma) := by
  refine x_Met.of [(false, x_rf E 0), (false, vi i), (false, x_rf E ma)] [some (x_rf E 0), some (vi i), some (x_rf E ma)] 0 (by decide) rfl rfl ⟨x_cr E (0), rfl, x_cr E (ma), trivial⟩ rfl rfl ?_
  intro p e s m args below meth c hargs hin B
  obtain ⟨hI, hP, hO, hW, hJ⟩ := id hC
  obtain ⟨hT, h0, hn, hl, hla⟩ := id hI
  have hve := v_eq.up37 hI (c := 37) (i := 0) (j := 1) (y := X 2 i) (z := ma) (by omega)
  have hC2 := hve.C hC
  have k37 : κ 37 = some (.inl (4, 1)) := hT.1 0 0 h0 13 (0, 37, .inl (4, 1)) rfl
  have hli := hla i hi.1 hi.2
  have hA2 : x_Aim κ (x_up (x_up X 37 0 (X 2 i)) 37 1 ma) ma A := hA.fr (fun a k ha hk => x_up2_o (fun e => by rw [e, k37] at ha; cases ha; unfold a_kd at hk; simp at hk))
  have y0 : (x_up (x_up X 37 0 (X 2 i)) 37 1 ma) 37 0 = X 2 i := by rw [x_up_n _ (Or.inr (by omega)), x_up_s]
  have y1 : (x_up (x_up X 37 0 (X 2 i)) 37 1 ma) 37 1 = ma := x_up_s _ _ _ _
  have hH : p_H κ (x_up (x_up X 37 0 (X 2 i)) 37 1 ma) 37 A := by
    have e2 : (x_up (x_up X 37 0 (X 2 i)) 37 1 ma) 2 = X 2 := hve.1 2 (by omega) (by omega)
    have e1 : (x_up (x_up X 37 0 (X 2 i)) 37 1 ma) 1 = X 1 := hve.1 1 (by omega) (by omega)
    obtain ⟨-, hP2, hO2, -, -⟩ := id hC2
    have a1 := hO2.1 i hi.1 (by rw [e1]; exact hi.2)
    have a2 := hP2 i hi.1 (by rw [e1]; exact hi.2)
    rw [e2] at a1 a2
    exact ⟨hT, h0, by rw [y0]; exact hl i hi.1 hi.2, by rw [y0]; exact a1, hO2.2, by rw [y0]; exact a2, by rw [y1]; exact hA2⟩
  have w2 := hW.2.1 i hi.1 hi.2
  have s3 : c_M X 3 i 3 = X (3 + 1 + 1 + 2 * i) 3 := c_M_s hi (by omega)
  have e1 : (x_up (x_up X 37 0 (X 2 i)) 37 1 ma) 1 2 = X 1 2 := congrFun (hve.1 1 (by omega) (by omega)) 2
  have es : (x_up (x_up X 37 0 (X 2 i)) 37 1 ma) (3 + 1 + 1 + 2 * i) 3 = X (3 + 1 + 1 + 2 * i) 3 := by rw [hve.1 _ (by omega) (by omega)]
  refine x_aload_n B dX1_byPlan_0 rfl ?_
  refine x_getC0 B (k := 13) hT rfl rfl xc_0 (by decide) h0 (Or.inl q414) (fun _ h => h) dX1_byPlan_1 (fun k_1 => ?_)
  refine x_aload_n B dX1_byPlan_4 rfl ?_
  refine x_getC0 B (k := 0) hT rfl rfl xc_0 (by decide) h0 (Or.inl q394) (fun _ h => h) dX1_byPlan_5 (fun k_5 => ?_)
  refine x_iload_n B dX1_byPlan_8 rfl ?_
  refine x_goP (x_rV B k_5 (show x_cl[1]? = some _ from rfl) (c_J2_get hT (by assumption) (by omega) ⟨by omega, by omega⟩) (lw_V q745 q372 q373 q113 q374) hv_J2_get ⟨by decide, by decide⟩ ⟨by decide, by decide⟩ rfl rfl (by simp [x_cr, x_c1, x_c2]) dX1_byPlan_9) ?_
  refine x_cast B (hl _ (by omega) (by omega)) (show x_cl[8]? = some _ from rfl) q746 dX1_byPlan_12 ?_
  refine x_aload_n B dX1_byPlan_15 rfl ?_
  refine x_goV (x_rU B (n := 2) (x_rcK B k_1 (show x_cl[4]? = some _ from rfl)) (c_X4_looks_P k37) (lw_U q961 q962 q964 q965 q116 q966) rfl (by decide +kernel) ⟨by decide, by decide⟩ ⟨by decide, by decide⟩ rfl rfl (by simp [x_cr, x_c1, x_c2]) dX1_byPlan_16) ?_
  refine x_aload_n B dX1_byPlan_19 rfl ?_
  refine x_getC0 B (k := 13) hT rfl rfl xc_0 (by decide) h0 (Or.inl q414) (fun _ h => h) dX1_byPlan_20 (fun k_20 => ?_)
  refine x_aload_n B dX1_byPlan_23 rfl ?_
  refine x_getC0 B (k := 2) hT rfl rfl xc_0 (by decide) h0 (Or.inl q400) (fun _ h => h) dX1_byPlan_24 (fun k_24 => ?_)
  refine x_getC1 B (k := 0) hT rfl rfl xc_2 (by decide) k_24 (Or.inr q244) (fun _ h => h) dX1_byPlan_27 (fun k_27 => ?_)
  refine x_iload_n B dX1_byPlan_30 rfl ?_
  refine x_aaldC B (t := 10) hT k_27 rfl rfl rfl rfl ⟨by omega, by omega⟩ dX1_byPlan_31 (fun k_31 => ?_)
  refine x_aload_n B dX1_byPlan_32 rfl ?_
  refine x_getC0 B (k := 2) hT rfl rfl xc_0 (by decide) h0 (Or.inl q400) (fun _ h => h) dX1_byPlan_33 (fun k_33 => ?_)
  refine x_getC1 B (k := 0) hT rfl rfl xc_2 (by decide) k_33 (Or.inr q244) (fun _ h => h) dX1_byPlan_36 (fun k_36 => ?_)
  refine x_iload_n B dX1_byPlan_39 rfl ?_
  refine x_aaldC B (t := 10) hT k_36 rfl rfl rfl rfl ⟨by omega, by omega⟩ dX1_byPlan_40 (fun k_40 => ?_)
  refine x_getI B (k := 3) 3 rfl rfl xc_3 (by decide) k_40 (Or.inr q211) (fun _ h => h) dX1_byPlan_41 (fun r_41 => ?_)
  refine x_goP (x_rU B (n := 2) (x_rcK B k_20 (show x_cl[4]? = some _ from rfl)) (c_X4_now_P hH (by rw [e1]; exact hn.2) (by rw [e1]; exact hi) hC2.2.2.2.1 hC2.2.2.2.2 ⟨by omega, by omega⟩) (lw_U q967 q968 q970 q971 q116 q972) rfl (by decide +kernel) ⟨by decide, by decide⟩ ⟨by decide, by decide⟩ rfl rfl (by simp [x_cr, x_c1, x_c2]) dX1_byPlan_44) ?_
  refine x_lret B (fun _ _ h => h) ?_ dX1_byPlan_47
  refine ⟨congrArg (fun z => some (vl z)) ?_, rfl⟩
  rw [y0, es, ← s3, hve.M hn.2]
  unfold q_plan
  refine p_now_c (fun t x f t1 t2 => ?_) (fun t t1 t2 => ?_) (fun v _ _ => rfl) (fun t t1 t2 => ?_) hW hi.1 hi.2 (by omega)
  · unfold c_O; rw [if_pos ⟨hi.1, hi.2, t1, by omega⟩]; exact l_odds_c (hve.2.1 i hi.1 hi.2) hve.2.2 ⟨t1, by omega⟩
  · unfold c_pl; rw [if_pos hi, if_pos hi, if_pos hi, hve.2.1 i hi.1 hi.2 11 (by omega) (by omega), hve.2.1 i hi.1 hi.2 12 (by omega) (by omega), hve.2.1 i hi.1 hi.2 13 (by omega) (by omega), Int.add_zero, show X 2 i + 11 + 1 = X 2 i + 12 by omega, show X 2 i + 11 + 2 = X 2 i + 13 by omega]; exact ⟨rfl, rfl, rfl⟩
  · have := hP i hi.1 hi.2 t t1 (by omega)
    rw [hve.2.1 i hi.1 hi.2 11 (by omega) (by omega), hve.2.1 i hi.1 hi.2 12 (by omega) (by omega), hve.2.1 i hi.1 hi.2 13 (by omega) (by omega)]; omega
