theorem f_H.cg {κ : x_Ka} {X Y : x_X} {O : Int → Int → Int → Int} {A : Int → Int} (h : f_H κ X O A) (e38 : Y 38 = X 38) (e0 : Y 0 1 = X 0 1) (eL : ∀ j, 0 ≤ j → j < 14 → Y (X 38 0 + j) = X (X 38 0 + j)) (hAm : ∀ a k, κ a = some k → a_kd k → Y a = X a) : f_H κ Y O A := by
  obtain ⟨⟨hT, h0, hL, hw, hti, hpl, hA⟩, h88, hO⟩ := h
  have eo : ∀ t x f, 0 ≤ t → t ≤ 2 → l_odds Y (X 38 0) t x f = l_odds X (X 38 0) t x f := fun t x f t1 t2 => l_odds_c eL e0 ⟨t1, by omega⟩
  refine ⟨⟨hT, h0, by rw [e38]; exact hL, ?_, by rw [e0]; exact hti, ?_, by rw [e38]; exact hA.fr hAm⟩, by rw [e38]; exact h88, fun t x f t1 t2 => by rw [e38, eo t x f t1 t2]; exact hO t x f t1 t2⟩
  · rw [e38]
    intro t t1 t2
    have c := hw t t1 t2
    have e1 := eL (1 + 1 + 3 * t + 1) (by omega) (by omega)
    have e2 := eL (1 + 1 + 3 * t + 2) (by omega) (by omega)
    have e3 := eL (1 + 1 + 3 * t) (by omega) (by omega)
    rw [show X 38 0 + (1 + 1 + 3 * t + 1) = X 38 0 + 1 + 1 + 3 * t + 1 by omega] at e1
    rw [show X 38 0 + (1 + 1 + 3 * t + 2) = X 38 0 + 1 + 1 + 3 * t + 2 by omega] at e2
    rw [show X 38 0 + (1 + 1 + 3 * t) = X 38 0 + 1 + 1 + 3 * t by omega] at e3
    rw [e1, e2, e3]
    exact c
  · intro t t1 t2
    rw [e38, eL 11 (by omega) (by omega), eL 12 (by omega) (by omega), eL 13 (by omega) (by omega)]
    exact hpl t t1 t2
theorem f_H.up {κ : x_Ka} {X : x_X} {O : Int → Int → Int → Int} {A : Int → Int} (h : f_H κ X O A) {a i z : Int} {kd : x_k} (hk : κ a = some kd) (hd : ¬ a_kd kd) (ha : a ≠ 38 ∧ a < 88 ∧ (a ≠ 0 ∨ i ≠ 1)) : f_H κ (x_up X a i z) O A :=
  h.cg (x_up_o X (by omega)) (by rw [x_up_n X (by omega)]) (fun j j1 j2 => x_up_o X (by have := h.2.1.1; omega)) (fun b k hb hk2 => x_up_o X (fun e => by subst e; rw [hk] at hb; cases hb; exact hd hk2))
theorem f_I.cg {X Y : x_X} {W D : Int → Int → Int → Int → Int → Int → Int} (h : f_I X W D) (he : ∀ a, 38 ≤ a → a ≤ 52 → Y a = X a) : f_I Y W D := by
  unfold f_I at *
  have e1 : Y (38 + 1) = X (38 + 1) := he _ (by omega) (by omega)
  have e2 : Y (38 + 2) = X (38 + 2) := he _ (by omega) (by omega)
  rw [he 38 (by omega) (by omega), e1, e2]
  refine ⟨fun t t1 t2 => ?_, fun t sum tr fl best least t1 => ?_, h.2.2⟩
  · rw [he (38 + 11 + 1 + 1 * t) (by omega) (by omega)]; exact h.1 t t1 t2
  · rw [he (38 + 11 + 1 + 1 * t) (by omega) (by omega), he (38 + 3 + 1 + 1 * t) (by omega) (by omega), he (38 + 7 + 1 + 1 * t) (by omega) (by omega)]; exact h.2.1 t sum tr fl best least t1
/-- the free looker between calls -/
def f_B (X : x_X) : Prop := (0 ≤ X 38 8 ∧ X 38 8 ≤ 900000) ∧ ∀ t, 0 ≤ t → t ≤ 2 → ∀ k, 0 ≤ k → k < 15498 → X (38 + 11 + 1 + 1 * t) k ≤ X 38 8 + 120
theorem f_B.cg {X Y : x_X} (h : f_B X) (he : f_eq X Y) : f_B Y := by
  unfold f_B at *
  rw [he 38 (by omega) (by omega)]
  exact ⟨h.1, fun t t1 t2 => by rw [he (38 + 11 + 1 + 1 * t) (by omega) (by omega)]; exact h.2 t t1 t2⟩
def g38 (X Y : x_X) : Prop := ∀ a, (a < 38 ∨ 52 < a) → Y a = X a
theorem g38.k {X Y : x_X} (h : g38 X Y) : k_eq X Y := ⟨fun a a1 a2 a3 a4 => h a (by omega), fun a a1 a2 => h a (by omega), by rw [h 0 (by omega)]; exact ⟨rfl, rfl, rfl⟩, by rw [h (-1) (by omega)]; exact Int.le_refl _⟩
theorem g38.r {X Y : x_X} (h : g38 X Y) : r_eq X Y := ⟨h 32 (by omega), by rw [h 0 (by omega)]⟩
def q_free (X : x_X) (A : Int → Int) (i : Int) : Int := f_now (c_O X i) A (c_M X 3) i (m_least (c_M X 3) i)
def q_lf (X : x_X) (A : Int → Int) (i : Int) : Int := f_lnow (c_O X i) A (c_M X 3) i
theorem v_eq.fq {X Y : x_X} (h : v_eq X Y) (hn : X 1 2 ≤ 6) (A : Int → Int) (i : Int) : q_free Y A i = q_free X A i ∧ q_lf Y A i = q_lf X A i := by unfold q_free q_lf; rw [h.O, h.M hn]; exact ⟨rfl, rfl⟩
/-- behind looks -/
theorem f_lk {κ : x_Ka} {X Y : x_X} {A : Int → Int} {i ma : Int} (hC : n_C κ X) (hi : 0 ≤ i ∧ i < X 1 2) (hA : x_Aim κ X ma A) (hB : f_B X) (h1 : ∀ a, a ≠ 38 → a ≠ 40 → Y a = X a) (h2 : Y 38 0 = X 2 i) (h3 : Y 38 1 = ma) (h4 : Y 38 8 = X 38 8 + 121) (h5 : ∀ k, 0 ≤ k → k < 363 → Y (38 + 2) k = 0) (W D : Int → Int → Int → Int → Int → Int → Int) : f_H κ Y (c_O X i) A ∧ f_I Y W D := by
  obtain ⟨hI, hP, hO, hW, hJ⟩ := hC
  obtain ⟨hT, h0, hn, hl, hla⟩ := id hI
  have hli := hla i hi.1 hi.2
  have k38 : κ 38 = some (.inl (5, 1)) := hT.1 0 0 h0 14 (0, 38, .inl (5, 1)) rfl
  have k40 : κ 40 = some (.inr (2, 363)) := hT.1 38 5 k38 4 (1, 2, .inr (2, 363)) rfl
  have hAm : ∀ a k, κ a = some k → a_kd k → Y a = X a := fun a k ha hk => h1 a (fun e => by subst e; rw [k38] at ha; cases ha; unfold a_kd at hk; simp at hk) (fun e => by subst e; rw [k40] at ha; cases ha; unfold a_kd at hk; simp at hk)
  have eL : ∀ j, 0 ≤ j → j < 14 → Y (X 2 i + j) = X (X 2 i + j) := fun j j1 j2 => h1 _ (by omega) (by omega)
  have e0 : Y 0 = X 0 := h1 0 (by omega) (by omega)
  have eo : ∀ t x f, 0 ≤ t → t ≤ 2 → l_odds Y (X 2 i) t x f = c_O X i t x f := fun t x f t1 t2 => by unfold c_O; rw [if_pos ⟨hi.1, hi.2, t1, by omega⟩]; exact l_odds_c eL (by rw [e0]) ⟨t1, by omega⟩
  refine ⟨⟨⟨hT, h0, by rw [h2]; exact hl i hi.1 hi.2, ?_, by rw [e0]; exact hO.2, ?_, by rw [h3]; exact hA.fr hAm⟩, ⟨by rw [h2]; exact hli, by have := hB.1; omega⟩, fun t x f t1 t2 => by rw [h2]; exact eo t x f t1 t2⟩, ?_, ?_, ?_⟩
  · rw [h2]
    intro t t1 t2
    have c := hO.1 i hi.1 hi.2 t t1 t2
    have e1 := eL (1 + 1 + 3 * t + 1) (by omega) (by omega)
    have e2 := eL (1 + 1 + 3 * t + 2) (by omega) (by omega)
    have e3 := eL (1 + 1 + 3 * t) (by omega) (by omega)
    rw [show X 2 i + (1 + 1 + 3 * t + 1) = X 2 i + 1 + 1 + 3 * t + 1 by omega] at e1
    rw [show X 2 i + (1 + 1 + 3 * t + 2) = X 2 i + 1 + 1 + 3 * t + 2 by omega] at e2
    rw [show X 2 i + (1 + 1 + 3 * t) = X 2 i + 1 + 1 + 3 * t by omega] at e3
    rw [e1, e2, e3]
    exact c
  · intro t t1 t2
    rw [h2, eL 11 (by omega) (by omega), eL 12 (by omega) (by omega), eL 13 (by omega) (by omega)]
    exact hP i hi.1 hi.2 t t1 t2
  · intro t t1 t2 k k1 k2
    rw [h1 _ (by omega) (by omega), h4]
    have := hB.2 t t1 t2 k k1 k2
    omega
  · intro t sum tr fl best least q1 q2 q3 q4 q5 q6 he
    exfalso
    rw [h1 _ (by omega) (by omega), h4] at he
    have hr := f_cl_r q3 q4 q5 (show 0 ≤ least ∧ least ≤ 41 by omega)
    have := hB.2 t q1.1 q1.2 _ hr.1 hr.2
    omega
  · intro t sum q1 q2 he
    exfalso
    rw [h5 _ (by omega) (by omega)] at he
    omega
theorem c_X1_freely {l : Launch} {E : x_E} {κ : x_Ka} {X : x_X} {A : Int → Int} {i ma : Int} (hC : n_C κ X) (hi : 0 ≤ i ∧ i < X 1 2) (hA : x_Aim κ X ma A) (hB : f_B X) : x_Met l yX1_freely cX1_freely 3 (some .long) 57 0 0 E κ X [x_rf E 0, vi i, x_rf E ma] κ (fun v_ Y_ => v_ = some (vl (q_free X A i)) ∧ g38 X Y_ ∧ f_H κ Y_ (c_O X i) A ∧ f_I Y_ (f_w (c_O X i) A 12) (f_d (c_O X i) A) ∧ Y_ 38 8 = X 38 8 + 121 ∧ Y_ 38 1 = ma) := by
  refine x_Met.of [(false, x_rf E 0), (false, vi i), (false, x_rf E ma)] [some (x_rf E 0), some (vi i), some (x_rf E ma)] 0 (by decide) rfl rfl ⟨x_cr E (0), rfl, x_cr E (ma), trivial⟩ rfl rfl ?_
  intro p e s m args below meth c hargs hin B
  obtain ⟨hI, hP, hO, hW, hJ⟩ := id hC
  obtain ⟨hT, h0, hn, hl, hla⟩ := id hI
  have k38 : κ 38 = some (.inl (5, 1)) := hT.1 0 0 h0 14 (0, 38, .inl (5, 1)) rfl
  have s3 : c_M X 3 i 3 = X (3 + 1 + 1 + 2 * i) 3 := c_M_s hi (by omega)
  have s4 : c_M X 3 i 4 = X (3 + 1 + 1 + 2 * i) 4 := c_M_s hi (by omega)
  have s6 : c_M X 3 i 6 = X (3 + 1 + 1 + 2 * i) 6 := c_M_s hi (by omega)
  have g3 : c_M X 3 (-1) 3 = X 3 3 := c_M_g (by omega)
  have hlr := m_least_r hW hi.1 hi.2
  have w1 := hW.1
  refine x_aload_n B dX1_freely_0 rfl ?_
  refine x_getC0 B (k := 14) hT rfl rfl xc_0 (by decide) h0 (Or.inl q415) (fun _ h => h) dX1_freely_1 (fun k_1 => ?_)
  refine x_aload_n B dX1_freely_4 rfl ?_
  refine x_getC0 B (k := 0) hT rfl rfl xc_0 (by decide) h0 (Or.inl q394) (fun _ h => h) dX1_freely_5 (fun k_5 => ?_)
  refine x_iload_n B dX1_freely_8 rfl ?_
  refine x_goP (x_rV B k_5 (show x_cl[1]? = some _ from rfl) (c_J2_get hT (by assumption) (by omega) ⟨by omega, by omega⟩) (lw_V q745 q372 q373 q113 q374) hv_J2_get ⟨by decide, by decide⟩ ⟨by decide, by decide⟩ rfl rfl (by simp [x_cr, x_c1, x_c2]) dX1_freely_9) ?_
  refine x_cast B (hl _ (by omega) (by omega)) (show x_cl[8]? = some _ from rfl) q746 dX1_freely_12 ?_
  refine x_aload_n B dX1_freely_15 rfl ?_
  refine x_go (x_rV B k_1 (show x_cl[5]? = some _ from rfl) (c_X6_looks hT k38 hB.1) (lw_V q1166 q1167 q1168 q118 q1169) hv_X6_looks ⟨by decide, by decide⟩ ⟨by decide, by decide⟩ rfl rfl (by simp [x_cr, x_c1, x_c2]) dX1_freely_16) (fun v_16 X_16 p_16 => ?_)
  obtain ⟨rfl, f1, f2, f3, f4, f5⟩ := p_16
  obtain ⟨hH, hIf⟩ := f_lk hC hi hA hB f1 f2 f3 f4 f5 (f_w (c_O X i) A 12) (f_d (c_O X i) A)
  have hve : v_eq X X_16 := ⟨fun a a1 a2 => f1 a (by omega) (by omega), fun l l1 l2 j j1 j2 => f1 _ (by have := hla l l1 l2; omega) (by have := hla l l1 l2; omega), by rw [f1 0 (by omega) (by omega)]⟩
  have hC2 := hve.C hC
  have e1 : X_16 1 2 = X 1 2 := congrFun (hve.1 1 (by omega) (by omega)) 2
  have hsl : s_least X_16 (3 + 1 + 1 + 2 * i) (X_16 3 3) = m_least (c_M X 3) i := by unfold s_least m_least; rw [hve.1 (3 + 1 + 1 + 2 * i) (by omega) (by omega), hve.1 3 (by omega) (by omega), s3, s6, s4, g3]
  have e33 : X_16 3 3 = X 3 3 := by rw [hve.1 3 (by omega) (by omega)]
  refine x_aload_n B dX1_freely_19 rfl ?_
  refine x_getC0 B (k := 14) hT rfl rfl xc_0 (by decide) h0 (Or.inl q415) (fun _ h => h) dX1_freely_20 (fun k_20 => ?_)
  refine x_aload_n B dX1_freely_23 rfl ?_
  refine x_getC0 B (k := 2) hT rfl rfl xc_0 (by decide) h0 (Or.inl q400) (fun _ h => h) dX1_freely_24 (fun k_24 => ?_)
  refine x_getC1 B (k := 0) hT rfl rfl xc_2 (by decide) k_24 (Or.inr q244) (fun _ h => h) dX1_freely_27 (fun k_27 => ?_)
  refine x_iload_n B dX1_freely_30 rfl ?_
  refine x_aaldC B (t := 10) hT k_27 rfl rfl rfl rfl ⟨by omega, by omega⟩ dX1_freely_31 (fun k_31 => ?_)
  refine x_aload_n B dX1_freely_32 rfl ?_
  refine x_getC0 B (k := 2) hT rfl rfl xc_0 (by decide) h0 (Or.inl q400) (fun _ h => h) dX1_freely_33 (fun k_33 => ?_)
  refine x_getC1 B (k := 0) hT rfl rfl xc_2 (by decide) k_33 (Or.inr q244) (fun _ h => h) dX1_freely_36 (fun k_36 => ?_)
  refine x_iload_n B dX1_freely_39 rfl ?_
  refine x_aaldC B (t := 10) hT k_36 rfl rfl rfl rfl ⟨by omega, by omega⟩ dX1_freely_40 (fun k_40 => ?_)
  refine x_aload_n B dX1_freely_41 rfl ?_
  refine x_getC0 B (k := 2) hT rfl rfl xc_0 (by decide) h0 (Or.inl q400) (fun _ h => h) dX1_freely_42 (fun k_42 => ?_)
  refine x_getI B (k := 3) 3 rfl rfl xc_2 (by decide) k_42 (Or.inr q253) (fun _ h => h) dX1_freely_45 (fun r_45 => ?_)
  refine x_goP (x_rV B k_40 (show x_cl[3]? = some _ from rfl) (c_X3_least hT (by assumption) ⟨by omega, by omega⟩) (lw_V q777 q778 q779 q115 q780) hv_X3_least ⟨by decide, by decide⟩ ⟨by decide, by decide⟩ rfl rfl (by simp [x_cr, x_c1, x_c2]) dX1_freely_48) ?_
  refine x_go (x_rU B (n := 2) (x_rcK B k_20 (show x_cl[5]? = some _ from rfl)) (c_X4_now_F hH hIf (by rw [e1]; exact hn.2) (by rw [e1]; exact hi) hC2.2.2.2.1 hC2.2.2.2.2 ⟨by rw [hsl]; omega, by rw [hsl]; omega⟩ (fun q => by rw [hsl]; rw [hve.M hn.2] at q; exact hlr.2.2 q)) (lw_U q1171 q1172 q1173 q971 q116 q972) rfl (by decide +kernel) ⟨by decide, by decide⟩ ⟨by decide, by decide⟩ rfl rfl (by simp [x_cr, x_c1, x_c2]) dX1_freely_51) (fun v_51 X_51 p_51 => ?_)
  obtain ⟨rfl, hg, hJf⟩ := p_51
  refine x_lret B (fun _ _ h => h) ?_ dX1_freely_54
  refine ⟨congrArg (fun z => some (vl z)) ?_, fun a ha => (hg a (by omega)).trans (f1 a (by omega) (by omega)), hH.fr hg, hJf, by rw [hg.e38]; exact f4, by rw [hg.e38]; exact f3⟩
  rw [hsl, hve.M hn.2]
  rfl
theorem f_lnow_r {κ : x_Ka} {X : x_X} {O : Int → Int → Int → Int} {A : Int → Int} (h : f_H κ X O A) {n l : Int} {M : x_X} (hW : m_W n M) (h1 : 0 ≤ l) (h2 : l < n) : 0 ≤ f_lnow O A M l ∧ f_lnow O A M l ≤ 40 := by
  have hr := f_w_r h.o.1 h.o.2
  have key : ∀ t sum tr fl best least, (0 ≤ t ∧ t ≤ 2) → (0 ≤ sum ∧ sum ≤ 40 * t) → (0 ≤ best ∧ best ≤ 40) → 0 ≤ fl → (0 ≤ least ∧ least ≤ 40) → 0 ≤ f_d O A t sum tr fl best least ∧ f_d O A t sum tr fl best least ≤ 40 := fun t sum tr fl best least q1 q2 q3 q4 q5 => by
    have := (f_mx_r (V := f_v O A t sum tr fl best) q5.2 (fun y y1 y2 => (p_mix_r (h.o.1 _ _ _ q1.1 q1.2 q4) (hr 12 _ _ _ _ _ _ q1 q2 (by omega) q4 (by omega)) (hr 12 _ _ _ _ _ _ q1 q2 q3 (by omega) (by omega))).2)).2
    unfold f_d
    omega
  have w1 := hW.1
  have w2 := hW.2.1 l h1 h2
  have hl := m_least_r hW h1 h2
  unfold f_lnow
  by_cases q : M l 7 ≠ 0 ∨ M (-1) 1 = 3
  · rw [if_pos q]; omega
  · rw [if_neg q]
    have hre := m_rest hW h1 h2 (by omega) (by omega)
    unfold f_lat
    by_cases q2 : ((if M l 3 = 0 then 3 else M (-1) 2 + M l 6) = 3 ∨ m_least M l > 40)
    · rw [if_pos q2]
      by_cases q3 : M l (10 + M (-1) 1) = 0 ∨ M (-1) 1 = 2
      · rw [if_pos q3]; omega
      · rw [if_neg q3]; exact key _ _ _ _ _ _ (by omega) (by omega) (by omega) (by omega) (by omega)
    · rw [if_neg q2]; exact key _ _ _ _ _ _ (by omega) hre.1 hre.2 (by omega) (by omega)
theorem f_now_r {κ : x_Ka} {X : x_X} {O : Int → Int → Int → Int} {A : Int → Int} (h : f_H κ X O A) {n l : Int} {M : x_X} (hW : m_W n M) (h1 : 0 ≤ l) (h2 : l < n) : 0 ≤ f_now O A M l (m_least M l) ∧ f_now O A M l (m_least M l) ≤ 1000000 := by
  have hr := f_w_r h.o.1 h.o.2
  have w1 := hW.1
  have w2 := hW.2.1 l h1 h2
  have hl := m_least_r hW h1 h2
  have hs := m_sum_r hW h1 h2
  unfold f_now
  by_cases q : M l 7 ≠ 0
  · rw [if_pos q]; exact h.o.2 0 (by omega) (by omega)
  · rw [if_neg q]
    by_cases q2 : M (-1) 1 = 3
    · rw [if_pos q2]; exact h.o.2 _ hs.1 hs.2
    · rw [if_neg q2]
      have hre := m_rest hW h1 h2 (by omega) q2
      split
      · unfold f_e
        split
        · exact h.o.2 _ (by omega) (by omega)
        · split
          · exact h.o.2 _ (by omega) (by omega)
          · exact hr 12 _ _ _ _ _ _ (by omega) (by omega) (by omega) (by omega) (by omega)
      · exact hr 12 _ _ _ _ _ _ (by omega) hre.1 hre.2 (by omega) (by omega)
theorem c_X1_tellsFree {l : Launch} {E : x_E} {κ : x_Ka} {X : x_X} {A : Int → Int} {i ma : Int} (hC : n_C κ X) (k87 : κ 87 = some (.inr (1, 1))) (hi : 0 ≤ i ∧ i < X 1 2) (hA : x_Aim κ X ma A) (hB : f_B X) : x_Met l yX1_tellsFree cX1_tellsFree 5 (some .int) 58 0 0 E κ X [x_rf E 0, vi i, x_rf E ma] κ (fun v_ Y_ => v_ = some (vi (q_free X A i)) ∧ k_eq X Y_ ∧ (Y_ 0 7 = 2 ∧ Y_ 32 0 = q_lf X A i ∧ Y_ 32 1 = q_plan X A i) ∧ (Y_ 38 8 = X 38 8 + 121 ∧ ∀ t, 0 ≤ t → t ≤ 2 → ∀ k, 0 ≤ k → k < 15498 → Y_ (38 + 11 + 1 + 1 * t) k ≤ Y_ 38 8 + 120)) := by
  refine x_Met.of [(false, x_rf E 0), (false, vi i), (false, x_rf E ma)] [some (x_rf E 0), some (vi i), some (x_rf E ma), none, none] 2 (by decide) rfl rfl ⟨x_cr E (0), rfl, x_cr E (ma), trivial⟩ rfl rfl ?_
  intro p e s m args below meth c hargs hin B
  obtain ⟨hI, hP, hO, hW, hJ⟩ := id hC
  obtain ⟨hT, h0, hn, hl, hla⟩ := id hI
  refine x_lows (fun hlow => ?_)
  have hlo := hI.lo k87 hlow
  have hlo0 := hlo.1
  have k38 : κ 38 = some (.inl (5, 1)) := hT.1 0 0 h0 14 (0, 38, .inl (5, 1)) rfl
  have k32 : κ 32 = some (.inr (1, 64)) := hT.1 0 0 h0 6 (0, 32, .inr (1, 64)) rfl
  refine x_aload_n B dX1_tellsFree_0 rfl ?_
  refine x_iload_n B dX1_tellsFree_1 rfl ?_
  refine x_aload_n B dX1_tellsFree_2 rfl ?_
  refine x_go (x_rV B h0 (show x_cl[0]? = some _ from rfl) (c_X1_freely hC hi hA hB) (lw_V q1162 q1164 qs28 q110 q1165) hv_X1_freely ⟨by decide, by decide⟩ ⟨by decide, by decide⟩ rfl rfl (by simp [x_cr, x_c1, x_c2]) dX1_tellsFree_3) (fun v_3 X_3 p_3 => ?_)
  obtain ⟨rfl, hg, hH, hIf, h8, h1⟩ := p_3
  have hke := hg.k
  refine x_lst_3 B dX1_tellsFree_6 (by first | rfl | exact x_cr _ _) ?_
  refine x_aload_n B dX1_tellsFree_7 rfl ?_
  refine x_iconst B dX1_tellsFree_8 ?_
  refine x_putI B (k := 7) 7 rfl rfl rfl ⟨by omega, by omega⟩ xc_0 (by decide) rfl nn_0_7 (fun _ => rfl) h0 (Or.inl q408) (fun _ h => h) dX1_tellsFree_9 ?_
  have hk1 : k_eq X (x_up X_3 0 7 0) := hke.up7 (Or.inl rfl)
  have hve := hk1.v hI hlo
  have hC1 := hve.C hC
  have e1 : (x_up X_3 0 7 0) 1 2 = X 1 2 := congrFun (hve.1 1 (by omega) (by omega)) 2
  have hH1 := hH.up (a := 0) (i := 7) (z := 0) h0 (by unfold a_kd; simp) (by omega)
  have hI1 := hIf.cg (Y := x_up X_3 0 7 0) (fun a a1 a2 => x_up_o _ (by omega))
  refine x_aload_n B dX1_tellsFree_12 rfl ?_
  refine x_aload_n B dX1_tellsFree_13 rfl ?_
  refine x_getC0 B (k := 14) hT rfl rfl xc_0 (by decide) h0 (Or.inl q415) (fun _ h => h) dX1_tellsFree_14 (fun k_14 => ?_)
  refine x_aload_n B dX1_tellsFree_17 rfl ?_
  refine x_getC0 B (k := 2) hT rfl rfl xc_0 (by decide) h0 (Or.inl q400) (fun _ h => h) dX1_tellsFree_18 (fun k_18 => ?_)
  refine x_getC1 B (k := 0) hT rfl rfl xc_2 (by decide) k_18 (Or.inr q244) (fun _ h => h) dX1_tellsFree_21 (fun k_21 => ?_)
  refine x_iload_n B dX1_tellsFree_24 rfl ?_
  refine x_aaldC B (t := 10) hT k_21 rfl rfl rfl rfl ⟨by omega, by omega⟩ dX1_tellsFree_25 (fun k_25 => ?_)
  refine x_go (x_rV B k_14 (show x_cl[5]? = some _ from rfl) (c_X6_loadNow hH1 hI1 (by rw [e1]; exact hn.2) (by rw [e1]; exact hi) hC1.2.2.2.1 hC1.2.2.2.2) (lw_V q1174 q1175 q1176 q118 q1177) hv_X6_loadNow ⟨by decide, by decide⟩ ⟨by decide, by decide⟩ rfl rfl (by simp [x_cr, x_c1, x_c2]) dX1_tellsFree_26) (fun v_26 X_26 p_26 => ?_)
  obtain ⟨rfl, hg2, hI2⟩ := p_26
  have hl2 : f_lnow (c_O X i) A (c_M (x_up X_3 0 7 0) 3) i = q_lf X A i := by rw [hve.M hn.2]; rfl
  rw [hl2]
  have hlr := f_lnow_r hH hW hi.1 hi.2
  rw [show f_lnow (c_O X i) A (c_M X 3) i = q_lf X A i from rfl] at hlr
  have hH2 := hH1.fr hg2
  have e7 : X_26 0 7 = 0 := by rw [hg2 0 (by omega), x_up_s]
  refine x_i2l B dX1_tellsFree_29 ⟨by omega, by omega⟩ ?_
  refine x_goV (x_rV B h0 (show x_cl[0]? = some _ from rfl) (c_X1_tell hT h0 ⟨by omega, by omega⟩ ⟨by omega, by omega⟩) (lw_V q806 q808 qs16 q110 q809) hv_X1_tell ⟨by decide, by decide⟩ ⟨by decide, by decide⟩ rfl rfl (by simp [x_cr, x_c1, x_c2]) dX1_tellsFree_30) ?_
  have hk2 : k_eq X (x_up (x_up X_26 32 (X_26 0 7) (q_lf X A i)) 0 7 (X_26 0 7 + 1)) := (((hk1.trans (g38.k (fun a ha => hg2 a (by omega)))).up (Or.inr (Or.inl rfl)) hlo0).up7 (Or.inl rfl))
  have hv2 := hk2.v hI hlo
  have hC2 := hv2.C hC
  have e12 : (x_up (x_up X_26 32 (X_26 0 7) (q_lf X A i)) 0 7 (X_26 0 7 + 1)) 1 2 = X 1 2 := congrFun (hv2.1 1 (by omega) (by omega)) 2
  have hA2 : x_Aim κ (x_up (x_up X_26 32 (X_26 0 7) (q_lf X A i)) 0 7 (X_26 0 7 + 1)) ma A := by have := ((hH2.up (a := 32) (i := X_26 0 7) (z := q_lf X A i) k32 (by unfold a_kd; simp) (by omega)).up (a := 0) (i := 7) (z := X_26 0 7 + 1) h0 (by unfold a_kd; simp) (by omega)).1.2.2.2.2.2.2; rw [x_up_o _ (by omega), x_up_o _ (by omega), hg2.e38, x_up_o _ (by omega), h1] at this; exact this
  have hqr := q_plan_r (A := A) hC hi (fun v v1 v2 => hA.rng v1 v2)
  have hqe : q_plan (x_up (x_up X_26 32 (X_26 0 7) (q_lf X A i)) 0 7 (X_26 0 7 + 1)) A i = q_plan X A i := hv2.q hn.2 _ _
  refine x_aload_n B dX1_tellsFree_33 rfl ?_
  refine x_aload_n B dX1_tellsFree_34 rfl ?_
  refine x_iload_n B dX1_tellsFree_35 rfl ?_
  refine x_aload_n B dX1_tellsFree_36 rfl ?_
  refine x_goP (x_rV B h0 (show x_cl[0]? = some _ from rfl) (c_X1_byPlan hC2 (by rw [e12]; exact hi) hA2) (lw_V q957 q959 qs20 q110 q960) hv_X1_byPlan ⟨by decide, by decide⟩ ⟨by decide, by decide⟩ rfl rfl (by simp [x_cr, x_c1, x_c2]) dX1_tellsFree_37) ?_
  rw [hqe]
  have e72 : (x_up (x_up (x_up (x_up X_26 32 (X_26 0 7) (q_lf X A i)) 0 7 (X_26 0 7 + 1)) 37 0 ((x_up (x_up X_26 32 (X_26 0 7) (q_lf X A i)) 0 7 (X_26 0 7 + 1)) 2 i)) 37 1 ma) 0 7 = 1 := by rw [x_up2_o (by omega), x_up_s, e7]; rfl
  refine x_goV (x_rV B h0 (show x_cl[0]? = some _ from rfl) (c_X1_tell hT h0 ⟨by omega, by omega⟩ ⟨by omega, by omega⟩) (lw_V q806 q808 qs16 q110 q809) hv_X1_tell ⟨by decide, by decide⟩ ⟨by decide, by decide⟩ rfl rfl (by simp [x_cr, x_c1, x_c2]) dX1_tellsFree_40) ?_
  refine x_lload_n B dX1_tellsFree_43 rfl ?_
  refine x_l2i B dX1_tellsFree_44 ?_
  refine x_iret B (fun _ _ h => h) ?_ dX1_tellsFree_45
  refine ⟨rfl, ((((hk2.up (by omega) hlo0).up (by omega) hlo0).up (Or.inr (Or.inl rfl)) hlo0).up7 (Or.inl rfl)), ⟨by rw [x_up_s, e72]; rfl, ?_, ?_⟩, ?_, ?_⟩
  · rw [x_up_o _ (by omega), x_up_n _ (Or.inr (by rw [e72]; omega)), x_up2_o (by omega), x_up_o _ (by omega), e7, x_up_s]
  · rw [x_up_o _ (by omega), e72, x_up_s]
  · rw [x_up_o _ (by omega), x_up_o _ (by omega), x_up2_o (by omega), x_up_o _ (by omega), x_up_o _ (by omega), hg2.e38, x_up_o _ (by omega)]; exact h8
  · intro t t1 t2 k k1 k2
    rw [x_up_o _ (by omega), x_up_o _ (by omega), x_up2_o (by omega), x_up_o _ (by omega), x_up_o _ (by omega), x_up_o _ (by omega), x_up_o _ (by omega), x_up2_o (by omega), x_up_o _ (by omega), x_up_o _ (by omega)]; exact hI2.1 t t1 t2 k k1 k2
