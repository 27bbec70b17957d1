theorem x_Met.imp {l : Launch} {y : MethodName} {bytes : ByteArray} {maxL : Nat} {ret : Option FieldType} {lv mc ms : Nat} {E : x_E} {κ : x_Ka} {X : x_X} {av : List Value} {κ' : x_Ka} {post post2 : Option Value → x_X → Prop} (h : x_Met l y bytes maxL ret lv mc ms E κ X av κ' post) (hi : ∀ v Y, post v Y → post2 v Y) : x_Met l y bytes maxL ret lv mc ms E κ X av κ' post2 := by
  intro p e ha c1 c2 s m args below hf hs hP hK
  obtain ⟨n, o, h1, h2, h3, ⟨⟨⟨v, Y, g1, g2, g3⟩, g4⟩, h5⟩⟩ := h p e ha c1 c2 s m args below hf hs hP hK
  exact ⟨n, o, h1, h2, h3, ⟨⟨⟨v, Y, g1, hi _ _ g2, g3⟩, g4⟩, h5⟩⟩
/-- Free.worth, whatever is left to try -/
theorem f_all {l : Launch} {E : x_E} {κ : x_Ka} {O : Int → Int → Int → Int} {A : Int → Int} : ∀ (d : Nat) (X : x_X) (t sum tr fl best least : Int), f_H κ X O A → f_I X (f_w O A 12) (f_d O A) → (0 ≤ t ∧ t ≤ 2) → (0 ≤ sum ∧ sum ≤ 40 * t) → (0 ≤ best ∧ best ≤ 40) → (0 ≤ tr ∧ tr ≤ 3) → (0 ≤ fl ∧ fl ≤ tr) → (1 ≤ least ∧ least ≤ 41) → 4 * (2 - t) + (3 - tr) < d →
    x_Met l yX6_worth cX6_worth 14 (some .long) (4 * d + 4) 0 0 E κ X [x_rf E 38, vi t, vi sum, vi tr, vi fl, vi best, vi least] κ (fun v_ Y_ => v_ = some (vl (f_w O A 12 t sum tr fl best least)) ∧ g_fr X Y_ ∧ f_I Y_ (f_w O A 12) (f_d O A) ∧ (¬ (tr = 3 ∨ least > 40) → Y_ (38 + 11 + 1 + 1 * t) (f_cl tr fl best least) = X 38 8 + sum))
  | 0, _, _, _, _, _, _, _, _, _, _, _, _, _, _, _, hd => by omega
  | d + 1, X, t, sum, tr, fl, best, least, h, hI, h1, h2, h3, h4, h5, h6, hd => by
    have hr := f_w_r h.o.1 h.o.2
    rw [f_wE h1 h4]
    refine c_X6_worth (W := (f_w O A 12)) (D := (f_d O A)) (V := f_v O A t sum tr fl best) (q := 4 * d + 7) (q2 := 4 * d + 5) h hI h1 h2 h3 h4 h5 h6 (by omega) (fun _ => ?_) (fun hn Y x hg hJ x1 x2 => ?_) (fun y y1 y2 => ?_) (fun hn => ?_)
    · refine c_X4_ended_F (q := 4 * d + 5) h hI h1 h2 h3 (fun q1 q2 => ?_)
      exact c_X6_begun (q := 4 * d + 4) h hI (by omega) (by omega) ((f_all d X _ _ _ _ _ _ h hI (by omega) (by omega) (by omega) (by omega) (by omega) (by omega) (by omega)).imp (fun v Y hp => ⟨hp.1, hp.2.1, hp.2.2.1⟩)) (hr 12 _ _ _ _ _ _ (by omega) (by omega) (by omega) (by omega) (by omega))
    · exact c_X4_tried_F (q := 4 * d + 4) (h.fr hg) hJ h1 (by omega) (by omega) (by omega) ((f_all d Y _ _ _ _ _ _ (h.fr hg) hJ h1 h2 (by omega) (by omega) (by omega) (by omega) (by omega)).imp (fun v Z hp => ⟨hp.1, hp.2.1, hp.2.2.1⟩)) (fun Z hz hJz => (f_all d Z _ _ _ _ _ _ (h.fr (hg.trans hz)) hJz h1 h2 h3 (by omega) (by omega) (by omega) (by omega)).imp (fun v Z hp => ⟨hp.1, hp.2.1, hp.2.2.1⟩)) (hr 12 _ _ _ _ _ _ h1 h2 (by omega) (by omega) (by omega)) (hr 12 _ _ _ _ _ _ h1 h2 h3 (by omega) (by omega))
    · exact (p_mix_r (h.o.1 _ _ _ h1.1 h1.2 h5.1) (hr 12 _ _ _ _ _ _ h1 h2 (by omega) h5.1 (by omega)) (hr 12 _ _ _ _ _ _ h1 h2 h3 (by omega) (by omega))).2
    · exact ⟨by rw [f_wE h1 h4, if_neg hn], rfl⟩
def f_e (O : Int → Int → Int → Int) (A : Int → Int) (t sum best : Int) : Int := if best = 0 then A 0 else if t = 2 then A (sum + best) else f_w O A 12 (t + 1) (sum + best) 0 0 0 1
theorem f_end {l : Launch} {E : x_E} {κ : x_Ka} {X : x_X} {O : Int → Int → Int → Int} {A : Int → Int} (h : f_H κ X O A) (hI : f_I X (f_w O A 12) (f_d O A)) {t sum best : Int} (h1 : 0 ≤ t ∧ t ≤ 2) (h2 : 0 ≤ sum ∧ sum ≤ 40 * t) (h3 : 0 ≤ best ∧ best ≤ 40) : x_Met l yX4_ended cX4_ended 4 (some .long) 55 0 0 E κ X [x_rf E 38, vi t, vi best, vi sum] κ (fun v_ Y_ => v_ = some (vl (f_e O A t sum best)) ∧ g_fr X Y_ ∧ f_I Y_ (f_w O A 12) (f_d O A)) :=
  c_X4_ended_F (q := 53) h hI h1 h2 h3 (fun q1 q2 => c_X6_begun (q := 52) h hI (by omega) (by omega) ((f_all 12 X _ _ _ _ _ _ h hI (by omega) (by omega) (by omega) (by omega) (by omega) (by omega) (by omega)).imp (fun v Y hp => ⟨hp.1, hp.2.1, hp.2.2.1⟩)) (f_w_r h.o.1 h.o.2 12 _ _ _ _ _ _ (by omega) (by omega) (by omega) (by omega) (by omega)))
def f_now (O : Int → Int → Int → Int) (A : Int → Int) (M : x_X) (l load : Int) : Int := if M l 7 ≠ 0 then A 0 else if M (-1) 1 = 3 then A (m_sum M l) else if M l 3 = 0 then f_e O A (M (-1) 1) (m_sum M l - M l (10 + M (-1) 1)) (M l (10 + M (-1) 1)) else f_w O A 12 (M (-1) 1) (m_sum M l - M l (10 + M (-1) 1)) (M (-1) 2 + M l 6) (M l 2) (M l (10 + M (-1) 1)) load
def m_least (M : x_X) (l : Int) : Int := if M l 3 = 0 then 0 else if M l 6 = 0 then max (M l 4) (M (-1) 3) else M l 4
def f_lat (O : Int → Int → Int → Int) (A : Int → Int) (t sum tr fl best least : Int) : Int := if tr = 3 ∨ least > 40 then (if best = 0 ∨ t = 2 then 0 else f_d O A (t + 1) (sum + best) 0 0 0 1) else f_d O A t sum tr fl best least
def f_lnow (O : Int → Int → Int → Int) (A : Int → Int) (M : x_X) (l : Int) : Int := if M l 7 ≠ 0 ∨ M (-1) 1 = 3 then 0 else f_lat O A (M (-1) 1) (m_sum M l - M l (10 + M (-1) 1)) (if M l 3 = 0 then 3 else M (-1) 2 + M l 6) (M l 2) (M l (10 + M (-1) 1)) (m_least M l)
theorem m_least_r {n l : Int} {M : x_X} (hW : m_W n M) (h1 : 0 ≤ l) (h2 : l < n) : 0 ≤ m_least M l ∧ m_least M l ≤ 40 ∧ (M l 3 ≠ 0 → 1 ≤ m_least M l) := by
  have w1 := hW.1
  have w2 := hW.2.1 l h1 h2
  have w3 := hW.2.2 l h1 h2
  unfold m_least
  by_cases q : M l 3 = 0
  · rw [if_pos q]; omega
  · rw [if_neg q]
    have w4 := w3.2.2.2.2 (by omega)
    by_cases q2 : M l 6 = 0
    · rw [if_pos q2]; omega
    · rw [if_neg q2]; omega
theorem c_X4_looks_F {l : Launch} {E : x_E} {κ : x_Ka} {X : x_X} {L m : Int} (hk : κ 38 = some (.inl (5, 1))) : x_Vo l yX4_looks cX4_looks 3 0 E κ X [x_rf E 38, x_rf E L, x_rf E m] (x_up (x_up X 38 0 L) 38 1 m) := by
  refine x_Met.of [(false, x_rf E 38), (false, x_rf E L), (false, x_rf E m)] [some (x_rf E 38), some (x_rf E L), some (x_rf E m)] 0 (by decide) rfl rfl ⟨x_cr E (38), x_cr E (L), x_cr E (m), trivial⟩ rfl rfl ?_
  intro p e s m args below meth c hargs hin B
  refine x_aload_n B dX4_looks_0 rfl ?_
  refine x_aload_n B dX4_looks_1 rfl ?_
  refine x_putO B (k := 0) 0 rfl rfl rfl xc_5 (by decide) rfl nn_5_0 (fun _ => rfl) hk (Or.inl q276) (fun _ h => h) dX4_looks_2 ?_
  refine x_aload_n B dX4_looks_5 rfl ?_
  refine x_aload_n B dX4_looks_6 rfl ?_
  refine x_putO B (k := 1) 1 rfl rfl rfl xc_5 (by decide) rfl nn_5_1 (fun _ => rfl) hk (Or.inl q279) (fun _ h => h) dX4_looks_7 ?_
  refine x_vret B (fun _ _ h => h) ?_ dX4_looks_10
  exact ⟨rfl, rfl⟩
theorem c_X6_looks {l : Launch} {E : x_E} {κ : x_Ka} {X : x_X} {L ma : Int} (hT : x_T κ) (hk : κ 38 = some (.inl (5, 1))) (h8 : 0 ≤ X 38 8 ∧ X 38 8 ≤ 900000) : x_Met l yX6_looks cX6_looks 4 none 1 0 0 E κ X [x_rf E 38, x_rf E L, x_rf E ma] κ (fun v_ Y => v_ = none ∧ (∀ a, a ≠ 38 → a ≠ 40 → Y a = X a) ∧ Y 38 0 = L ∧ Y 38 1 = ma ∧ Y 38 8 = X 38 8 + 121 ∧ ∀ k, 0 ≤ k → k < 363 → Y (38 + 2) k = 0) := by
  refine x_Met.of [(false, x_rf E 38), (false, x_rf E L), (false, x_rf E ma)] [some (x_rf E 38), some (x_rf E L), some (x_rf E ma), none] 1 (by decide) rfl rfl ⟨x_cr E (38), x_cr E (L), x_cr E (ma), trivial⟩ rfl rfl ?_
  intro p e s m args below meth c hargs hin B
  have lp_8 : ∀ (n : Nat) (k : Int) (Y : x_X), ((0 ≤ k ∧ k ≤ 363) ∧ ((∀ a, a ≠ 38 → a ≠ 40 → Y a = X a) ∧ Y 38 0 = L ∧ Y 38 1 = ma ∧ Y 38 8 = X 38 8) ∧ ∀ j, 0 ≤ j → j < k → Y (38 + 2) j = 0) → ((364 - k).toNat < n) → x_G p l e (x_rm 1 0 0) s m args below meth c 4 E 0 0 (MQ below (x_Q E κ (fun v_ Y => v_ = none ∧ (∀ a, a ≠ 38 → a ≠ 40 → Y a = X a) ∧ Y 38 0 = L ∧ Y 38 1 = ma ∧ Y 38 8 = X 38 8 + 121 ∧ ∀ k, 0 ≤ k → k < 363 → Y (38 + 2) k = 0)) args s 0 0 (fun q => E.1 ≤ q)) κ 8 [some (x_rf E 38), some (x_rf E L), some (x_rf E ma), some (vi k)] [] Y := by
    intro n
    induction n with
    | zero => intro k Y hinv hme; exfalso; omega
    | succ n ih =>
      intro k Y hinv hme
      obtain ⟨hkr, ⟨ha, h0, h1, hl⟩, hz⟩ := hinv
      refine x_iload_n B dX6_looks_8 rfl ?_
      refine x_sipush B dX6_looks_9 (by decide) ?_
      refine x_icmp_ge B (tgt := 28) dX6_looks_12 (by decide) ⟨by omega, by omega⟩ ⟨by omega, by omega⟩ (fun h_12 => ?_) (fun h_12 => ?_)
      · refine x_aload_n B dX6_looks_28 rfl ?_
        refine x_dup B dX6_looks_29 (by first | rfl | exact x_cr _ _) ?_
        refine x_getI B (k := 8) 8 rfl rfl xc_5 (by decide) hk (Or.inl q308) (fun _ h => h) dX6_looks_30 (fun r_30 => ?_)
        refine x_bipush B dX6_looks_33 (by decide) ?_
        refine x_iadd B dX6_looks_35 ?_
        refine x_putI B (k := 8) 8 rfl rfl rfl ⟨by rw [hl]; omega, by rw [hl]; omega⟩ xc_5 (by decide) rfl nn_5_8 (fun _ => rfl) hk (Or.inl q308) (fun _ h => h) dX6_looks_36 ?_
        refine x_vret B (fun _ _ h => h) ?_ dX6_looks_39
        exact ⟨rfl, fun a a1 a2 => by rw [x_up_o _ a1]; exact ha a a1 a2, by rw [x_up_n _ (Or.inr (by omega))]; exact h0, by rw [x_up_n _ (Or.inr (by omega))]; exact h1, by rw [x_up_s, hl], fun k k1 k2 => by rw [x_up_o _ (by omega)]; exact hz k k1 (by omega)⟩
      · refine x_aload_n B dX6_looks_15 rfl ?_
        refine x_getC1 B (k := 4) hT rfl rfl xc_5 (by decide) hk (Or.inl q304) (fun _ h => h) dX6_looks_16 (fun k_16 => ?_)
        refine x_iload_n B dX6_looks_19 rfl ?_
        refine x_iconst B dX6_looks_20 ?_
        refine x_zast B k_16 ⟨by omega, by omega⟩ ⟨by omega, by omega⟩ dX6_looks_21 ?_
        refine x_iinc_3 B dX6_looks_22 (by first | rfl | exact x_cr _ _) ?_
        refine x_goto B (tgt := 8) dX6_looks_25 (by decide) ?_
        refine ih _ _ ⟨⟨by omega, by omega⟩, ⟨fun a a1 a2 => by rw [x_up_o _ (by omega)]; exact ha a a1 a2, by rw [x_up_o _ (by omega)]; exact h0, by rw [x_up_o _ (by omega)]; exact h1, by rw [x_up_o _ (by omega)]; exact hl⟩, fun j j1 j2 => ?_⟩ (by omega)
        by_cases e : j = k
        · subst e; exact x_up_s _ _ _ _
        · rw [x_up_n _ (Or.inr e)]; exact hz j j1 (by omega)
  refine x_aload_n B dX6_looks_0 rfl ?_
  refine x_aload_n B dX6_looks_1 rfl ?_
  refine x_aload_n B dX6_looks_2 rfl ?_
  refine x_goV (x_rSU B (n := 2) (As := [x_rf E L, x_rf E ma]) hk (show x_cl[5]? = some _ from rfl) (c_X4_looks_F hk) (lw_SU q1170 q1928 q327 q965 q116 q966) (by decide +kernel) ⟨by decide, by decide⟩ ⟨by decide, by decide⟩ rfl rfl (by simp [x_cr, x_c1, x_c2]) dX6_looks_3) ?_
  refine x_iconst B dX6_looks_6 ?_
  refine x_ist_3 B dX6_looks_7 (by first | rfl | exact x_cr _ _) ?_
  refine lp_8 _ 0 _ ⟨⟨by omega, by omega⟩, ⟨fun a a1 a2 => x_up2_o a1, by rw [x_up_n _ (Or.inr (by omega)), x_up_s], x_up_s _ _ _ _, by rw [x_up_n _ (Or.inr (by omega)), x_up_n _ (Or.inr (by omega))]⟩, fun j j1 j2 => by omega⟩ (Nat.lt_succ_self _)
theorem c_X4_now_F {l : Launch} {E : x_E} {κ : x_Ka} {X : x_X} {O : Int → Int → Int → Int} {A : Int → Int} {i load : Int} (h : f_H κ X O A) (hI : f_I X (f_w O A 12) (f_d O A)) (hn : X 1 2 ≤ 6) (hi : 0 ≤ i ∧ i < X 1 2) (hW : m_W (X 1 2) (c_M X 3)) (hJ : c_J X 3) (hl : 0 ≤ load ∧ load ≤ 40) (hl1 : c_M X 3 i 3 ≠ 0 → 1 ≤ load) : x_Met l yX4_now cX4_now 5 (some .long) 56 0 0 E κ X [x_rf E 38, x_rf E (3 + 1 + 1 + 2 * i), vi load] κ (fun v_ Y_ => v_ = some (vl (f_now O A (c_M X 3) i load)) ∧ g_fr X Y_ ∧ f_I Y_ (f_w O A 12) (f_d O A)) := by
  refine x_Met.of [(false, x_rf E 38), (false, x_rf E (3 + 1 + 1 + 2 * i)), (false, vi load)] [some (x_rf E 38), some (x_rf E (3 + 1 + 1 + 2 * i)), some (vi load), none, none] 2 (by decide) rfl rfl ⟨x_cr E (38), x_cr E (3 + 1 + 1 + 2 * i), rfl, trivial⟩ rfl rfl ?_
  intro p e s m args below meth c hargs hin B
  obtain ⟨hT, h0, hL, hw, hti, hpl, hA⟩ := id h.1
  have hk := h.1.k38
  have hm : κ 3 = some (.inl (2, 1)) := hT.1 0 0 h0 2 (0, 3, .inl (2, 1)) rfl
  have ks := x_std (l := i) hT hm (by omega) (by omega)
  have g1 : c_M X 3 (-1) 1 = X 3 1 := c_M_g (by omega)
  have g2 : c_M X 3 (-1) 2 = X 3 2 := c_M_g (by omega)
  have s7 : c_M X 3 i 7 = X (3 + 1 + 1 + 2 * i) 7 := c_M_s hi (by omega)
  have s3 : c_M X 3 i 3 = X (3 + 1 + 1 + 2 * i) 3 := c_M_s hi (by omega)
  have s2 : c_M X 3 i 2 = X (3 + 1 + 1 + 2 * i) 2 := c_M_s hi (by omega)
  have s6 : c_M X 3 i 6 = X (3 + 1 + 1 + 2 * i) 6 := c_M_s hi (by omega)
  have es := c_sum (X := X) (mo := 3) hi
  have hsr := m_sum_r hW hi.1 hi.2
  obtain ⟨⟨hW1, hWr, -⟩, hW2, hW3⟩ := id hW
  have w2 := hW2 i hi.1 hi.2
  have w3 := hW3 i hi.1 hi.2
  have hj := hJ i hi.1 hi.2
  refine x_aload_n B dX4_now_0 rfl ?_
  refine x_getZ B (k := 7) 7 rfl rfl xc_3 (by decide) ks (Or.inr q221) (fun _ h => h) dX4_now_1 (fun r_1 => ?_)
  refine x_if_eq B (tgt := 18) dX4_now_4 (by decide) ⟨by omega, by omega⟩ (fun h_4 => ?_) (fun h_4 => ?_)
  · refine x_aload_n B dX4_now_18 rfl ?_
    refine x_getC0 B (k := 2) hT rfl rfl xc_5 (by decide) hk (Or.inl q280) (fun _ h => h) dX4_now_19 (fun k_19 => ?_)
    refine x_getC0 B (k := 2) hT rfl rfl xc_0 (by decide) k_19 (Or.inr q402) (fun _ h => h) dX4_now_22 (fun k_22 => ?_)
    refine x_goP (x_rV B k_22 (show x_cl[2]? = some _ from rfl) (c_X2_isOver hT (by assumption)) (lw_V q1006 q368 q369 q114 q370) hv_X2_isOver ⟨by decide, by decide⟩ ⟨by decide, by decide⟩ rfl rfl (by simp [x_cr, x_c1, x_c2]) dX4_now_25) ?_
    refine x_if_eq B (tgt := 45) dX4_now_28 (by decide) ⟨by split <;> omega, by split <;> omega⟩ (fun h_28 => ?_) (fun h_28 => ?_)
    · have hne : X 3 1 ≠ 3 := by intro q; rw [if_pos q] at h_28; omega
      have h70 : c_M X 3 i 7 = 0 := by omega
      have hre := m_rest hW hi.1 hi.2 h70 (by omega)
      have sb : c_M X 3 i (10 + X 3 1) = X (3 + 1 + 1 + 2 * i + 1) (X 3 1) := by rw [c_M_b hi (by omega)]; congr 1; omega
      rw [g1, sb, ← es] at hre
      refine x_aload_n B dX4_now_45 rfl ?_
      refine x_getC0 B (k := 2) hT rfl rfl xc_5 (by decide) hk (Or.inl q280) (fun _ h => h) dX4_now_46 (fun k_46 => ?_)
      refine x_getC0 B (k := 2) hT rfl rfl xc_0 (by decide) k_46 (Or.inr q402) (fun _ h => h) dX4_now_49 (fun k_49 => ?_)
      refine x_getI B (k := 1) 1 rfl rfl xc_2 (by decide) k_49 (Or.inr q247) (fun _ h => h) dX4_now_52 (fun r_52 => ?_)
      refine x_ist_3 B dX4_now_55 (by first | rfl | exact x_cr _ _) ?_
      refine x_aload_n B dX4_now_56 rfl ?_
      refine x_goP (x_rV B ks (show x_cl[3]? = some _ from rfl) (c_X3_sum hT (by assumption)) (lw_V q1007 q790 q791 q115 q792) hv_X3_sum ⟨by decide, by decide⟩ ⟨by decide, by decide⟩ rfl rfl (by simp [x_cr, x_c1, x_c2]) dX4_now_57) ?_
      refine x_aload_n B dX4_now_60 rfl ?_
      refine x_getC1 B (k := 0) hT rfl rfl xc_3 (by decide) ks (Or.inr q195) (fun _ h => h) dX4_now_61 (fun k_61 => ?_)
      refine x_iload_n B dX4_now_64 rfl ?_
      refine x_iald B k_61 ⟨by omega, by omega⟩ dX4_now_65 (fun r_65 => ?_)
      refine x_isub B dX4_now_66 ?_
      refine x_istw_4 B dX4_now_67 (by first | rfl | exact x_cr _ _) ?_
      refine x_aload_n B dX4_now_69 rfl ?_
      refine x_getI B (k := 3) 3 rfl rfl xc_3 (by decide) ks (Or.inr q209) (fun _ h => h) dX4_now_70 (fun r_70 => ?_)
      refine x_if_ne B (tgt := 92) dX4_now_73 (by decide) ⟨by omega, by omega⟩ (fun h_73 => ?_) (fun h_73 => ?_)
      · refine x_aload_n B dX4_now_92 rfl ?_
        refine x_iload_n B dX4_now_93 rfl ?_
        refine x_iload B dX4_now_94 rfl ?_
        refine x_aload_n B dX4_now_96 rfl ?_
        refine x_getI B (k := 1) 1 rfl rfl xc_3 (by decide) ks (Or.inr q199) (fun _ h => h) dX4_now_97 (fun r_97 => ?_)
        refine x_aload_n B dX4_now_100 rfl ?_
        refine x_getI B (k := 2) 2 rfl rfl xc_3 (by decide) ks (Or.inr q204) (fun _ h => h) dX4_now_101 (fun r_101 => ?_)
        refine x_aload_n B dX4_now_104 rfl ?_
        refine x_getC1 B (k := 0) hT rfl rfl xc_3 (by decide) ks (Or.inr q195) (fun _ h => h) dX4_now_105 (fun k_105 => ?_)
        refine x_iload_n B dX4_now_108 rfl ?_
        refine x_iald B k_105 ⟨by omega, by omega⟩ dX4_now_109 (fun r_109 => ?_)
        refine x_iload_n B dX4_now_110 rfl ?_
        refine x_go (x_rA B (n := 6) (x_rcK B hk (show x_cl[5]? = some _ from rfl)) ((f_all 12 X _ _ _ _ _ _ h hI ⟨by omega, by omega⟩ ⟨by omega, by omega⟩ ⟨by omega, by omega⟩ ⟨by omega, by omega⟩ ⟨by omega, by omega⟩ ⟨by omega, by omega⟩ (by omega)) ) (lw_U q1042 q1044 q1045 q1021 q118 q1023) q1043 (by decide +kernel) ⟨by decide, by decide⟩ ⟨by decide, by decide⟩ rfl rfl (by simp [x_cr, x_c1, x_c2]) dX4_now_111) (fun v_111 X_111 p_111 => ?_)
        obtain ⟨rfl, hg, hJ2, -⟩ := p_111
        refine x_lret B (fun _ _ h => h) ?_ dX4_now_114
        exact ⟨congrArg (fun z => some (vl z)) (by unfold f_now; rw [if_neg (by omega), if_neg (by omega)]; first | rw [if_pos (by omega), g1, sb, es] | rw [if_neg (by omega), g1, g2, s6, s2, sb, es, ← hj (by omega)]), hg, hJ2⟩
      · refine x_aload_n B dX4_now_76 rfl ?_
        refine x_iload_n B dX4_now_77 rfl ?_
        refine x_aload_n B dX4_now_78 rfl ?_
        refine x_getC1 B (k := 0) hT rfl rfl xc_3 (by decide) ks (Or.inr q195) (fun _ h => h) dX4_now_79 (fun k_79 => ?_)
        refine x_iload_n B dX4_now_82 rfl ?_
        refine x_iald B k_79 ⟨by omega, by omega⟩ dX4_now_83 (fun r_83 => ?_)
        refine x_iload B dX4_now_84 rfl ?_
        refine x_go (x_rU B (n := 3) (x_rcK B hk (show x_cl[5]? = some _ from rfl)) ((f_end h hI ⟨by omega, by omega⟩ ⟨by omega, by omega⟩ ⟨by omega, by omega⟩) ) (lw_U q1008 q1010 q1011 q1009 q116 q1013) rfl (by decide +kernel) ⟨by decide, by decide⟩ ⟨by decide, by decide⟩ rfl rfl (by simp [x_cr, x_c1, x_c2]) dX4_now_86) (fun v_86 X_86 p_86 => ?_)
        obtain ⟨rfl, hg, hJ2⟩ := p_86
        refine x_goto B (tgt := 114) dX4_now_89 (by decide) ?_
        refine x_lret B (fun _ _ h => h) ?_ dX4_now_114
        exact ⟨congrArg (fun z => some (vl z)) (by unfold f_now; rw [if_neg (by omega), if_neg (by omega)]; first | rw [if_pos (by omega), g1, sb, es] | rw [if_neg (by omega), g1, g2, s6, s2, sb, es, ← hj (by omega)]), hg, hJ2⟩
    · refine x_aload_n B dX4_now_31 rfl ?_
      refine x_getR B (k := 1) 1 rfl rfl xc_5 (by decide) hk (Or.inl q279) (fun _ h => h) dX4_now_32 (?_)
      refine x_aload_n B dX4_now_35 rfl ?_
      refine x_goP (x_rV B ks (show x_cl[3]? = some _ from rfl) (c_X3_sum hT (by assumption)) (lw_V q1007 q790 q791 q115 q792) hv_X3_sum ⟨by decide, by decide⟩ ⟨by decide, by decide⟩ rfl rfl (by simp [x_cr, x_c1, x_c2]) dX4_now_36) ?_
      refine x_aim B q974 hA (by omega) (by omega) ⟨by decide, by decide⟩ ⟨by decide, by decide⟩ (by simp [x_cr, x_c1, x_c2]) dX4_now_39 ?_
      refine x_lret B (fun _ _ h => h) ?_ dX4_now_44
      exact ⟨congrArg (fun z => some (vl z)) (by unfold f_now; rw [if_neg (by omega), if_pos (by rw [g1]; by_cases q : X 3 1 = 3; exact q; rw [if_neg q] at h_28; omega), es]), g_fr.rf X, hI⟩
  · refine x_aload_n B dX4_now_7 rfl ?_
    refine x_getR B (k := 1) 1 rfl rfl xc_5 (by decide) hk (Or.inl q279) (fun _ h => h) dX4_now_8 (?_)
    refine x_iconst B dX4_now_11 ?_
    refine x_aim B q974 hA (by omega) (by omega) ⟨by decide, by decide⟩ ⟨by decide, by decide⟩ (by simp [x_cr, x_c1, x_c2]) dX4_now_12 ?_
    refine x_lret B (fun _ _ h => h) ?_ dX4_now_17
    exact ⟨congrArg (fun z => some (vl z)) (by unfold f_now; rw [if_pos (by omega)]), g_fr.rf X, hI⟩
theorem c_X6_loadAt {l : Launch} {E : x_E} {κ : x_Ka} {X : x_X} {O : Int → Int → Int → Int} {A : Int → Int} {q : Nat} {t sum tr fl best least rv : Int} (h : f_H κ X O A) (hI : f_I X (f_w O A 12) (f_d O A)) (ht : 0 ≤ t ∧ t ≤ 2) (hs : 0 ≤ sum ∧ sum ≤ 40 * t) (hb : 0 ≤ best ∧ best ≤ 40) (h3 : 0 ≤ tr ∧ tr ≤ 3) (hf : ¬ (tr = 3 ∨ least > 40) → (0 ≤ fl ∧ fl ≤ tr) ∧ 1 ≤ least) (hl : 0 ≤ least ∧ least ≤ 41) (hq : 52 ≤ q) (hc : (tr = 3 ∨ least > 40) → best ≠ 0 → t ≠ 2 → x_Met l yX6_loadAt cX6_loadAt 9 (some .int) q 0 0 E κ X [x_rf E 38, vi (t + 1), vi (sum + best), vi 0, vi 0, vi 0, vi 1] κ (fun v_ Y_ => v_ = some (vi (rv)) ∧ g_fr X Y_ ∧ f_I Y_ (f_w O A 12) (f_d O A))) : x_Met l yX6_loadAt cX6_loadAt 9 (some .int) (q + 1) 0 0 E κ X [x_rf E 38, vi t, vi sum, vi tr, vi fl, vi best, vi least] κ (fun v_ Y_ => v_ = some (vi (if (tr = 3 ∨ least > 40) then (if best = 0 ∨ t = 2 then 0 else rv) else f_d O A t sum tr fl best least)) ∧ g_fr X Y_ ∧ f_I Y_ (f_w O A 12) (f_d O A)) := by
  refine x_Met.of [(false, x_rf E 38), (false, vi t), (false, vi sum), (false, vi tr), (false, vi fl), (false, vi best), (false, vi least)] [some (x_rf E 38), some (vi t), some (vi sum), some (vi tr), some (vi fl), some (vi best), some (vi least), none, none] 2 (by decide) rfl rfl ⟨x_cr E (38), rfl, rfl, rfl, rfl, rfl, rfl, trivial⟩ rfl rfl ?_
  intro p e s m args below meth c hargs hin B
  obtain ⟨⟨hT, h0, hL, hw, hti, hpl, hA⟩, h88, hO⟩ := id h
  have hk := h.1.k38
  refine x_iload_n B dX6_loadAt_0 rfl ?_
  refine x_iconst B dX6_loadAt_1 ?_
  refine x_icmp_eq B (tgt := 12) dX6_loadAt_2 (by decide) ⟨by omega, by omega⟩ ⟨by omega, by omega⟩ (fun h_2 => ?_) (fun h_2 => ?_)
  · refine x_iload B dX6_loadAt_12 rfl ?_
    refine x_if_eq B (tgt := 22) dX6_loadAt_14 (by decide) ⟨by omega, by omega⟩ (fun h_14 => ?_) (fun h_14 => ?_)
    · refine x_iconst B dX6_loadAt_22 ?_
      refine x_goto B (tgt := 41) dX6_loadAt_23 (by decide) ?_
      refine x_iret B (fun _ _ h => h) ?_ dX6_loadAt_41
      first
      | exact ⟨by rw [if_pos (by omega), if_pos (by omega)], g_fr.rf X, hI⟩
      | exact ⟨by rw [if_pos (by omega), if_neg (by omega)], hg, hJ⟩
    · refine x_iload_n B dX6_loadAt_17 rfl ?_
      refine x_iconst B dX6_loadAt_18 ?_
      refine x_icmp_ne B (tgt := 26) dX6_loadAt_19 (by decide) ⟨by omega, by omega⟩ ⟨by omega, by omega⟩ (fun h_19 => ?_) (fun h_19 => ?_)
      · refine x_aload_n B dX6_loadAt_26 rfl ?_
        refine x_iload_n B dX6_loadAt_27 rfl ?_
        refine x_iconst B dX6_loadAt_28 ?_
        refine x_iadd B dX6_loadAt_29 ?_
        refine x_iload_n B dX6_loadAt_30 rfl ?_
        refine x_iload B dX6_loadAt_31 rfl ?_
        refine x_iadd B dX6_loadAt_33 ?_
        refine x_iconst B dX6_loadAt_34 ?_
        refine x_iconst B dX6_loadAt_35 ?_
        refine x_iconst B dX6_loadAt_36 ?_
        refine x_iconst B dX6_loadAt_37 ?_
        refine x_go (x_rV B hk (show x_cl[5]? = some _ from rfl) ((hc (by omega) (by omega) (by omega)) ) (lw_V q1181 q1182 q1183 q118 q1184) hv_X6_loadAt ⟨(by show _ ≤ (q + 1) + 1; omega), (by show _ ≤ 64 * ((q + 1) + 1); omega)⟩ ⟨Nat.le_refl _, Nat.le_refl _⟩ rfl rfl (by simp [x_cr, x_c1, x_c2]) dX6_loadAt_38) (fun v_38 X_38 p_38 => ?_)
        obtain ⟨rfl, hg, hJ⟩ := p_38
        refine x_iret B (fun _ _ h => h) ?_ dX6_loadAt_41
        first
        | exact ⟨by rw [if_pos (by omega), if_pos (by omega)], g_fr.rf X, hI⟩
        | exact ⟨by rw [if_pos (by omega), if_neg (by omega)], hg, hJ⟩
      · refine x_iconst B dX6_loadAt_22 ?_
        refine x_goto B (tgt := 41) dX6_loadAt_23 (by decide) ?_
        refine x_iret B (fun _ _ h => h) ?_ dX6_loadAt_41
        first
        | exact ⟨by rw [if_pos (by omega), if_pos (by omega)], g_fr.rf X, hI⟩
        | exact ⟨by rw [if_pos (by omega), if_neg (by omega)], hg, hJ⟩
  · refine x_iload B dX6_loadAt_5 rfl ?_
    refine x_bipush B dX6_loadAt_7 (by decide) ?_
    refine x_icmp_le B (tgt := 42) dX6_loadAt_9 (by decide) ⟨by omega, by omega⟩ ⟨by omega, by omega⟩ (fun h_9 => ?_) (fun h_9 => ?_)
    · have hf := hf (by omega)
      have hwr := f_w_r h.o.1 h.o.2 12 t sum tr fl best least ht hs hb hf.1.1 (by omega)
      refine x_aload_n B dX6_loadAt_42 rfl ?_
      refine x_iload_n B dX6_loadAt_43 rfl ?_
      refine x_iload_n B dX6_loadAt_44 rfl ?_
      refine x_iload_n B dX6_loadAt_45 rfl ?_
      refine x_iload B dX6_loadAt_46 rfl ?_
      refine x_iload B dX6_loadAt_48 rfl ?_
      refine x_iload B dX6_loadAt_50 rfl ?_
      refine x_go (x_rV B hk (show x_cl[5]? = some _ from rfl) ((f_all 12 X _ _ _ _ _ _ h hI ht hs hb (by omega) ⟨by omega, by omega⟩ ⟨by omega, by omega⟩ (by omega)) ) (lw_V q1020 q1021 q1022 q118 q1023) hv_X6_worth ⟨(by show _ ≤ (q + 1) + 1; omega), (by show _ ≤ 64 * ((q + 1) + 1); omega)⟩ ⟨Nat.le_refl _, Nat.le_refl _⟩ rfl rfl (by simp [x_cr, x_c1, x_c2]) dX6_loadAt_52) (fun v_52 X_52 p_52 => ?_)
      obtain ⟨rfl, hg, hJ, hst⟩ := p_52
      have e38 := hg.e38
      refine x_lstw_7 B dX6_loadAt_55 (by first | rfl | exact x_cr _ _) ?_
      refine x_lload B dX6_loadAt_57 rfl ?_
      refine x_lconst B 0 dX6_loadAt_59 (by decide) ?_
      refine x_lcmp B dX6_loadAt_60 ⟨by omega, by omega⟩ ⟨by omega, by omega⟩ ?_
      have hcp := x_cmp_r (f_w O A 12 t sum tr fl best least) 0
      refine x_if_ge B (tgt := 68) dX6_loadAt_61 (by decide) ⟨by omega, by omega⟩ (fun h_61 => ?_) (fun h_61 => (by exfalso; have := x_cmp_lt h_61; omega))
      refine x_aload_n B dX6_loadAt_68 rfl ?_
      refine x_getC1 B (k := 6) hT rfl rfl xc_5 (by decide) hk (Or.inl q306) (fun _ h => h) dX6_loadAt_69 (fun k_69 => ?_)
      refine x_iload_n B dX6_loadAt_72 rfl ?_
      refine x_aaldC B (t := 13) hT k_69 rfl rfl rfl rfl ⟨by omega, by omega⟩ dX6_loadAt_73 (fun k_73 => ?_)
      refine x_aload_n B dX6_loadAt_74 rfl ?_
      refine x_iload_n B dX6_loadAt_75 rfl ?_
      refine x_iload B dX6_loadAt_76 rfl ?_
      refine x_iload B dX6_loadAt_78 rfl ?_
      refine x_iload B dX6_loadAt_80 rfl ?_
      refine x_goP (x_rV B hk (show x_cl[5]? = some _ from rfl) (c_X6_cell ) (lw_V q1028 q1030 qs21 q118 q1031) hv_X6_cell ⟨(by show _ ≤ (q + 1) + 1; omega), (by show _ ≤ 64 * ((q + 1) + 1); omega)⟩ ⟨Nat.le_refl _, Nat.le_refl _⟩ rfl rfl (by simp [x_cr, x_c1, x_c2]) dX6_loadAt_82) ?_
      have hclr := f_cl_r (tr := tr) (fl := fl) (best := best) (least := least) (by omega) (by omega) (by omega) (by omega)
      refine x_iald B k_73 ⟨by omega, by omega⟩ dX6_loadAt_85 (fun r_85 => ?_)
      have hm := hJ.2.1 t sum tr fl best least ht hs (by omega) (by omega) hb (by omega) (by rw [e38]; exact hst (by omega))
      rw [hm.2]
      refine x_iret B (fun _ _ h => h) ?_ dX6_loadAt_86
      exact ⟨by rw [if_neg (by omega)], hg, hJ⟩
    · refine x_iload B dX6_loadAt_12 rfl ?_
      refine x_if_eq B (tgt := 22) dX6_loadAt_14 (by decide) ⟨by omega, by omega⟩ (fun h_14 => ?_) (fun h_14 => ?_)
      · refine x_iconst B dX6_loadAt_22 ?_
        refine x_goto B (tgt := 41) dX6_loadAt_23 (by decide) ?_
        refine x_iret B (fun _ _ h => h) ?_ dX6_loadAt_41
        first
        | exact ⟨by rw [if_pos (by omega), if_pos (by omega)], g_fr.rf X, hI⟩
        | exact ⟨by rw [if_pos (by omega), if_neg (by omega)], hg, hJ⟩
      · refine x_iload_n B dX6_loadAt_17 rfl ?_
        refine x_iconst B dX6_loadAt_18 ?_
        refine x_icmp_ne B (tgt := 26) dX6_loadAt_19 (by decide) ⟨by omega, by omega⟩ ⟨by omega, by omega⟩ (fun h_19 => ?_) (fun h_19 => ?_)
        · refine x_aload_n B dX6_loadAt_26 rfl ?_
          refine x_iload_n B dX6_loadAt_27 rfl ?_
          refine x_iconst B dX6_loadAt_28 ?_
          refine x_iadd B dX6_loadAt_29 ?_
          refine x_iload_n B dX6_loadAt_30 rfl ?_
          refine x_iload B dX6_loadAt_31 rfl ?_
          refine x_iadd B dX6_loadAt_33 ?_
          refine x_iconst B dX6_loadAt_34 ?_
          refine x_iconst B dX6_loadAt_35 ?_
          refine x_iconst B dX6_loadAt_36 ?_
          refine x_iconst B dX6_loadAt_37 ?_
          refine x_go (x_rV B hk (show x_cl[5]? = some _ from rfl) ((hc (by omega) (by omega) (by omega)) ) (lw_V q1181 q1182 q1183 q118 q1184) hv_X6_loadAt ⟨(by show _ ≤ (q + 1) + 1; omega), (by show _ ≤ 64 * ((q + 1) + 1); omega)⟩ ⟨Nat.le_refl _, Nat.le_refl _⟩ rfl rfl (by simp [x_cr, x_c1, x_c2]) dX6_loadAt_38) (fun v_38 X_38 p_38 => ?_)
          obtain ⟨rfl, hg, hJ⟩ := p_38
          refine x_iret B (fun _ _ h => h) ?_ dX6_loadAt_41
          first
          | exact ⟨by rw [if_pos (by omega), if_pos (by omega)], g_fr.rf X, hI⟩
          | exact ⟨by rw [if_pos (by omega), if_neg (by omega)], hg, hJ⟩
        · refine x_iconst B dX6_loadAt_22 ?_
          refine x_goto B (tgt := 41) dX6_loadAt_23 (by decide) ?_
          refine x_iret B (fun _ _ h => h) ?_ dX6_loadAt_41
          first
          | exact ⟨by rw [if_pos (by omega), if_pos (by omega)], g_fr.rf X, hI⟩
          | exact ⟨by rw [if_pos (by omega), if_neg (by omega)], hg, hJ⟩
theorem f_latC {l : Launch} {E : x_E} {κ : x_Ka} {X : x_X} {O : Int → Int → Int → Int} {A : Int → Int} (h : f_H κ X O A) (hI : f_I X (f_w O A 12) (f_d O A)) {t sum tr fl best least : Int} (ht : 0 ≤ t ∧ t ≤ 2) (hs : 0 ≤ sum ∧ sum ≤ 40 * t) (hb : 0 ≤ best ∧ best ≤ 40) (h3 : 0 ≤ tr ∧ tr ≤ 3) (hf : ¬ (tr = 3 ∨ least > 40) → (0 ≤ fl ∧ fl ≤ tr) ∧ 1 ≤ least) (hl : 0 ≤ least ∧ least ≤ 41) : x_Met l yX6_loadAt cX6_loadAt 9 (some .int) 54 0 0 E κ X [x_rf E 38, vi t, vi sum, vi tr, vi fl, vi best, vi least] κ (fun v_ Y_ => v_ = some (vi (f_lat O A t sum tr fl best least)) ∧ g_fr X Y_ ∧ f_I Y_ (f_w O A 12) (f_d O A)) := by
  refine c_X6_loadAt (q := 53) h hI ht hs hb h3 hf hl (by omega) (fun q1 q2 q3 => ?_)
  have c := c_X6_loadAt (l := l) (E := E) (q := 52) (t := t + 1) (sum := sum + best) (tr := 0) (fl := 0) (best := 0) (least := 1) (rv := 0) h hI (by omega) (by omega) (by omega) (by omega) (fun _ => by omega) (by omega) (by omega) (fun q _ _ => absurd q (by omega))
  rw [if_neg (by omega)] at c
  exact c
theorem c_X6_loadNow {l : Launch} {E : x_E} {κ : x_Ka} {X : x_X} {O : Int → Int → Int → Int} {A : Int → Int} {i : Int} (h : f_H κ X O A) (hI : f_I X (f_w O A 12) (f_d O A)) (hn : X 1 2 ≤ 6) (hi : 0 ≤ i ∧ i < X 1 2) (hW : m_W (X 1 2) (c_M X 3)) (hJ : c_J X 3) : x_Met l yX6_loadNow cX6_loadNow 4 (some .int) 56 0 0 E κ X [x_rf E 38, x_rf E (3 + 1 + 1 + 2 * i)] κ (fun v_ Y_ => v_ = some (vi (f_lnow O A (c_M X 3) i)) ∧ g_fr X Y_ ∧ f_I Y_ (f_w O A 12) (f_d O A)) := by
  refine x_Met.of [(false, x_rf E 38), (false, x_rf E (3 + 1 + 1 + 2 * i))] [some (x_rf E 38), some (x_rf E (3 + 1 + 1 + 2 * i)), none, none] 2 (by decide) rfl rfl ⟨x_cr E (38), x_cr E (3 + 1 + 1 + 2 * i), trivial⟩ rfl rfl ?_
  intro p e s m args below meth c hargs hin B
  obtain ⟨hT, h0, hL, hw, hti, hpl, hA⟩ := id h.1
  have hk := h.1.k38
  have hm : κ 3 = some (.inl (2, 1)) := hT.1 0 0 h0 2 (0, 3, .inl (2, 1)) rfl
  have ks := x_std (l := i) hT hm (by omega) (by omega)
  have g1 : c_M X 3 (-1) 1 = X 3 1 := c_M_g (by omega)
  have g2 : c_M X 3 (-1) 2 = X 3 2 := c_M_g (by omega)
  have s7 : c_M X 3 i 7 = X (3 + 1 + 1 + 2 * i) 7 := c_M_s hi (by omega)
  have s3 : c_M X 3 i 3 = X (3 + 1 + 1 + 2 * i) 3 := c_M_s hi (by omega)
  have s2 : c_M X 3 i 2 = X (3 + 1 + 1 + 2 * i) 2 := c_M_s hi (by omega)
  have s6 : c_M X 3 i 6 = X (3 + 1 + 1 + 2 * i) 6 := c_M_s hi (by omega)
  have es := c_sum (X := X) (mo := 3) hi
  have hsr := m_sum_r hW hi.1 hi.2
  obtain ⟨⟨hW1, hWr, -⟩, hW2, hW3⟩ := id hW
  have w2 := hW2 i hi.1 hi.2
  have w3 := hW3 i hi.1 hi.2
  have hj := hJ i hi.1 hi.2
  have s4 : c_M X 3 i 4 = X (3 + 1 + 1 + 2 * i) 4 := c_M_s hi (by omega)
  have g3 : c_M X 3 (-1) 3 = X 3 3 := c_M_g (by omega)
  have sl : s_least X (3 + 1 + 1 + 2 * i) (X 3 3) = m_least (c_M X 3) i := by unfold s_least m_least; rw [s3, s6, s4, g3]
  have hlr := m_least_r hW hi.1 hi.2
  refine x_aload_n B dX6_loadNow_0 rfl ?_
  refine x_getZ B (k := 7) 7 rfl rfl xc_3 (by decide) ks (Or.inr q222) (fun _ h => h) dX6_loadNow_1 (fun r_1 => ?_)
  refine x_if_ne B (tgt := 20) dX6_loadNow_4 (by decide) ⟨by omega, by omega⟩ (fun h_4 => ?_) (fun h_4 => ?_)
  · refine x_iconst B dX6_loadNow_20 ?_
    refine x_iret B (fun _ _ h => h) ?_ dX6_loadNow_21
    first
    | exact ⟨congrArg (fun z => some (vi z)) (by unfold f_lnow; rw [if_pos (Or.inl (by omega))]), g_fr.rf X, hI⟩
    | exact ⟨congrArg (fun z => some (vi z)) (by unfold f_lnow; rw [if_pos (Or.inr (by rw [g1]; by_cases q : X 3 1 = 3; exact q; rw [if_neg q] at h_17; omega))]), g_fr.rf X, hI⟩
  · refine x_aload_n B dX6_loadNow_7 rfl ?_
    refine x_getC0 B (k := 9) hT rfl rfl xc_5 (by decide) hk (Or.inl q309) (fun _ h => h) dX6_loadNow_8 (fun k_8 => ?_)
    refine x_getC0 B (k := 2) hT rfl rfl xc_0 (by decide) k_8 (Or.inr q401) (fun _ h => h) dX6_loadNow_11 (fun k_11 => ?_)
    refine x_goP (x_rV B k_11 (show x_cl[2]? = some _ from rfl) (c_X2_isOver hT (by assumption)) (lw_V q1178 q368 q369 q114 q370) hv_X2_isOver ⟨by decide, by decide⟩ ⟨by decide, by decide⟩ rfl rfl (by simp [x_cr, x_c1, x_c2]) dX6_loadNow_14) ?_
    refine x_if_eq B (tgt := 22) dX6_loadNow_17 (by decide) ⟨by split <;> omega, by split <;> omega⟩ (fun h_17 => ?_) (fun h_17 => ?_)
    · have hne : X 3 1 ≠ 3 := by intro q; rw [if_pos q] at h_17; omega
      have h70 : c_M X 3 i 7 = 0 := by omega
      have hre := m_rest hW hi.1 hi.2 h70 (by omega)
      have sb : c_M X 3 i (10 + X 3 1) = X (3 + 1 + 1 + 2 * i + 1) (X 3 1) := by rw [c_M_b hi (by omega)]; congr 1; omega
      rw [g1, sb, ← es] at hre
      refine x_aload_n B dX6_loadNow_22 rfl ?_
      refine x_getC0 B (k := 9) hT rfl rfl xc_5 (by decide) hk (Or.inl q309) (fun _ h => h) dX6_loadNow_23 (fun k_23 => ?_)
      refine x_getC0 B (k := 2) hT rfl rfl xc_0 (by decide) k_23 (Or.inr q401) (fun _ h => h) dX6_loadNow_26 (fun k_26 => ?_)
      refine x_getI B (k := 1) 1 rfl rfl xc_2 (by decide) k_26 (Or.inr q246) (fun _ h => h) dX6_loadNow_29 (fun r_29 => ?_)
      refine x_ist_2 B dX6_loadNow_32 (by first | rfl | exact x_cr _ _) ?_
      refine x_aload_n B dX6_loadNow_33 rfl ?_
      refine x_goP (x_rV B ks (show x_cl[3]? = some _ from rfl) (c_X3_sum hT (by assumption)) (lw_V q1179 q790 q791 q115 q792) hv_X3_sum ⟨by decide, by decide⟩ ⟨by decide, by decide⟩ rfl rfl (by simp [x_cr, x_c1, x_c2]) dX6_loadNow_34) ?_
      refine x_aload_n B dX6_loadNow_37 rfl ?_
      refine x_getC1 B (k := 0) hT rfl rfl xc_3 (by decide) ks (Or.inr q194) (fun _ h => h) dX6_loadNow_38 (fun k_38 => ?_)
      refine x_iload_n B dX6_loadNow_41 rfl ?_
      refine x_iald B k_38 ⟨by omega, by omega⟩ dX6_loadNow_42 (fun r_42 => ?_)
      refine x_isub B dX6_loadNow_43 ?_
      refine x_ist_3 B dX6_loadNow_44 (by first | rfl | exact x_cr _ _) ?_
      refine x_aload_n B dX6_loadNow_45 rfl ?_
      refine x_iload_n B dX6_loadNow_46 rfl ?_
      refine x_iload_n B dX6_loadNow_47 rfl ?_
      refine x_aload_n B dX6_loadNow_48 rfl ?_
      refine x_getI B (k := 3) 3 rfl rfl xc_3 (by decide) ks (Or.inr q208) (fun _ h => h) dX6_loadNow_49 (fun r_49 => ?_)
      refine x_if_ne B (tgt := 59) dX6_loadNow_52 (by decide) ⟨by omega, by omega⟩ (fun h_52 => ?_) (fun h_52 => ?_)
      · refine x_aload_n B dX6_loadNow_59 rfl ?_
        refine x_getI B (k := 1) 1 rfl rfl xc_3 (by decide) ks (Or.inr q198) (fun _ h => h) dX6_loadNow_60 (fun r_60 => ?_)
        refine x_aload_n B dX6_loadNow_63 rfl ?_
        refine x_getI B (k := 2) 2 rfl rfl xc_3 (by decide) ks (Or.inr q203) (fun _ h => h) dX6_loadNow_64 (fun r_64 => ?_)
        refine x_aload_n B dX6_loadNow_67 rfl ?_
        refine x_getC1 B (k := 0) hT rfl rfl xc_3 (by decide) ks (Or.inr q194) (fun _ h => h) dX6_loadNow_68 (fun k_68 => ?_)
        refine x_iload_n B dX6_loadNow_71 rfl ?_
        refine x_iald B k_68 ⟨by omega, by omega⟩ dX6_loadNow_72 (fun r_72 => ?_)
        refine x_aload_n B dX6_loadNow_73 rfl ?_
        refine x_aload_n B dX6_loadNow_74 rfl ?_
        refine x_getC0 B (k := 9) hT rfl rfl xc_5 (by decide) hk (Or.inl q309) (fun _ h => h) dX6_loadNow_75 (fun k_75 => ?_)
        refine x_getC0 B (k := 2) hT rfl rfl xc_0 (by decide) k_75 (Or.inr q401) (fun _ h => h) dX6_loadNow_78 (fun k_78 => ?_)
        refine x_getI B (k := 3) 3 rfl rfl xc_2 (by decide) k_78 (Or.inr q252) (fun _ h => h) dX6_loadNow_81 (fun r_81 => ?_)
        refine x_goP (x_rV B ks (show x_cl[3]? = some _ from rfl) (c_X3_least hT (by assumption) ⟨by omega, by omega⟩) (lw_V q1180 q778 q779 q115 q780) hv_X3_least ⟨by decide, by decide⟩ ⟨by decide, by decide⟩ rfl rfl (by simp [x_cr, x_c1, x_c2]) dX6_loadNow_84) ?_
        rw [sl]
        refine x_go (x_rV B hk (show x_cl[5]? = some _ from rfl) ((f_latC h hI ⟨by omega, by omega⟩ ⟨by omega, by omega⟩ ⟨by omega, by omega⟩ ⟨by omega, by omega⟩ (fun q => ⟨⟨by omega, by omega⟩, by omega⟩) ⟨by omega, by omega⟩) ) (lw_V q1181 q1182 q1183 q118 q1184) hv_X6_loadAt ⟨by decide, by decide⟩ ⟨by decide, by decide⟩ rfl rfl (by simp [x_cr, x_c1, x_c2]) dX6_loadNow_87) (fun v_87 X_87 p_87 => ?_)
        obtain ⟨rfl, hg, hJ2⟩ := p_87
        refine x_iret B (fun _ _ h => h) ?_ dX6_loadNow_90
        refine ⟨congrArg (fun z => some (vi z)) ?_, hg, hJ2⟩
        unfold f_lnow
        rw [if_neg (by omega), g1, g2, s2, s6, sb, es]
        first | rw [if_pos (by omega)] | rw [if_neg (by omega), ← hj (by omega)]
      · refine x_iconst B dX6_loadNow_55 ?_
        refine x_goto B (tgt := 63) dX6_loadNow_56 (by decide) ?_
        refine x_aload_n B dX6_loadNow_63 rfl ?_
        refine x_getI B (k := 2) 2 rfl rfl xc_3 (by decide) ks (Or.inr q203) (fun _ h => h) dX6_loadNow_64 (fun r_64 => ?_)
        refine x_aload_n B dX6_loadNow_67 rfl ?_
        refine x_getC1 B (k := 0) hT rfl rfl xc_3 (by decide) ks (Or.inr q194) (fun _ h => h) dX6_loadNow_68 (fun k_68 => ?_)
        refine x_iload_n B dX6_loadNow_71 rfl ?_
        refine x_iald B k_68 ⟨by omega, by omega⟩ dX6_loadNow_72 (fun r_72 => ?_)
        refine x_aload_n B dX6_loadNow_73 rfl ?_
        refine x_aload_n B dX6_loadNow_74 rfl ?_
        refine x_getC0 B (k := 9) hT rfl rfl xc_5 (by decide) hk (Or.inl q309) (fun _ h => h) dX6_loadNow_75 (fun k_75 => ?_)
        refine x_getC0 B (k := 2) hT rfl rfl xc_0 (by decide) k_75 (Or.inr q401) (fun _ h => h) dX6_loadNow_78 (fun k_78 => ?_)
        refine x_getI B (k := 3) 3 rfl rfl xc_2 (by decide) k_78 (Or.inr q252) (fun _ h => h) dX6_loadNow_81 (fun r_81 => ?_)
        refine x_goP (x_rV B ks (show x_cl[3]? = some _ from rfl) (c_X3_least hT (by assumption) ⟨by omega, by omega⟩) (lw_V q1180 q778 q779 q115 q780) hv_X3_least ⟨by decide, by decide⟩ ⟨by decide, by decide⟩ rfl rfl (by simp [x_cr, x_c1, x_c2]) dX6_loadNow_84) ?_
        rw [sl]
        refine x_go (x_rV B hk (show x_cl[5]? = some _ from rfl) ((f_latC h hI ⟨by omega, by omega⟩ ⟨by omega, by omega⟩ ⟨by omega, by omega⟩ ⟨by omega, by omega⟩ (fun q => ⟨⟨by omega, by omega⟩, by omega⟩) ⟨by omega, by omega⟩) ) (lw_V q1181 q1182 q1183 q118 q1184) hv_X6_loadAt ⟨by decide, by decide⟩ ⟨by decide, by decide⟩ rfl rfl (by simp [x_cr, x_c1, x_c2]) dX6_loadNow_87) (fun v_87 X_87 p_87 => ?_)
        obtain ⟨rfl, hg, hJ2⟩ := p_87
        refine x_iret B (fun _ _ h => h) ?_ dX6_loadNow_90
        refine ⟨congrArg (fun z => some (vi z)) ?_, hg, hJ2⟩
        unfold f_lnow
        rw [if_neg (by omega), g1, g2, s2, s6, sb, es]
        first | rw [if_pos (by omega)] | rw [if_neg (by omega), ← hj (by omega)]
    · refine x_iconst B dX6_loadNow_20 ?_
      refine x_iret B (fun _ _ h => h) ?_ dX6_loadNow_21
      first
      | exact ⟨congrArg (fun z => some (vi z)) (by unfold f_lnow; rw [if_pos (Or.inl (by omega))]), g_fr.rf X, hI⟩
      | exact ⟨congrArg (fun z => some (vi z)) (by unfold f_lnow; rw [if_pos (Or.inr (by rw [g1]; by_cases q : X 3 1 = 3; exact q; rw [if_neg q] at h_17; omega))]), g_fr.rf X, hI⟩
