theorem c_X8_laysBehind {l : Launch} {E : x_E} {κ : x_Ka} {X : x_X} {O : Int → Int → Int → Int} {A : Int → Int} {a t : Int} (h : e8 κ X O A a) (ht : 0 ≤ t ∧ t ≤ 2) : x_Met l yX8_laysBehind cX8_laysBehind 5 none 4 0 0 E κ X [x_rf E 64, vi a, vi t] κ (fun v_ Y => v_ = none ∧ z8 X Y ∧ (∀ u, t < u → u ≤ 3 → bh8 Y O A u)) := by
  refine x_Met.of [(false, x_rf E 64), (false, vi a), (false, vi t)] [some (x_rf E 64), some (vi a), some (vi t), none, none] 2 (by decide) rfl rfl ⟨x_cr E (64), rfl, rfl, trivial⟩ rfl rfl ?_
  intro p e s m args below meth c hargs hin B
  obtain ⟨hK, hO, ha, eO, eA, hA, hOr⟩ := id h
  obtain ⟨hT, h8, hn⟩ := id hK
  have lp_32 : ∀ (n : Nat) (k : Int) (Y : x_X), ((t ≤ k ∧ k ≤ 2) ∧ z8 X Y ∧ (∀ u, k < u → u ≤ 3 → bh8 Y O A u)) → (k.toNat < n) → x_G p l e (x_rm 4 0 0) s m args below meth c 5 E 0 0 (MQ below (x_Q E κ (fun v_ Y => v_ = none ∧ z8 X Y ∧ (∀ u, t < u → u ≤ 3 → bh8 Y O A u))) args s 0 0 (fun q => E.1 ≤ q)) κ 32 [some (x_rf E 64), some (vi a), some (vi t), some (vi k), none] [] Y := by
    intro n
    induction n with
    | zero => intro k Y hinv hme; exfalso; omega
    | succ n ih =>
      intro k Y hinv hme
      have ih32 := ih
      obtain ⟨hk, hz, hU⟩ := hinv
      have lp_40 : ∀ (n : Nat) (j : Int) (Y : x_X), (t < k ∧ (0 ≤ j ∧ j ≤ 40 * k + 1) ∧ z8 X Y ∧ (∀ u, k < u → u ≤ 3 → bh8 Y O A u) ∧ ∀ s, 0 ≤ s → s < j → Y 83 (121 * k + s) = b8_w O A k s) → ((122 - j).toNat < n) → x_G p l e (x_rm 4 0 0) s m args below meth c 5 E 0 0 (MQ below (x_Q E κ (fun v_ Y => v_ = none ∧ z8 X Y ∧ (∀ u, t < u → u ≤ 3 → bh8 Y O A u))) args s 0 0 (fun q => E.1 ≤ q)) κ 40 [some (x_rf E 64), some (vi a), some (vi t), some (vi k), some (vi j)] [] Y := by
        intro n
        induction n with
        | zero => intro j Y hin2 hme; exfalso; omega
        | succ n ih =>
          intro j Y hin2 hme
          obtain ⟨htk, hj, hz, hU, hp⟩ := hin2
          have hY := h.z hz
          have hwr := f_w_r hOr hA 12 k j 0 0 0 1 (by omega)
          have ew : f_w O A 12 k j 0 0 0 1 = (f_mx (f_v O A k j 0 0 0) 1).1 := by rw [f_wE (by omega) (by omega), if_neg (by omega)]
          refine x_iload B dX8_laysBehind_40 rfl ?_
          refine x_bipush B dX8_laysBehind_42 (by decide) ?_
          refine x_iload_n B dX8_laysBehind_44 rfl ?_
          refine x_imul B dX8_laysBehind_45 ?_
          refine x_icmp_gt B (tgt := 86) dX8_laysBehind_46 (by decide) ⟨by omega, by omega⟩ ⟨by omega, by omega⟩ (fun h_46 => ?_) (fun h_46 => ?_)
          · refine x_iinc_3 B dX8_laysBehind_86 (by first | rfl | exact x_cr _ _) ?_
            refine x_goto B (tgt := 32) dX8_laysBehind_89 (by decide) ?_
            refine x_fg_4 ?_
            refine ih32 _ _ ⟨⟨by omega, by omega⟩, hz, fun u u1 u2 => ?_⟩ (by omega)
            by_cases e : u = k
            · subst e; exact fun s s1 s2 => hp s s1 (by omega)
            · exact hU u (by omega) u2
          · refine x_aload_n B dX8_laysBehind_49 rfl ?_
            refine x_iload_n B dX8_laysBehind_50 rfl ?_
            refine x_iload_n B dX8_laysBehind_51 rfl ?_
            refine x_iconst B dX8_laysBehind_52 ?_
            refine x_iload B dX8_laysBehind_53 rfl ?_
            refine x_go (x_rV B h8 (show x_cl[7]? = some _ from rfl) (c_X8_laysRounds hY (by omega) (by omega) (by omega) (hU (k + 1) (by omega) (by omega))) (lw_V q1794 q1796 qs91 q122 q1797) hv_X8_laysRounds ⟨by decide, by decide⟩ ⟨by decide, by decide⟩ rfl rfl (by simp [x_cr, x_c1, x_c2]) dX8_laysBehind_55) (fun v_55 X_55 p_55 => ?_)
            obtain ⟨rfl, hz55, e83, hR⟩ := p_55
            have hwr := hwr (by omega) (by omega) (by omega) (by omega)
            refine x_aload_n B dX8_laysBehind_58 rfl ?_
            refine x_getC0 B (k := 31) hT rfl rfl xc_7 (by decide) h8 (Or.inl q1366) (fun _ h => h) dX8_laysBehind_59 (fun k_59 => ?_)
            refine x_bipush B dX8_laysBehind_62 (by decide) ?_
            refine x_iload_n B dX8_laysBehind_64 rfl ?_
            refine x_imul B dX8_laysBehind_65 ?_
            refine x_iload B dX8_laysBehind_66 rfl ?_
            refine x_iadd B dX8_laysBehind_68 ?_
            refine x_aload_n B dX8_laysBehind_69 rfl ?_
            refine x_iload_n B dX8_laysBehind_70 rfl ?_
            refine x_iload_n B dX8_laysBehind_71 rfl ?_
            refine x_iconst B dX8_laysBehind_72 ?_
            refine x_iconst B dX8_laysBehind_73 ?_
            refine x_iconst B dX8_laysBehind_74 ?_
            refine x_iconst B dX8_laysBehind_75 ?_
            refine x_goP (x_rV B h8 (show x_cl[7]? = some _ from rfl) (c_X8_triesBest (hY.z hz55) (by omega) (show 0 ≤ j ∧ j ≤ 40 * k by omega) (by omega) (by omega) (by omega) (by omega) (fun _ => rfl) (hR (0 + 1) (by omega) (by omega))) (lw_V q1805 q1807 qs93 q122 q1808) hv_X8_triesBest ⟨by decide, by decide⟩ ⟨by decide, by decide⟩ rfl rfl (by simp [x_cr, x_c1, x_c2]) dX8_laysBehind_76) ?_
            rw [← ew]
            refine x_iast B k_59 ⟨by omega, by omega⟩ ⟨by omega, by omega⟩ dX8_laysBehind_79 ?_
            refine x_iinc_4 B dX8_laysBehind_80 (by first | rfl | exact x_cr _ _) ?_
            refine x_goto B (tgt := 40) dX8_laysBehind_83 (by decide) ?_
            refine ih _ _ ⟨htk, ⟨by omega, by omega⟩, ((hz.trans hz55).u64 rfl).up (Or.inl rfl), fun u u1 u2 s s1 s2 => ?_, fun s s1 s2 => ?_⟩ (by omega)
            · rw [x_up_n _ (Or.inr (by omega)), x_up_o _ (by omega), e83]; exact hU u u1 u2 s s1 s2
            · by_cases e : s = j
              · rw [e, x_up_s]; unfold b8_w; rw [if_neg (by omega), ew]
              · rw [x_up_n _ (Or.inr (by omega)), x_up_o _ (by omega), e83]; exact hp s s1 (by omega)
      refine x_iload_n B dX8_laysBehind_32 rfl ?_
      refine x_iload_n B dX8_laysBehind_33 rfl ?_
      refine x_icmp_le B (tgt := 92) dX8_laysBehind_34 (by decide) ⟨by omega, by omega⟩ ⟨by omega, by omega⟩ (fun h_34 => ?_) (fun h_34 => ?_)
      · refine x_vret B (fun _ _ h => h) ?_ dX8_laysBehind_92
        obtain rfl : k = t := by omega
        exact ⟨rfl, hz, hU⟩
      · refine x_iconst B dX8_laysBehind_37 ?_
        refine x_istw_4 B dX8_laysBehind_38 (by first | rfl | exact x_cr _ _) ?_
        exact lp_40 _ 0 Y ⟨by omega, ⟨by omega, by omega⟩, hz, hU, fun s s1 s2 => by omega⟩ (Nat.lt_succ_self _)
  have lp_2 : ∀ (n : Nat) (k : Int) (Y : x_X), ((0 ≤ k ∧ k ≤ 121) ∧ z8 X Y ∧ ∀ s, 0 ≤ s → s < k → Y 83 (363 + s) = A s) → ((122 - k).toNat < n) → x_G p l e (x_rm 4 0 0) s m args below meth c 5 E 0 0 (MQ below (x_Q E κ (fun v_ Y => v_ = none ∧ z8 X Y ∧ (∀ u, t < u → u ≤ 3 → bh8 Y O A u))) args s 0 0 (fun q => E.1 ≤ q)) κ 2 [some (x_rf E 64), some (vi a), some (vi t), some (vi k), none] [] Y := by
    intro n
    induction n with
    | zero => intro k Y hinv hme; exfalso; omega
    | succ n ih =>
      intro k Y hinv hme
      obtain ⟨hk, hz, hv⟩ := hinv
      obtain ⟨-, -, -, -, eAY, -, -⟩ := h.z hz
      refine x_iload_n B dX8_laysBehind_2 rfl ?_
      refine x_bipush B dX8_laysBehind_3 (by decide) ?_
      refine x_icmp_ge B (tgt := 30) dX8_laysBehind_5 (by decide) ⟨by omega, by omega⟩ ⟨by omega, by omega⟩ (fun h_5 => ?_) (fun h_5 => ?_)
      · refine x_iconst B dX8_laysBehind_30 ?_
        refine x_ist_3 B dX8_laysBehind_31 (by first | rfl | exact x_cr _ _) ?_
        refine lp_32 _ 2 Y ⟨⟨by omega, by omega⟩, hz, fun u u1 u2 s s1 s2 => ?_⟩ (Nat.lt_succ_self _)
        obtain rfl : u = 3 := by omega
        have := hv s s1 (by omega)
        unfold b8_w; rw [if_pos rfl]; exact this
      · refine x_aload_n B dX8_laysBehind_8 rfl ?_
        refine x_getC0 B (k := 31) hT rfl rfl xc_7 (by decide) h8 (Or.inl q1366) (fun _ h => h) dX8_laysBehind_9 (fun k_9 => ?_)
        refine x_sipush B dX8_laysBehind_12 (by decide) ?_
        refine x_iload_n B dX8_laysBehind_15 rfl ?_
        refine x_iadd B dX8_laysBehind_16 ?_
        refine x_aload_n B dX8_laysBehind_17 rfl ?_
        refine x_getC0 B (k := 28) hT rfl rfl xc_7 (by decide) h8 (Or.inl q1363) (fun _ h => h) dX8_laysBehind_18 (fun k_18 => ?_)
        refine x_iload_n B dX8_laysBehind_21 rfl ?_
        refine x_iald B k_18 ⟨by omega, by omega⟩ dX8_laysBehind_22 (fun r_22 => ?_)
        rw [eAY k (by omega) (by omega)] at r_22 ⊢
        have hAk := hA k (by omega) (by omega)
        refine x_iast B k_9 ⟨by omega, by omega⟩ ⟨by omega, by omega⟩ dX8_laysBehind_23 ?_
        refine x_iinc_3 B dX8_laysBehind_24 (by first | rfl | exact x_cr _ _) ?_
        refine x_goto B (tgt := 2) dX8_laysBehind_27 (by decide) ?_
        refine ih _ _ ⟨⟨by omega, by omega⟩, hz.up (Or.inl rfl), fun s s1 s2 => ?_⟩ (by omega)
        by_cases e : s = k
        · rw [e, x_up_s]
        · rw [x_up_n _ (Or.inr (by omega))]; exact hv s s1 (by omega)
  refine x_iconst B dX8_laysBehind_0 ?_
  refine x_ist_3 B dX8_laysBehind_1 (by first | rfl | exact x_cr _ _) ?_
  exact lp_2 _ 0 X ⟨⟨by omega, by omega⟩, z8.rf X, fun v v1 v2 => by omega⟩ (Nat.lt_succ_self _)
theorem c_X8_nextLoadOf {l : Launch} {E : x_E} {κ : x_Ka} {X : x_X} {O : Int → Int → Int → Int} {A : Int → Int} {a t sum : Int} (h : e8 κ X O A a) (ht : 0 ≤ t ∧ t ≤ 2) (hs : 0 ≤ sum ∧ sum ≤ 40 * t) (hB : bh8 X O A (t + 1)) : x_Met l yX8_nextLoadOf cX8_nextLoadOf 4 none 4 0 0 E κ X [x_rf E 64, vi a, vi t, vi sum] κ (fun v_ Y => v_ = none ∧ (∀ b, b ≠ 64 → b ≠ 84 → Y b = X b) ∧ (∀ i, i ≠ 33 → i ≠ 34 → Y 64 i = X 64 i) ∧ Y 64 34 = f_d O A t sum 0 0 0 1) := by
  refine x_Met.of [(false, x_rf E 64), (false, vi a), (false, vi t), (false, vi sum)] [some (x_rf E 64), some (vi a), some (vi t), some (vi sum)] 0 (by decide) rfl rfl ⟨x_cr E (64), rfl, rfl, rfl, trivial⟩ rfl rfl ?_
  intro p e s m args below meth c hargs hin B
  obtain ⟨hK, hO, ha, eO, eA, hA, hOr⟩ := id h
  obtain ⟨hT, h8, hn⟩ := id hK
  refine x_aload_n B dX8_nextLoadOf_0 rfl ?_
  refine x_iload_n B dX8_nextLoadOf_1 rfl ?_
  refine x_iload_n B dX8_nextLoadOf_2 rfl ?_
  refine x_iconst B dX8_nextLoadOf_3 ?_
  refine x_iload_n B dX8_nextLoadOf_4 rfl ?_
  refine x_go (x_rV B h8 (show x_cl[7]? = some _ from rfl) (c_X8_laysRounds h ht hs (by omega) hB) (lw_V q1794 q1796 qs91 q122 q1797) hv_X8_laysRounds ⟨by decide, by decide⟩ ⟨by decide, by decide⟩ rfl rfl (by simp [x_cr, x_c1, x_c2]) dX8_nextLoadOf_5) (fun v_5 X_5 p_5 => ?_)
  obtain ⟨rfl, hz, e83, hR⟩ := p_5
  have hdr := (f_mx_r (V := f_v O A t sum 0 0 0) (least := 1) (by omega) (fun y y1 y2 => (p_mix_r (hOr _ _ _ ht.1 ht.2 (by omega)) (f_w_r hOr hA 12 _ _ _ _ _ _ ht hs (by omega) (by omega) (by omega)) (f_w_r hOr hA 12 _ _ _ _ _ _ ht hs (by omega) (by omega) (by omega))).2)).2
  have hdr2 : 0 ≤ f_d O A t sum 0 0 0 1 ∧ f_d O A t sum 0 0 0 1 ≤ 40 := by unfold f_d; omega
  refine x_aload_n B dX8_nextLoadOf_8 rfl ?_
  refine x_iload_n B dX8_nextLoadOf_9 rfl ?_
  refine x_iload_n B dX8_nextLoadOf_10 rfl ?_
  refine x_iconst B dX8_nextLoadOf_11 ?_
  refine x_iconst B dX8_nextLoadOf_12 ?_
  refine x_iconst B dX8_nextLoadOf_13 ?_
  refine x_iconst B dX8_nextLoadOf_14 ?_
  refine x_goP (x_rV B h8 (show x_cl[7]? = some _ from rfl) (c_X8_triesBest (h.z hz) ht hs (by omega) (by omega) (by omega) (by omega) (fun _ => rfl) (hR (0 + 1) (by omega) (by omega))) (lw_V q1805 q1807 qs93 q122 q1808) hv_X8_triesBest ⟨by decide, by decide⟩ ⟨by decide, by decide⟩ rfl rfl (by simp [x_cr, x_c1, x_c2]) dX8_nextLoadOf_15) ?_
  refine x_pop B dX8_nextLoadOf_18 (by first | rfl | exact x_cr _ _) ?_
  refine x_aload_n B dX8_nextLoadOf_19 rfl ?_
  refine x_aload_n B dX8_nextLoadOf_20 rfl ?_
  refine x_getI B (k := 33) 33 rfl rfl xc_7 (by decide) h8 (Or.inl q1368) (fun _ h => h) dX8_nextLoadOf_21 (fun r_21 => ?_)
  rw [x_up_s] at r_21 ⊢
  refine x_putI B (k := 34) 34 rfl rfl rfl ⟨by omega, by omega⟩ xc_7 (by decide) rfl nn_7_34 (fun _ => rfl) h8 (Or.inl q1369) (fun _ h => h) dX8_nextLoadOf_24 ?_
  refine x_vret B (fun _ _ h => h) ?_ dX8_nextLoadOf_27
  refine ⟨rfl, fun b b1 b2 => ?_, fun i i1 i2 => ?_, x_up_s _ _ _ _⟩
  · rw [x_up_o _ b1, x_up_o _ b1]
    by_cases e : b = 83
    · rw [e]; exact e83
    · exact hz.1 b b1 e b2
  · rw [x_up_n _ (Or.inr i2), x_up_n _ (Or.inr i1)]; exact hz.2 i i1
def m_Q (n : Int) (M : x_X) : Prop := ∀ l, 0 ≤ l → l < n → 0 < M l 3 → M l 6 = 1 → M (-1) 2 ≤ 1
theorem f_d8_r {O : Int → Int → Int → Int} {A : Int → Int} (hO : ∀ t x f, 0 ≤ t → t ≤ 2 → 0 ≤ f → 0 ≤ O t x f ∧ O t x f ≤ 1000) (hA : ∀ v, 0 ≤ v → v ≤ 120 → 0 ≤ A v ∧ A v ≤ 1000000) {t sum tr fl best least : Int} (ht : 0 ≤ t ∧ t ≤ 2) (hs : 0 ≤ sum ∧ sum ≤ 40 * t) (hb : 0 ≤ best ∧ best ≤ 40) (hf : 0 ≤ fl) (hl : 1 ≤ least ∧ least ≤ 40) : (least ≤ f_d O A t sum tr fl best least ∧ f_d O A t sum tr fl best least ≤ 40) ∧ (0 ≤ (f_mx (f_v O A t sum tr fl best) least).1 ∧ (f_mx (f_v O A t sum tr fl best) least).1 ≤ 1000000) := by
  have := f_mx_r (V := f_v O A t sum tr fl best) (least := least) hl.2 (fun y y1 y2 => (p_mix_r (hO _ _ _ ht.1 ht.2 hf) (f_w_r hO hA 12 _ _ _ _ _ _ ht hs (by omega) hf (by omega)) (f_w_r hO hA 12 _ _ _ _ _ _ ht hs hb (by omega) (by omega))).2)
  exact ⟨this.2, this.1⟩
theorem c_X8_freeNow {l : Launch} {E : x_E} {κ : x_Ka} {X : x_X} {O : Int → Int → Int → Int} {A : Int → Int} {a : Int} (h : e8 κ X O A a) (hC : t_C κ X) (hQ : m_Q (X 64 3) (t_M X)) : x_Met l yX8_freeNow cX8_freeNow 6 (some .int) 5 0 0 E κ X [x_rf E 64, vi a] κ (fun v_ Y_ => v_ = some (vi (f_now O A (t_M X) a (m_least (t_M X) a))) ∧ h_eq X Y_ ∧ hr8 X Y_ ∧ Y_ 80 = X 80 ∧ Y_ 64 34 = (f_lnow O A (t_M X) a)) := by
  refine x_Met.of [(false, x_rf E 64), (false, vi a)] [some (x_rf E 64), some (vi a), none, none, none, none] 4 (by decide) rfl rfl ⟨x_cr E (64), rfl, trivial⟩ rfl rfl ?_
  intro p e s m args below meth c hargs hin B
  obtain ⟨hK, hP, hO, hW, hLa⟩ := id hC
  obtain ⟨-, -, ha, eO, eA, hA, hOr⟩ := id h
  obtain ⟨hT, h8, hn⟩ := id hK
  have s2 : t_M X a 2 = X 72 (3 + 10 * a + 4) := t_M_s (by assumption) (by decide) (by omega) (by omega)
  have s3 : t_M X a 3 = X 72 (3 + 10 * a + 0) := t_M_s (by assumption) (by decide) (by omega) (by omega)
  have s6 : t_M X a 6 = X 72 (3 + 10 * a + 1) := t_M_s (by assumption) (by decide) (by omega) (by omega)
  have s7 : t_M X a 7 = X 72 (3 + 10 * a + 6) := t_M_s (by assumption) (by decide) (by omega) (by omega)
  have g1 : t_M X (-1) 1 = X 72 0 := t_M_g (by omega)
  have g2 : t_M X (-1) 2 = X 72 1 := t_M_g (by omega)
  have w1 := hW.1
  have w2 := hW.2.1 a ha.1 ha.2
  have w3 := hW.2.2 a ha.1 ha.2
  have sr := m_sum_r hW ha.1 ha.2
  have lr := m_least_r hW ha.1 ha.2
  have hQa := hQ a ha.1 ha.2
  refine x_aload_n B dX8_freeNow_0 rfl ?_
  refine x_iconst B dX8_freeNow_1 ?_
  refine x_putI B (k := 34) 34 rfl rfl rfl ⟨by omega, by omega⟩ xc_7 (by decide) rfl nn_7_34 (fun _ => rfl) h8 (Or.inl q1369) (fun _ h => h) dX8_freeNow_2 ?_
  have hz1 : h_eq X (x_up X 64 34 0) := (h_eq.rf X).u64 (Or.inr (Or.inr (by omega)))
  have hr1 : hr8 X (x_up X 64 34 0) := ⟨x_up_o _ (by omega), x_up_n _ (Or.inr (by omega))⟩
  have e80 : x_up X 64 34 0 80 = X 80 := x_up_o _ (by omega)
  have e34 : x_up X 64 34 0 64 34 = 0 := x_up_s _ _ _ _
  have y72 : x_up X 64 34 0 72 = X 72 := x_up_o _ (by omega)
  generalize x_up X 64 34 0 = Y at hz1 hr1 e80 e34 y72 ⊢
  have hY := h.h hz1 e80
  have CY := hz1.C hC
  obtain ⟨y3, yM, -, -, -, yO, -⟩ := hz1.v
  obtain ⟨hKY, hPY, hOY, hWY, hLY⟩ := id CY
  refine x_aload_n B dX8_freeNow_5 rfl ?_
  refine x_iload_n B dX8_freeNow_6 rfl ?_
  refine x_goP (x_rV B h8 (show x_cl[7]? = some _ from rfl) (c_X8_isOut hT h8 ⟨by omega, by omega⟩) (lw_V q1521 q1523 qs51 q122 q1524) hv_X8_isOut ⟨by decide, by decide⟩ ⟨by decide, by decide⟩ rfl rfl (by simp [x_cr, x_c1, x_c2]) dX8_freeNow_7) ?_
  rw [y72]
  refine x_if_ne B (tgt := 20) dX8_freeNow_10 (by decide) ⟨by split <;> omega, by split <;> omega⟩ (fun h_10 => ?_) (fun h_10 => ?_)
  · refine x_aload_n B dX8_freeNow_20 rfl ?_
    refine x_getC0 B (k := 28) hT rfl rfl xc_7 (by decide) h8 (Or.inl q1363) (fun _ h => h) dX8_freeNow_21 (fun k_21 => ?_)
    refine x_aload_n B dX8_freeNow_24 rfl ?_
    refine x_iload_n B dX8_freeNow_25 rfl ?_
    refine x_goP (x_rV B h8 (show x_cl[7]? = some _ from rfl) (c_X8_sumOf hKY hWY.V (by rw [y3]; exact ha)) (lw_V q1600 q1602 qs62 q122 q1603) hv_X8_sumOf ⟨by decide, by decide⟩ ⟨by decide, by decide⟩ rfl rfl (by simp [x_cr, x_c1, x_c2]) dX8_freeNow_26) ?_
    rw [yM]
    refine x_iald B k_21 ⟨by omega, by omega⟩ dX8_freeNow_29 (fun r_29 => ?_)
    rw [e80, eA _ sr.1 sr.2] at r_29 ⊢
    refine x_iret B (fun _ _ h => h) ?_ dX8_freeNow_30
    have hz : t_M X a 7 ≠ 0 ∨ t_M X (-1) 1 = 3 := by
      by_cases z : t_M X a 7 = 0
      · refine Or.inr ?_
        first | (by_cases y : X 72 0 = 3; omega; rw [if_neg y] at h_17; omega) | (rw [if_neg (by omega)] at h_10; omega)
      · exact Or.inl z
    refine ⟨?_, hz1, hr1, e80, by unfold f_lnow; rw [if_pos hz, e34]⟩
    unfold f_now
    by_cases z : t_M X a 7 ≠ 0
    · rw [if_pos z, show m_sum (t_M X) a = 0 by unfold m_sum; rw [if_neg z]]
    · rw [if_neg z, if_pos (by omega)]
  · refine x_aload_n B dX8_freeNow_13 rfl ?_
    refine x_goP (x_rV B h8 (show x_cl[7]? = some _ from rfl) (c_X8_isOver hT h8) (lw_V q1517 q1519 qs50 q122 q1520) hv_X8_isOver ⟨by decide, by decide⟩ ⟨by decide, by decide⟩ rfl rfl (by simp [x_cr, x_c1, x_c2]) dX8_freeNow_14) ?_
    rw [y72]
    refine x_if_eq B (tgt := 31) dX8_freeNow_17 (by decide) ⟨by split <;> omega, by split <;> omega⟩ (fun h_17 => ?_) (fun h_17 => ?_)
    · have h7 : t_M X a 7 = 0 := by by_cases z : X 72 (3 + 10 * a + 6) = 1; rw [if_pos z] at h_10; omega; omega
      have hL3 : t_M X (-1) 1 ≠ 3 := by intro z; rw [if_pos (by omega)] at h_17; omega
      have hm := m_rest hW ha.1 ha.2 h7 hL3
      have hti : ti (10 + X 72 0) = 7 + X 72 0 := by rcases (show X 72 0 = 0 ∨ X 72 0 = 1 ∨ X 72 0 = 2 by omega) with e | e | e <;> rw [e] <;> decide
      have sb : t_M X a (10 + t_M X (-1) 1) = X 72 (3 + 10 * a + (7 + X 72 0)) := by rw [g1]; exact t_M_s ha hti (by omega) (by omega)
      have hq3 := w3.2.2.2.2
      refine x_aload_n B dX8_freeNow_31 rfl ?_
      refine x_getC0 B (k := 11) hT rfl rfl xc_7 (by decide) h8 (Or.inl q1346) (fun _ h => h) dX8_freeNow_32 (fun k_32 => ?_)
      refine x_iconst B dX8_freeNow_35 ?_
      refine x_iald B k_32 ⟨by omega, by omega⟩ dX8_freeNow_36 (fun r_36 => ?_)
      rw [y72, ← g1] at r_36 ⊢
      refine x_ist_2 B dX8_freeNow_37 (by first | rfl | exact x_cr _ _) ?_
      refine x_aload_n B dX8_freeNow_38 rfl ?_
      refine x_iload_n B dX8_freeNow_39 rfl ?_
      refine x_bipush B dX8_freeNow_40 (by decide) ?_
      refine x_iload_n B dX8_freeNow_42 rfl ?_
      refine x_iadd B dX8_freeNow_43 ?_
      refine x_goP (x_rV B h8 (show x_cl[7]? = some _ from rfl) (c_X8_of hT h8 ⟨by omega, by omega⟩) (lw_V q1525 q1527 qs52 q122 q1528) hv_X8_of ⟨by decide, by decide⟩ ⟨by decide, by decide⟩ rfl rfl (by simp [x_cr, x_c1, x_c2]) dX8_freeNow_44) ?_
      rw [y72, show X 72 (3 + 10 * a + (7 + t_M X (-1) 1)) = t_M X a (10 + t_M X (-1) 1) by rw [sb, g1]]
      refine x_ist_3 B dX8_freeNow_47 (by first | rfl | exact x_cr _ _) ?_
      refine x_aload_n B dX8_freeNow_48 rfl ?_
      refine x_iload_n B dX8_freeNow_49 rfl ?_
      refine x_goP (x_rV B h8 (show x_cl[7]? = some _ from rfl) (c_X8_sumAhead hKY hWY (by rw [y3]; exact ha) (by rw [yM]; exact h7) (by rw [yM]; exact hL3)) (lw_V q1701 q1703 qs78 q122 q1704) hv_X8_sumAhead ⟨by decide, by decide⟩ ⟨by decide, by decide⟩ rfl rfl (by simp [x_cr, x_c1, x_c2]) dX8_freeNow_50) ?_
      rw [yM]
      refine x_istw_4 B dX8_freeNow_53 (by first | rfl | exact x_cr _ _) ?_
      refine x_aload_n B dX8_freeNow_55 rfl ?_
      refine x_iload_n B dX8_freeNow_56 rfl ?_
      refine x_iload_n B dX8_freeNow_57 rfl ?_
      refine x_go (x_rV B h8 (show x_cl[7]? = some _ from rfl) (c_X8_laysBehind hY ⟨by omega, by omega⟩) (lw_V q1790 q1792 qs90 q122 q1793) hv_X8_laysBehind ⟨by decide, by decide⟩ ⟨by decide, by decide⟩ rfl rfl (by simp [x_cr, x_c1, x_c2]) dX8_freeNow_58) (fun v_58 X_58 p_58 => ?_)
      obtain ⟨rfl, hzz, hU⟩ := p_58
      have hz := hz1.trans hzz.h
      have hr := hr1.trans hzz.r
      have z80 : X_58 80 = X 80 := (hzz.1 80 (by omega) (by omega) (by omega)).trans e80
      have z34 : X_58 64 34 = 0 := (hzz.2 34 (by omega)).trans e34
      have hZ := hY.z hzz
      have CZ := hz.C hC
      obtain ⟨z3, zM, -, -, -, zO, -⟩ := hz.v
      obtain ⟨hKZ, hPZ, hOZ, hWZ, hLZ⟩ := id CZ
      have z72 : X_58 72 = X 72 := (hzz.1 72 (by omega) (by omega) (by omega)).trans y72
      refine x_aload_n B dX8_freeNow_61 rfl ?_
      refine x_iload_n B dX8_freeNow_62 rfl ?_
      refine x_goP (x_rV B h8 (show x_cl[7]? = some _ from rfl) (c_X8_leastOf hKZ hWZ.V hLZ (by rw [z3]; exact ha)) (lw_V q1589 q1591 qs60 q122 q1592) hv_X8_leastOf ⟨by decide, by decide⟩ ⟨by decide, by decide⟩ rfl rfl (by simp [x_cr, x_c1, x_c2]) dX8_freeNow_63) ?_
      rw [zM]
      refine x_if_eq B (tgt := 79) dX8_freeNow_66 (by decide) ⟨by omega, by omega⟩ (fun h_66 => ?_) (fun h_66 => ?_)
      · have hl0 : t_M X a 3 = 0 := by have := lr.2.2; omega
        refine x_iload_n B dX8_freeNow_79 rfl ?_
        refine x_if_ne B (tgt := 90) dX8_freeNow_80 (by decide) ⟨by omega, by omega⟩ (fun h_80 => ?_) (fun h_80 => ?_)
        · refine x_iload_n B dX8_freeNow_90 rfl ?_
          refine x_iconst B dX8_freeNow_91 ?_
          refine x_icmp_ge B (tgt := 107) dX8_freeNow_92 (by decide) ⟨by omega, by omega⟩ ⟨by omega, by omega⟩ (fun h_92 => ?_) (fun h_92 => ?_)
          · have hvr := f_e_r hOr hA (t := t_M X (-1) 1) (by omega) hm.1 hm.2
            refine x_aload_n B dX8_freeNow_107 rfl ?_
            refine x_iload_n B dX8_freeNow_108 rfl ?_
            refine x_iload_n B dX8_freeNow_109 rfl ?_
            refine x_iload B dX8_freeNow_110 rfl ?_
            refine x_goP (x_rV B h8 (show x_cl[7]? = some _ from rfl) (c_X8_ends (by first | exact hZ4 | exact hZ) (show 0 ≤ (t_M X (-1) 1) ∧ (t_M X (-1) 1) ≤ 2 by omega) hm.1 hm.2 (by first | exact hB4 | exact hU _ (by omega) (by omega))) (lw_V q1801 q1803 qs92 q122 q1804) hv_X8_ends ⟨by decide, by decide⟩ ⟨by decide, by decide⟩ rfl rfl (by simp [x_cr, x_c1, x_c2]) dX8_freeNow_112) ?_
            refine x_iret B (fun _ _ h => h) ?_ dX8_freeNow_115
            first
            | (refine ⟨?_, hz.trans hh4, hr.trans ⟨ho4 65 (by omega) (by omega), h64 1 (by omega) (by omega)⟩, (ho4 80 (by omega) (by omega)).trans z80, ?_⟩; (unfold f_now; rw [if_neg (by omega), if_neg hL3, if_pos hl0]); (unfold f_lnow f_lat; rw [if_neg (by omega), if_pos hl0, if_pos (Or.inl rfl), if_neg (by omega), e4]))
            | (refine ⟨?_, hz, hr, z80, ?_⟩; (unfold f_now; rw [if_neg (by omega), if_neg hL3, if_pos hl0]); (unfold f_lnow f_lat; rw [if_neg (by omega), if_pos hl0, if_pos (Or.inl rfl), if_pos (by omega), z34]))
          · refine x_aload_n B dX8_freeNow_95 rfl ?_
            refine x_iload_n B dX8_freeNow_96 rfl ?_
            refine x_iload_n B dX8_freeNow_97 rfl ?_
            refine x_iconst B dX8_freeNow_98 ?_
            refine x_iadd B dX8_freeNow_99 ?_
            refine x_iload B dX8_freeNow_100 rfl ?_
            refine x_iload_n B dX8_freeNow_102 rfl ?_
            refine x_iadd B dX8_freeNow_103 ?_
            refine x_go (x_rV B h8 (show x_cl[7]? = some _ from rfl) (c_X8_nextLoadOf hZ (show 0 ≤ (t_M X (-1) 1) + 1 ∧ (t_M X (-1) 1) + 1 ≤ 2 by omega) (show 0 ≤ (m_sum (t_M X) a - t_M X a (10 + t_M X (-1) 1)) + (t_M X a (10 + t_M X (-1) 1)) ∧ (m_sum (t_M X) a - t_M X a (10 + t_M X (-1) 1)) + (t_M X a (10 + t_M X (-1) 1)) ≤ 40 * ((t_M X (-1) 1) + 1) by omega) (hU _ (by omega) (by omega))) (lw_V q1813 q1815 qs94 q122 q1816) hv_X8_nextLoadOf ⟨by decide, by decide⟩ ⟨by decide, by decide⟩ rfl rfl (by simp [x_cr, x_c1, x_c2]) dX8_freeNow_104) (fun v_104 X_104 p_104 => ?_)
            obtain ⟨rfl, ho4, h64, e4⟩ := p_104
            have hh4 : h_eq X_58 X_104 := ⟨fun b b1 b2 b3 => ho4 b b1 (by omega), fun i i1 i2 i3 => h64 i (by omega) (by omega)⟩
            have hZ4 := hZ.h hh4 (ho4 80 (by omega) (by omega))
            have hB4 : bh8 X_104 O A (t_M X (-1) 1 + 1) := fun s s1 s2 => by rw [ho4 83 (by omega) (by omega)]; exact hU _ (by omega) (by omega) s s1 s2
            have hvr := f_e_r hOr hA (t := t_M X (-1) 1) (by omega) hm.1 hm.2
            refine x_aload_n B dX8_freeNow_107 rfl ?_
            refine x_iload_n B dX8_freeNow_108 rfl ?_
            refine x_iload_n B dX8_freeNow_109 rfl ?_
            refine x_iload B dX8_freeNow_110 rfl ?_
            refine x_goP (x_rV B h8 (show x_cl[7]? = some _ from rfl) (c_X8_ends (by first | exact hZ4 | exact hZ) (show 0 ≤ (t_M X (-1) 1) ∧ (t_M X (-1) 1) ≤ 2 by omega) hm.1 hm.2 (by first | exact hB4 | exact hU _ (by omega) (by omega))) (lw_V q1801 q1803 qs92 q122 q1804) hv_X8_ends ⟨by decide, by decide⟩ ⟨by decide, by decide⟩ rfl rfl (by simp [x_cr, x_c1, x_c2]) dX8_freeNow_112) ?_
            refine x_iret B (fun _ _ h => h) ?_ dX8_freeNow_115
            first
            | (refine ⟨?_, hz.trans hh4, hr.trans ⟨ho4 65 (by omega) (by omega), h64 1 (by omega) (by omega)⟩, (ho4 80 (by omega) (by omega)).trans z80, ?_⟩; (unfold f_now; rw [if_neg (by omega), if_neg hL3, if_pos hl0]); (unfold f_lnow f_lat; rw [if_neg (by omega), if_pos hl0, if_pos (Or.inl rfl), if_neg (by omega), e4]))
            | (refine ⟨?_, hz, hr, z80, ?_⟩; (unfold f_now; rw [if_neg (by omega), if_neg hL3, if_pos hl0]); (unfold f_lnow f_lat; rw [if_neg (by omega), if_pos hl0, if_pos (Or.inl rfl), if_pos (by omega), z34]))
        · refine x_aload_n B dX8_freeNow_83 rfl ?_
          refine x_getC0 B (k := 28) hT rfl rfl xc_7 (by decide) h8 (Or.inl q1363) (fun _ h => h) dX8_freeNow_84 (fun k_84 => ?_)
          refine x_iconst B dX8_freeNow_87 ?_
          refine x_iald B k_84 ⟨by omega, by omega⟩ dX8_freeNow_88 (fun r_88 => ?_)
          rw [z80, eA 0 (by omega) (by omega)] at r_88 ⊢
          refine x_iret B (fun _ _ h => h) ?_ dX8_freeNow_89
          refine ⟨?_, hz, hr, z80, ?_⟩
          · unfold f_now f_e; rw [if_neg (by omega), if_neg hL3, if_pos hl0, if_pos (by omega)]
          · unfold f_lnow f_lat; rw [if_neg (by omega), if_pos hl0, if_pos (Or.inl rfl), if_pos (Or.inl (by omega)), z34]
      · refine x_aload_n B dX8_freeNow_69 rfl ?_
        refine x_iload_n B dX8_freeNow_70 rfl ?_
        refine x_goP (x_rV B h8 (show x_cl[7]? = some _ from rfl) (c_X8_leastOf hKZ hWZ.V hLZ (by rw [z3]; exact ha)) (lw_V q1589 q1591 qs60 q122 q1592) hv_X8_leastOf ⟨by decide, by decide⟩ ⟨by decide, by decide⟩ rfl rfl (by simp [x_cr, x_c1, x_c2]) dX8_freeNow_71) ?_
        rw [zM]
        refine x_bipush B dX8_freeNow_74 (by decide) ?_
        refine x_icmp_le B (tgt := 116) dX8_freeNow_76 (by decide) ⟨by omega, by omega⟩ ⟨by omega, by omega⟩ (fun h_76 => ?_) (fun h_76 => ?_)
        · have hl0 : t_M X a 3 ≠ 0 := by intro q; unfold m_least at h_66; rw [if_pos q] at h_66; exact h_66 rfl
          have hq3 := hq3 (by omega)
          have hrr : 0 ≤ (t_M X (-1) 2 + t_M X a 6) ∧ (t_M X (-1) 2 + t_M X a 6) ≤ 2 := by have := hQa (by omega); omega
          have hbl : (t_M X a (10 + t_M X (-1) 1)) < (m_least (t_M X) a) := by unfold m_least; rw [if_neg hl0]; split <;> omega
          have hcx : t_M X a 2 = (t_M X (-1) 2 + t_M X a 6) → (t_M X a (10 + t_M X (-1) 1)) = 0 := hq3.2.2.2
          have hdr := f_d8_r hOr hA (t := (t_M X (-1) 1)) (sum := (m_sum (t_M X) a - t_M X a (10 + t_M X (-1) 1))) (tr := (t_M X (-1) 2 + t_M X a 6)) (fl := t_M X a 2) (best := (t_M X a (10 + t_M X (-1) 1))) (least := (m_least (t_M X) a)) (by omega) hm.1 hm.2 (by omega) (by omega)
          refine x_aload_n B dX8_freeNow_116 rfl ?_
          refine x_iload_n B dX8_freeNow_117 rfl ?_
          refine x_iload_n B dX8_freeNow_118 rfl ?_
          refine x_aload_n B dX8_freeNow_119 rfl ?_
          refine x_iload_n B dX8_freeNow_120 rfl ?_
          refine x_goP (x_rV B h8 (show x_cl[7]? = some _ from rfl) (c_X8_roundOf hKZ hWZ (by rw [z3]; exact ha)) (lw_V q1697 q1699 qs77 q122 q1700) hv_X8_roundOf ⟨by decide, by decide⟩ ⟨by decide, by decide⟩ rfl rfl (by simp [x_cr, x_c1, x_c2]) dX8_freeNow_121) ?_
          rw [zM]
          refine x_iload B dX8_freeNow_124 rfl ?_
          refine x_go (x_rV B h8 (show x_cl[7]? = some _ from rfl) (c_X8_laysRounds hZ (show 0 ≤ (t_M X (-1) 1) ∧ (t_M X (-1) 1) ≤ 2 by omega) hm.1 ⟨by omega, by omega⟩ (hU _ (by omega) (by omega))) (lw_V q1794 q1796 qs91 q122 q1797) hv_X8_laysRounds ⟨by decide, by decide⟩ ⟨by decide, by decide⟩ rfl rfl (by simp [x_cr, x_c1, x_c2]) dX8_freeNow_126) (fun v_126 X_126 p_126 => ?_)
          obtain ⟨rfl, hzr, er, hR⟩ := p_126
          have hz6 := hz.trans hzr.h
          have C6 := hz6.C hC
          obtain ⟨k3, kM, -, -, -, kO, -⟩ := hz6.v
          obtain ⟨hK6, hP6, hO6, hW6, hL6⟩ := id C6
          have k72 : X_126 72 = X 72 := (hzr.1 72 (by omega) (by omega) (by omega)).trans z72
          have hZ6 := hZ.z hzr
          refine x_aload_n B dX8_freeNow_129 rfl ?_
          refine x_iload_n B dX8_freeNow_130 rfl ?_
          refine x_iload_n B dX8_freeNow_131 rfl ?_
          refine x_aload_n B dX8_freeNow_132 rfl ?_
          refine x_iload_n B dX8_freeNow_133 rfl ?_
          refine x_goP (x_rV B h8 (show x_cl[7]? = some _ from rfl) (c_X8_roundOf hK6 hW6 (by rw [k3]; exact ha)) (lw_V q1697 q1699 qs77 q122 q1700) hv_X8_roundOf ⟨by decide, by decide⟩ ⟨by decide, by decide⟩ rfl rfl (by simp [x_cr, x_c1, x_c2]) dX8_freeNow_134) ?_
          rw [kM]
          refine x_aload_n B dX8_freeNow_137 rfl ?_
          refine x_iload_n B dX8_freeNow_138 rfl ?_
          refine x_iconst B dX8_freeNow_139 ?_
          refine x_goP (x_rV B h8 (show x_cl[7]? = some _ from rfl) (c_X8_of hT h8 ⟨by omega, by omega⟩) (lw_V q1525 q1527 qs52 q122 q1528) hv_X8_of ⟨by decide, by decide⟩ ⟨by decide, by decide⟩ rfl rfl (by simp [x_cr, x_c1, x_c2]) dX8_freeNow_140) ?_
          rw [k72, ← s2]
          refine x_aload_n B dX8_freeNow_143 rfl ?_
          refine x_iload_n B dX8_freeNow_144 rfl ?_
          refine x_goP (x_rV B h8 (show x_cl[7]? = some _ from rfl) (c_X8_leastOf hK6 hW6.V hL6 (by rw [k3]; exact ha)) (lw_V q1589 q1591 qs60 q122 q1592) hv_X8_leastOf ⟨by decide, by decide⟩ ⟨by decide, by decide⟩ rfl rfl (by simp [x_cr, x_c1, x_c2]) dX8_freeNow_145) ?_
          rw [kM]
          refine x_iload_n B dX8_freeNow_148 rfl ?_
          refine x_goP (x_rV B h8 (show x_cl[7]? = some _ from rfl) (c_X8_triesBest hZ6 (show 0 ≤ (t_M X (-1) 1) ∧ (t_M X (-1) 1) ≤ 2 by omega) hm.1 hrr (by omega) (by omega) (by omega) hcx (hR _ (by omega) (by omega))) (lw_V q1805 q1807 qs93 q122 q1808) hv_X8_triesBest ⟨by decide, by decide⟩ ⟨by decide, by decide⟩ rfl rfl (by simp [x_cr, x_c1, x_c2]) dX8_freeNow_149) ?_
          refine x_istw_5 B dX8_freeNow_152 (by first | rfl | exact x_cr _ _) ?_
          refine x_aload_n B dX8_freeNow_154 rfl ?_
          refine x_aload_n B dX8_freeNow_155 rfl ?_
          refine x_getI B (k := 33) 33 rfl rfl xc_7 (by decide) h8 (Or.inl q1368) (fun _ h => h) dX8_freeNow_156 (fun r_156 => ?_)
          rw [x_up_s] at r_156 ⊢
          refine x_putI B (k := 34) 34 rfl rfl rfl ⟨by omega, by omega⟩ xc_7 (by decide) rfl nn_7_34 (fun _ => rfl) h8 (Or.inl q1369) (fun _ h => h) dX8_freeNow_159 ?_
          refine x_iload B dX8_freeNow_162 rfl ?_
          refine x_iret B (fun _ _ h => h) ?_ dX8_freeNow_164
          refine ⟨?_, (hz6.u64 (Or.inr (Or.inr (by omega)))).u64 (Or.inr (Or.inr (by omega))), ?_, ?_, ?_⟩
          · unfold f_now; rw [if_neg (by omega), if_neg hL3, if_neg hl0, f_wE (by omega) (by omega), if_neg (by omega)]
          · exact ⟨by rw [x_up_o _ (by omega), x_up_o _ (by omega)]; exact (hr.trans hzr.r).1, by rw [x_up_n _ (Or.inr (by omega)), x_up_n _ (Or.inr (by omega))]; exact (hr.trans hzr.r).2⟩
          · rw [x_up_o _ (by omega), x_up_o _ (by omega)]; exact (hzr.1 80 (by omega) (by omega) (by omega)).trans z80
          · rw [x_up_s]; unfold f_lnow f_lat; rw [if_neg (by omega), if_neg hl0, if_neg (by omega)]
        · have hl0 : t_M X a 3 = 0 := by have := lr.2.2; omega
          refine x_iload_n B dX8_freeNow_79 rfl ?_
          refine x_if_ne B (tgt := 90) dX8_freeNow_80 (by decide) ⟨by omega, by omega⟩ (fun h_80 => ?_) (fun h_80 => ?_)
          · refine x_iload_n B dX8_freeNow_90 rfl ?_
            refine x_iconst B dX8_freeNow_91 ?_
            refine x_icmp_ge B (tgt := 107) dX8_freeNow_92 (by decide) ⟨by omega, by omega⟩ ⟨by omega, by omega⟩ (fun h_92 => ?_) (fun h_92 => ?_)
            · have hvr := f_e_r hOr hA (t := t_M X (-1) 1) (by omega) hm.1 hm.2
              refine x_aload_n B dX8_freeNow_107 rfl ?_
              refine x_iload_n B dX8_freeNow_108 rfl ?_
              refine x_iload_n B dX8_freeNow_109 rfl ?_
              refine x_iload B dX8_freeNow_110 rfl ?_
              refine x_goP (x_rV B h8 (show x_cl[7]? = some _ from rfl) (c_X8_ends (by first | exact hZ4 | exact hZ) (show 0 ≤ (t_M X (-1) 1) ∧ (t_M X (-1) 1) ≤ 2 by omega) hm.1 hm.2 (by first | exact hB4 | exact hU _ (by omega) (by omega))) (lw_V q1801 q1803 qs92 q122 q1804) hv_X8_ends ⟨by decide, by decide⟩ ⟨by decide, by decide⟩ rfl rfl (by simp [x_cr, x_c1, x_c2]) dX8_freeNow_112) ?_
              refine x_iret B (fun _ _ h => h) ?_ dX8_freeNow_115
              first
              | (refine ⟨?_, hz.trans hh4, hr.trans ⟨ho4 65 (by omega) (by omega), h64 1 (by omega) (by omega)⟩, (ho4 80 (by omega) (by omega)).trans z80, ?_⟩; (unfold f_now; rw [if_neg (by omega), if_neg hL3, if_pos hl0]); (unfold f_lnow f_lat; rw [if_neg (by omega), if_pos hl0, if_pos (Or.inl rfl), if_neg (by omega), e4]))
              | (refine ⟨?_, hz, hr, z80, ?_⟩; (unfold f_now; rw [if_neg (by omega), if_neg hL3, if_pos hl0]); (unfold f_lnow f_lat; rw [if_neg (by omega), if_pos hl0, if_pos (Or.inl rfl), if_pos (by omega), z34]))
            · refine x_aload_n B dX8_freeNow_95 rfl ?_
              refine x_iload_n B dX8_freeNow_96 rfl ?_
              refine x_iload_n B dX8_freeNow_97 rfl ?_
              refine x_iconst B dX8_freeNow_98 ?_
              refine x_iadd B dX8_freeNow_99 ?_
              refine x_iload B dX8_freeNow_100 rfl ?_
              refine x_iload_n B dX8_freeNow_102 rfl ?_
              refine x_iadd B dX8_freeNow_103 ?_
              refine x_go (x_rV B h8 (show x_cl[7]? = some _ from rfl) (c_X8_nextLoadOf hZ (show 0 ≤ (t_M X (-1) 1) + 1 ∧ (t_M X (-1) 1) + 1 ≤ 2 by omega) (show 0 ≤ (m_sum (t_M X) a - t_M X a (10 + t_M X (-1) 1)) + (t_M X a (10 + t_M X (-1) 1)) ∧ (m_sum (t_M X) a - t_M X a (10 + t_M X (-1) 1)) + (t_M X a (10 + t_M X (-1) 1)) ≤ 40 * ((t_M X (-1) 1) + 1) by omega) (hU _ (by omega) (by omega))) (lw_V q1813 q1815 qs94 q122 q1816) hv_X8_nextLoadOf ⟨by decide, by decide⟩ ⟨by decide, by decide⟩ rfl rfl (by simp [x_cr, x_c1, x_c2]) dX8_freeNow_104) (fun v_104 X_104 p_104 => ?_)
              obtain ⟨rfl, ho4, h64, e4⟩ := p_104
              have hh4 : h_eq X_58 X_104 := ⟨fun b b1 b2 b3 => ho4 b b1 (by omega), fun i i1 i2 i3 => h64 i (by omega) (by omega)⟩
              have hZ4 := hZ.h hh4 (ho4 80 (by omega) (by omega))
              have hB4 : bh8 X_104 O A (t_M X (-1) 1 + 1) := fun s s1 s2 => by rw [ho4 83 (by omega) (by omega)]; exact hU _ (by omega) (by omega) s s1 s2
              have hvr := f_e_r hOr hA (t := t_M X (-1) 1) (by omega) hm.1 hm.2
              refine x_aload_n B dX8_freeNow_107 rfl ?_
              refine x_iload_n B dX8_freeNow_108 rfl ?_
              refine x_iload_n B dX8_freeNow_109 rfl ?_
              refine x_iload B dX8_freeNow_110 rfl ?_
              refine x_goP (x_rV B h8 (show x_cl[7]? = some _ from rfl) (c_X8_ends (by first | exact hZ4 | exact hZ) (show 0 ≤ (t_M X (-1) 1) ∧ (t_M X (-1) 1) ≤ 2 by omega) hm.1 hm.2 (by first | exact hB4 | exact hU _ (by omega) (by omega))) (lw_V q1801 q1803 qs92 q122 q1804) hv_X8_ends ⟨by decide, by decide⟩ ⟨by decide, by decide⟩ rfl rfl (by simp [x_cr, x_c1, x_c2]) dX8_freeNow_112) ?_
              refine x_iret B (fun _ _ h => h) ?_ dX8_freeNow_115
              first
              | (refine ⟨?_, hz.trans hh4, hr.trans ⟨ho4 65 (by omega) (by omega), h64 1 (by omega) (by omega)⟩, (ho4 80 (by omega) (by omega)).trans z80, ?_⟩; (unfold f_now; rw [if_neg (by omega), if_neg hL3, if_pos hl0]); (unfold f_lnow f_lat; rw [if_neg (by omega), if_pos hl0, if_pos (Or.inl rfl), if_neg (by omega), e4]))
              | (refine ⟨?_, hz, hr, z80, ?_⟩; (unfold f_now; rw [if_neg (by omega), if_neg hL3, if_pos hl0]); (unfold f_lnow f_lat; rw [if_neg (by omega), if_pos hl0, if_pos (Or.inl rfl), if_pos (by omega), z34]))
          · refine x_aload_n B dX8_freeNow_83 rfl ?_
            refine x_getC0 B (k := 28) hT rfl rfl xc_7 (by decide) h8 (Or.inl q1363) (fun _ h => h) dX8_freeNow_84 (fun k_84 => ?_)
            refine x_iconst B dX8_freeNow_87 ?_
            refine x_iald B k_84 ⟨by omega, by omega⟩ dX8_freeNow_88 (fun r_88 => ?_)
            rw [z80, eA 0 (by omega) (by omega)] at r_88 ⊢
            refine x_iret B (fun _ _ h => h) ?_ dX8_freeNow_89
            refine ⟨?_, hz, hr, z80, ?_⟩
            · unfold f_now f_e; rw [if_neg (by omega), if_neg hL3, if_pos hl0, if_pos (by omega)]
            · unfold f_lnow f_lat; rw [if_neg (by omega), if_pos hl0, if_pos (Or.inl rfl), if_pos (Or.inl (by omega)), z34]
    · refine x_aload_n B dX8_freeNow_20 rfl ?_
      refine x_getC0 B (k := 28) hT rfl rfl xc_7 (by decide) h8 (Or.inl q1363) (fun _ h => h) dX8_freeNow_21 (fun k_21 => ?_)
      refine x_aload_n B dX8_freeNow_24 rfl ?_
      refine x_iload_n B dX8_freeNow_25 rfl ?_
      refine x_goP (x_rV B h8 (show x_cl[7]? = some _ from rfl) (c_X8_sumOf hKY hWY.V (by rw [y3]; exact ha)) (lw_V q1600 q1602 qs62 q122 q1603) hv_X8_sumOf ⟨by decide, by decide⟩ ⟨by decide, by decide⟩ rfl rfl (by simp [x_cr, x_c1, x_c2]) dX8_freeNow_26) ?_
      rw [yM]
      refine x_iald B k_21 ⟨by omega, by omega⟩ dX8_freeNow_29 (fun r_29 => ?_)
      rw [e80, eA _ sr.1 sr.2] at r_29 ⊢
      refine x_iret B (fun _ _ h => h) ?_ dX8_freeNow_30
      have hz : t_M X a 7 ≠ 0 ∨ t_M X (-1) 1 = 3 := by
        by_cases z : t_M X a 7 = 0
        · refine Or.inr ?_
          first | (by_cases y : X 72 0 = 3; omega; rw [if_neg y] at h_17; omega) | (rw [if_neg (by omega)] at h_10; omega)
        · exact Or.inl z
      refine ⟨?_, hz1, hr1, e80, by unfold f_lnow; rw [if_pos hz, e34]⟩
      unfold f_now
      by_cases z : t_M X a 7 ≠ 0
      · rw [if_pos z, show m_sum (t_M X) a = 0 by unfold m_sum; rw [if_neg z]]
      · rw [if_neg z, if_pos (by omega)]
def q8_fr (X : x_X) (A : Int → Int) (a : Int) : Int := f_now (t_O X a) A (t_M X) a (m_least (t_M X) a)
def q8_lf (X : x_X) (A : Int → Int) (a : Int) : Int := f_lnow (t_O X a) A (t_M X) a
theorem h_eq.fr {X Y : x_X} (h : h_eq X Y) (A : Int → Int) (a : Int) : q8_fr Y A a = q8_fr X A a ∧ q8_lf Y A a = q8_lf X A a := by
  obtain ⟨-, eM, -, -, -, eO, -⟩ := h.v
  unfold q8_fr q8_lf; rw [eM, eO]; exact ⟨rfl, rfl⟩
theorem e8.mk {κ : x_Ka} {X : x_X} {A : Int → Int} {a : Int} (hC : t_C κ X) (ha : 0 ≤ a ∧ a < X 64 3) (eA : ∀ v, 0 ≤ v → v ≤ 120 → X 80 v = A v) (hA : ∀ v, 0 ≤ v → v ≤ 120 → 0 ≤ A v ∧ A v ≤ 1000000) : e8 κ X (t_O X a) A a := ⟨hC.1, hC.2.2.1, ha, rfl, eA, hA, fun t x f t1 t2 f0 => t_O_r (κ := κ) hC.2.2.1 ha ⟨t1, by omega⟩ f0⟩
theorem h_eq.Q {X Y : x_X} (h : h_eq X Y) (hQ : m_Q (X 64 3) (t_M X)) : m_Q (Y 64 3) (t_M Y) := by rw [h.v.1, h.v.2.1]; exact hQ
theorem q8_fr_r {κ : x_Ka} {X : x_X} {A : Int → Int} {a : Int} (hC : t_C κ X) (ha : 0 ≤ a ∧ a < X 64 3) (hA : ∀ v, 0 ≤ v → v ≤ 120 → 0 ≤ A v ∧ A v ≤ 1000000) : (0 ≤ q8_fr X A a ∧ q8_fr X A a ≤ 1000000) ∧ (0 ≤ q8_lf X A a ∧ q8_lf X A a ≤ 40) := by
  have hO : ∀ t x f, 0 ≤ t → t ≤ 2 → 0 ≤ f → 0 ≤ t_O X a t x f ∧ t_O X a t x f ≤ 1000 := fun t x f t1 t2 f0 => t_O_r (κ := κ) hC.2.2.1 ha ⟨t1, by omega⟩ f0
  have hr := f_w_r hO hA
  have hW := hC.2.2.2.1
  have w1 := hW.1
  have w2 := hW.2.1 a ha.1 ha.2
  have hl := m_least_r hW ha.1 ha.2
  have hs := m_sum_r hW ha.1 ha.2
  refine ⟨?_, ?_⟩
  · unfold q8_fr f_now
    by_cases q : t_M X a 7 ≠ 0
    · rw [if_pos q]; exact hA 0 (by omega) (by omega)
    · rw [if_neg q]
      by_cases q2 : t_M X (-1) 1 = 3
      · rw [if_pos q2]; exact hA _ hs.1 hs.2
      · rw [if_neg q2]
        have hre := m_rest hW ha.1 ha.2 (by omega) q2
        split
        · exact f_e_r hO hA (by omega) hre.1 hre.2
        · exact hr 12 _ _ _ _ _ _ (by omega) hre.1 hre.2 (by omega) (by omega)
  · unfold q8_lf f_lnow
    by_cases q : t_M X a 7 ≠ 0 ∨ t_M X (-1) 1 = 3
    · rw [if_pos q]; omega
    · rw [if_neg q]
      have hre := m_rest hW ha.1 ha.2 (by omega) (by omega)
      generalize htr : (if t_M X a 3 = 0 then 3 else t_M X (-1) 2 + t_M X a 6) = tr
      unfold f_lat
      by_cases q3 : tr = 3 ∨ m_least (t_M X) a > 40
      · rw [if_pos q3]
        by_cases q4 : t_M X a (10 + t_M X (-1) 1) = 0 ∨ t_M X (-1) 1 = 2
        · rw [if_pos q4]; omega
        · rw [if_neg q4]
          have := (f_d8_r hO hA (tr := 0) (t := t_M X (-1) 1 + 1) (sum := m_sum (t_M X) a - t_M X a (10 + t_M X (-1) 1) + t_M X a (10 + t_M X (-1) 1)) (fl := 0) (best := 0) (least := 1) (by omega) (by omega) (by omega) (by omega) (by omega)).1
          omega
      · rw [if_neg q3]
        have h30 : t_M X a 3 ≠ 0 := by intro z; exact q3 (Or.inl (by rw [← htr, if_pos z]))
        have := (f_d8_r hO hA (tr := tr) (t := t_M X (-1) 1) (sum := m_sum (t_M X) a - t_M X a (10 + t_M X (-1) 1)) (fl := t_M X a 2) (best := t_M X a (10 + t_M X (-1) 1)) (least := m_least (t_M X) a) (by omega) hre.1 hre.2 (by omega) (by have := hl.2.2 h30; omega)).1
        omega
theorem c_X8_tellsFree {l : Launch} {E : x_E} {κ : x_Ka} {X : x_X} {A : Int → Int} {a : Int} (hC : t_C κ X) (ha : 0 ≤ a ∧ a < X 64 3) (hQ : m_Q (X 64 3) (t_M X)) (eA : ∀ v, 0 ≤ v → v ≤ 120 → X 80 v = A v) (hA : ∀ v, 0 ≤ v → v ≤ 120 → 0 ≤ A v ∧ A v ≤ 1000000) : x_Met l yX8_tellsFree cX8_tellsFree 3 (some .int) 29 0 0 E κ X [x_rf E 64, vi a] κ (fun v_ Y_ => h_eq X Y_ ∧ v_ = some (vi (q8_fr X A a)) ∧ Y_ 64 1 = 2 ∧ Y_ 65 0 = q8_lf X A a ∧ Y_ 65 1 = q8_pl X A a) := by
  refine x_Met.of [(false, x_rf E 64), (false, vi a)] [some (x_rf E 64), some (vi a), none] 1 (by decide) rfl rfl ⟨x_cr E (64), rfl, trivial⟩ rfl rfl ?_
  intro p e s m args below meth c hargs hin B
  obtain ⟨hK, hP, hO, hW, hLa⟩ := id hC
  obtain ⟨hT, h8, hn⟩ := id hK
  refine x_aload_n B dX8_tellsFree_0 rfl ?_
  refine x_iload_n B dX8_tellsFree_1 rfl ?_
  refine x_go (x_rV B h8 (show x_cl[7]? = some _ from rfl) (c_X8_freeNow (e8.mk hC ha eA hA) hC hQ) (lw_V q1786 q1788 qs89 q122 q1789) hv_X8_freeNow ⟨by decide, by decide⟩ ⟨by decide, by decide⟩ rfl rfl (by simp [x_cr, x_c1, x_c2]) dX8_tellsFree_2) (fun v_2 X_2 p_2 => ?_)
  obtain ⟨rfl, hh, hr, h80, h34⟩ := p_2
  have hqr := q8_fr_r hC ha hA
  refine x_ist_2 B dX8_tellsFree_5 (by first | rfl | exact x_cr _ _) ?_
  refine x_aload_n B dX8_tellsFree_6 rfl ?_
  refine x_iconst B dX8_tellsFree_7 ?_
  refine x_putI B (k := 1) 1 rfl rfl rfl ⟨by omega, by omega⟩ xc_7 (by decide) rfl nn_7_1 (fun _ => rfl) h8 (Or.inl q1336) (fun _ h => h) dX8_tellsFree_8 ?_
  have hh1 : h_eq X (x_up X_2 64 1 0) := hh.u64 (Or.inr (Or.inl rfl))
  have e34 : x_up X_2 64 1 0 64 34 = q8_lf X A a := by rw [x_up_n _ (Or.inr (by omega))]; exact h34
  have hz1 : x_up X_2 64 1 0 64 1 = 0 := x_up_s _ _ _ _
  have y80 : x_up X_2 64 1 0 80 = X 80 := (x_up_o _ (by omega)).trans h80
  generalize x_up X_2 64 1 0 = Y at hh1 e34 hz1 y80 ⊢
  have t1 := t_tl1 Y (q8_lf X A a) hz1
  have hh2 := hh1.tl (z := q8_lf X A a)
  have C3 := hh2.C hC
  have z3 : t_tl Y (q8_lf X A a) 64 3 = X 64 3 := hh2.v.1
  have z80 : t_tl Y (q8_lf X A a) 80 = X 80 := by unfold t_tl; rw [x_up_o _ (by omega), x_up_o _ (by omega), y80]
  refine x_aload_n B dX8_tellsFree_11 rfl ?_
  refine x_aload_n B dX8_tellsFree_12 rfl ?_
  refine x_getI B (k := 34) 34 rfl rfl xc_7 (by decide) h8 (Or.inl q1369) (fun _ h => h) dX8_tellsFree_13 (fun r_13 => ?_)
  rw [e34] at r_13 ⊢
  refine x_i2l B dX8_tellsFree_16 ⟨by omega, by omega⟩ ?_
  refine x_goV (x_rV B h8 (show x_cl[7]? = some _ from rfl) (c_X8_notes hT h8 ⟨by rw [hz1]; omega, by rw [hz1]; omega⟩ ⟨by omega, by omega⟩) (lw_V q1616 q1618 qs65 q122 q1619) hv_X8_notes ⟨by decide, by decide⟩ ⟨by decide, by decide⟩ rfl rfl (by simp [x_cr, x_c1, x_c2]) dX8_tellsFree_17) ?_
  change x_G _ _ _ _ _ _ _ _ _ _ _ _ _ _ _ _ _ _ _ (t_tl Y (q8_lf X A a))
  refine x_aload_n B dX8_tellsFree_20 rfl ?_
  refine x_aload_n B dX8_tellsFree_21 rfl ?_
  refine x_iload_n B dX8_tellsFree_22 rfl ?_
  refine x_goP (x_rV B h8 (show x_cl[7]? = some _ from rfl) (c_X8_planNow C3 (by rw [z3]; exact ha) (fun v v1 v2 => by rw [z80, eA v v1 v2]; exact hA v v1 v2)) (lw_V q1693 q1695 qs76 q122 q1696) hv_X8_planNow ⟨by decide, by decide⟩ ⟨by decide, by decide⟩ rfl rfl (by simp [x_cr, x_c1, x_c2]) dX8_tellsFree_23) ?_
  rw [q8_c (A2 := A) C3 (by rw [z3]; exact ha) (fun v v1 v2 => by rw [z80]; exact eA v v1 v2), hh2.q]
  have hpr := q8_r hC ha hA
  refine x_i2l B dX8_tellsFree_26 ⟨by omega, by omega⟩ ?_
  refine x_goV (x_rV B h8 (show x_cl[7]? = some _ from rfl) (c_X8_notes hT h8 ⟨by rw [t1.1]; omega, by rw [t1.1]; omega⟩ ⟨by omega, by omega⟩) (lw_V q1616 q1618 qs65 q122 q1619) hv_X8_notes ⟨by decide, by decide⟩ ⟨by decide, by decide⟩ rfl rfl (by simp [x_cr, x_c1, x_c2]) dX8_tellsFree_27) ?_
  refine x_iload_n B dX8_tellsFree_30 rfl ?_
  refine x_iret B (fun _ _ h => h) ?_ dX8_tellsFree_31
  have t2 := t_tl1 (t_tl Y (q8_lf X A a)) (q8_pl X A a) t1.1
  exact ⟨hh2.tl, rfl, t2.1, (t2.2.2 0 (by omega)).trans t1.2.1, t2.2.1⟩
theorem c_X8_heavy {l : Launch} {E : x_E} {κ : x_Ka} {X : x_X} {i : Int} (hC : t_C κ X) (hQ : m_Q (X 64 3) (t_M X)) (hx : xR i) : x_Met l yX8_heavy cX8_heavy 2 (some .int) 33 0 0 E κ X [x_rf E 64, vi i] κ (fun v_ Y_ => h_eq X Y_ ∧ (if x_in i 0 (X 64 3 - 1) = 1 then (v_ = some (vi (q8_fr X (fun v => 1000 * v) i)) ∧ Y_ 64 1 = 2 ∧ Y_ 65 0 = q8_lf X (fun v => 1000 * v) i ∧ Y_ 65 1 = q8_pl X (fun v => 1000 * v) i) else (v_ = some (vi (-1)) ∧ hr8 X Y_))) := by
  refine x_Met.of [(false, x_rf E 64), (false, vi i)] [some (x_rf E 64), some (vi i)] 0 (by decide) rfl rfl ⟨x_cr E (64), rfl, trivial⟩ rfl rfl ?_
  intro p e s m args below meth c hargs hin B
  obtain ⟨hK, hP, hO, hW, hLa⟩ := id hC
  obtain ⟨hT, h8, hn⟩ := id hK
  have z1 := x_in_01 i 0 (X 64 3 - 1)
  refine x_aload_n B dX8_heavy_0 rfl ?_
  refine x_iconst B dX8_heavy_1 ?_
  refine x_putI B (k := 0) 0 rfl rfl rfl ⟨by omega, by omega⟩ xc_7 (by decide) rfl nn_7_0 (fun _ => rfl) h8 (Or.inl q1335) (fun _ h => h) dX8_heavy_2 ?_
  have hz : h_eq X (x_up X 64 0 0) := h_eq.z
  have hrz : hr8 X (x_up X 64 0 0) := hr8.z
  have C0 := hz.C hC
  obtain ⟨e3, eM, el, eli, ep, eO, eG⟩ := hz.v
  generalize hX0 : x_up X 64 0 0 = X0 at hz hrz C0 e3 eM el eli ep eO eG ⊢
  obtain ⟨hK0, hP0, hO0, hW0, hL0⟩ := id C0
  refine x_aload_n B dX8_heavy_5 rfl ?_
  refine x_iload_n B dX8_heavy_6 rfl ?_
  refine x_goP (x_rV B h8 (show x_cl[7]? = some _ from rfl) (c_X8_isLifter hK0 hx) (lw_V q1553 q1555 qs57 q122 q1556) hv_X8_isLifter ⟨by decide, by decide⟩ ⟨by decide, by decide⟩ rfl rfl (by simp [x_cr, x_c1, x_c2]) dX8_heavy_7) ?_
  rw [e3]
  refine x_if_ne B (tgt := 15) dX8_heavy_10 (by decide) ⟨by omega, by omega⟩ (fun h_10 => ?_) (fun h_10 => ?_)
  · have hi : 0 ≤ i ∧ i < X 64 3 := by unfold x_in at h_10; split at h_10 <;> omega
    refine x_aload_n B dX8_heavy_15 rfl ?_
    refine x_go (x_rV B h8 (show x_cl[7]? = some _ from rfl) (c_X8_aimsMass hT h8) (lw_V q1689 q1691 qs75 q122 q1692) hv_X8_aimsMass ⟨by decide, by decide⟩ ⟨by decide, by decide⟩ rfl rfl (by simp [x_cr, x_c1, x_c2]) dX8_heavy_16) (fun v_16 X_16 p_16 => ?_)
    obtain ⟨rfl, hw, hv⟩ := p_16
    have hh := hz.trans hw.h
    have C2 := hh.C hC
    have y3 : X_16 64 3 = X 64 3 := hh.v.1
    refine x_aload_n B dX8_heavy_19 rfl ?_
    refine x_iload_n B dX8_heavy_20 rfl ?_
    refine x_go (x_rV B h8 (show x_cl[7]? = some _ from rfl) (c_X8_tellsFree (A := (fun v => 1000 * v)) C2 (by rw [y3]; exact hi) (hh.Q hQ) hv (fun v v1 v2 => by omega)) (lw_V q1782 q1784 qs88 q122 q1785) hv_X8_tellsFree ⟨by decide, by decide⟩ ⟨by decide, by decide⟩ rfl rfl (by simp [x_cr, x_c1, x_c2]) dX8_heavy_21) (fun v_21 X_21 p_21 => ?_)
    obtain ⟨hhT, rfl, t1, t2, t3⟩ := p_21
    rw [(hh.fr (fun v => 1000 * v) i).1]
    rw [(hh.fr (fun v => 1000 * v) i).2] at t2
    rw [hh.q] at t3
    refine x_iret B (fun _ _ h => h) ?_ dX8_heavy_24
    refine ⟨hh.trans hhT, ?_⟩
    rw [if_pos (by omega)]
    exact ⟨rfl, t1, t2, t3⟩
  · refine x_iconst B dX8_heavy_13 ?_
    refine x_iret B (fun _ _ h => h) ?_ dX8_heavy_14
    exact ⟨hz, by rw [if_neg (by omega)]; exact ⟨rfl, hrz⟩⟩
theorem c_X8_reach {l : Launch} {E : x_E} {κ : x_Ka} {X : x_X} {i w : Int} (hC : t_C κ X) (hQ : m_Q (X 64 3) (t_M X)) (hx : xR i) (hy : xR w) : x_Met l yX8_reach cX8_reach 3 (some .int) 33 0 0 E κ X [x_rf E 64, vi i, vi w] κ (fun v_ Y_ => h_eq X Y_ ∧ (if x_in i 0 (X 64 3 - 1) = 1 ∧ x_in w 0 121 = 1 then (v_ = some (vi (q8_fr X (a_rc w) i)) ∧ Y_ 64 1 = 2 ∧ Y_ 65 0 = q8_lf X (a_rc w) i ∧ Y_ 65 1 = q8_pl X (a_rc w) i) else (v_ = some (vi (-1)) ∧ hr8 X Y_))) := by
  refine x_Met.of [(false, x_rf E 64), (false, vi i), (false, vi w)] [some (x_rf E 64), some (vi i), some (vi w)] 0 (by decide) rfl rfl ⟨x_cr E (64), rfl, rfl, trivial⟩ rfl rfl ?_
  intro p e s m args below meth c hargs hin B
  obtain ⟨hK, hP, hO, hW, hLa⟩ := id hC
  obtain ⟨hT, h8, hn⟩ := id hK
  have z1 := x_in_01 i 0 (X 64 3 - 1)
  have z2 := x_in_01 w 0 121
  refine x_aload_n B dX8_reach_0 rfl ?_
  refine x_iconst B dX8_reach_1 ?_
  refine x_putI B (k := 0) 0 rfl rfl rfl ⟨by omega, by omega⟩ xc_7 (by decide) rfl nn_7_0 (fun _ => rfl) h8 (Or.inl q1335) (fun _ h => h) dX8_reach_2 ?_
  have hz : h_eq X (x_up X 64 0 0) := h_eq.z
  have hrz : hr8 X (x_up X 64 0 0) := hr8.z
  have C0 := hz.C hC
  obtain ⟨e3, eM, el, eli, ep, eO, eG⟩ := hz.v
  generalize hX0 : x_up X 64 0 0 = X0 at hz hrz C0 e3 eM el eli ep eO eG ⊢
  obtain ⟨hK0, hP0, hO0, hW0, hL0⟩ := id C0
  refine x_aload_n B dX8_reach_5 rfl ?_
  refine x_iload_n B dX8_reach_6 rfl ?_
  refine x_goP (x_rV B h8 (show x_cl[7]? = some _ from rfl) (c_X8_isLifter hK0 hx) (lw_V q1553 q1555 qs57 q122 q1556) hv_X8_isLifter ⟨by decide, by decide⟩ ⟨by decide, by decide⟩ rfl rfl (by simp [x_cr, x_c1, x_c2]) dX8_reach_7) ?_
  rw [e3]
  refine x_if_eq B (tgt := 20) dX8_reach_10 (by decide) ⟨by omega, by omega⟩ (fun h_10 => ?_) (fun h_10 => ?_)
  · refine x_iconst B dX8_reach_20 ?_
    refine x_iret B (fun _ _ h => h) ?_ dX8_reach_21
    exact ⟨hz, by rw [if_neg (by omega)]; exact ⟨rfl, hrz⟩⟩
  · refine x_iload_n B dX8_reach_13 rfl ?_
    refine x_goP (x_rS B (c_X8_isTotal ⟨by omega, by omega⟩) (lw_S q1721 q1722 q122 q1723) hd_X8_isTotal ⟨by decide, by decide⟩ ⟨by decide, by decide⟩ rfl rfl (by simp [x_cr, x_c1, x_c2]) dX8_reach_14) ?_
    refine x_if_ne B (tgt := 22) dX8_reach_17 (by decide) ⟨by omega, by omega⟩ (fun h_17 => ?_) (fun h_17 => ?_)
    · have hi : 0 ≤ i ∧ i < X 64 3 := by unfold x_in at h_10; split at h_10 <;> omega
      refine x_aload_n B dX8_reach_22 rfl ?_
      refine x_iload_n B dX8_reach_23 rfl ?_
      refine x_go (x_rV B h8 (show x_cl[7]? = some _ from rfl) (c_X8_aimsReach hT h8 hy) (lw_V q1729 q1731 qs82 q122 q1732) hv_X8_aimsReach ⟨by decide, by decide⟩ ⟨by decide, by decide⟩ rfl rfl (by simp [x_cr, x_c1, x_c2]) dX8_reach_24) (fun v_24 X_24 p_24 => ?_)
      obtain ⟨rfl, hw, hv⟩ := p_24
      have hh := hz.trans hw.h
      have C2 := hh.C hC
      have y3 : X_24 64 3 = X 64 3 := hh.v.1
      refine x_aload_n B dX8_reach_27 rfl ?_
      refine x_iload_n B dX8_reach_28 rfl ?_
      refine x_go (x_rV B h8 (show x_cl[7]? = some _ from rfl) (c_X8_tellsFree (A := (a_rc w)) C2 (by rw [y3]; exact hi) (hh.Q hQ) hv (fun v _ _ => a_rc_r w v)) (lw_V q1782 q1784 qs88 q122 q1785) hv_X8_tellsFree ⟨by decide, by decide⟩ ⟨by decide, by decide⟩ rfl rfl (by simp [x_cr, x_c1, x_c2]) dX8_reach_29) (fun v_29 X_29 p_29 => ?_)
      obtain ⟨hhT, rfl, t1, t2, t3⟩ := p_29
      rw [(hh.fr (a_rc w) i).1]
      rw [(hh.fr (a_rc w) i).2] at t2
      rw [hh.q] at t3
      refine x_iret B (fun _ _ h => h) ?_ dX8_reach_32
      refine ⟨hh.trans hhT, ?_⟩
      rw [if_pos (⟨by omega, by omega⟩)]
      exact ⟨rfl, t1, t2, t3⟩
    · refine x_iconst B dX8_reach_20 ?_
      refine x_iret B (fun _ _ h => h) ?_ dX8_reach_21
      exact ⟨hz, by rw [if_neg (by omega)]; exact ⟨rfl, hrz⟩⟩
theorem c_X8_against {l : Launch} {E : x_E} {κ : x_Ka} {X : x_X} {i j : Int} (hC : t_C κ X) (hQ : m_Q (X 64 3) (t_M X)) (hx : xR i) (hy : xR j) : x_Met l yX8_against cX8_against 3 (some .int) 33 0 0 E κ X [x_rf E 64, vi i, vi j] κ (fun v_ Y_ => h_eq X Y_ ∧ (if x_in i 0 (X 64 3 - 1) = 1 ∧ x_in j 0 (X 64 3 - 1) = 1 ∧ i ≠ j then (v_ = some (vi (q8_fr X (q8_bt X i j) i)) ∧ Y_ 64 1 = 2 ∧ Y_ 65 0 = q8_lf X (q8_bt X i j) i ∧ Y_ 65 1 = q8_pl X (q8_bt X i j) i) else (v_ = some (vi (-1)) ∧ hr8 X Y_))) := by
  refine x_Met.of [(false, x_rf E 64), (false, vi i), (false, vi j)] [some (x_rf E 64), some (vi i), some (vi j)] 0 (by decide) rfl rfl ⟨x_cr E (64), rfl, rfl, trivial⟩ rfl rfl ?_
  intro p e s m args below meth c hargs hin B
  obtain ⟨hK, hP, hO, hW, hLa⟩ := id hC
  obtain ⟨hT, h8, hn⟩ := id hK
  have z1 := x_in_01 i 0 (X 64 3 - 1)
  have z2 := x_in_01 j 0 (X 64 3 - 1)
  refine x_aload_n B dX8_against_0 rfl ?_
  refine x_iconst B dX8_against_1 ?_
  refine x_putI B (k := 0) 0 rfl rfl rfl ⟨by omega, by omega⟩ xc_7 (by decide) rfl nn_7_0 (fun _ => rfl) h8 (Or.inl q1335) (fun _ h => h) dX8_against_2 ?_
  have hz : h_eq X (x_up X 64 0 0) := h_eq.z
  have hrz : hr8 X (x_up X 64 0 0) := hr8.z
  have C0 := hz.C hC
  obtain ⟨e3, eM, el, eli, ep, eO, eG⟩ := hz.v
  generalize hX0 : x_up X 64 0 0 = X0 at hz hrz C0 e3 eM el eli ep eO eG ⊢
  obtain ⟨hK0, hP0, hO0, hW0, hL0⟩ := id C0
  refine x_aload_n B dX8_against_5 rfl ?_
  refine x_iload_n B dX8_against_6 rfl ?_
  refine x_goP (x_rV B h8 (show x_cl[7]? = some _ from rfl) (c_X8_isLifter hK0 hx) (lw_V q1553 q1555 qs57 q122 q1556) hv_X8_isLifter ⟨by decide, by decide⟩ ⟨by decide, by decide⟩ rfl rfl (by simp [x_cr, x_c1, x_c2]) dX8_against_7) ?_
  rw [e3]
  refine x_if_eq B (tgt := 26) dX8_against_10 (by decide) ⟨by omega, by omega⟩ (fun h_10 => ?_) (fun h_10 => ?_)
  · refine x_iconst B dX8_against_26 ?_
    refine x_iret B (fun _ _ h => h) ?_ dX8_against_27
    exact ⟨hz, by rw [if_neg (by omega)]; exact ⟨rfl, hrz⟩⟩
  · refine x_aload_n B dX8_against_13 rfl ?_
    refine x_iload_n B dX8_against_14 rfl ?_
    refine x_goP (x_rV B h8 (show x_cl[7]? = some _ from rfl) (c_X8_isLifter hK0 hy) (lw_V q1553 q1555 qs57 q122 q1556) hv_X8_isLifter ⟨by decide, by decide⟩ ⟨by decide, by decide⟩ rfl rfl (by simp [x_cr, x_c1, x_c2]) dX8_against_15) ?_
    rw [e3]
    refine x_if_eq B (tgt := 26) dX8_against_18 (by decide) ⟨by omega, by omega⟩ (fun h_18 => ?_) (fun h_18 => ?_)
    · refine x_iconst B dX8_against_26 ?_
      refine x_iret B (fun _ _ h => h) ?_ dX8_against_27
      exact ⟨hz, by rw [if_neg (by omega)]; exact ⟨rfl, hrz⟩⟩
    · refine x_iload_n B dX8_against_21 rfl ?_
      refine x_iload_n B dX8_against_22 rfl ?_
      refine x_icmp_ne B (tgt := 28) dX8_against_23 (by decide) ⟨by omega, by omega⟩ ⟨by omega, by omega⟩ (fun h_23 => ?_) (fun h_23 => ?_)
      · have hi : 0 ≤ i ∧ i < X 64 3 := by unfold x_in at h_10; split at h_10 <;> omega
        have hj : 0 ≤ j ∧ j < X 64 3 := by unfold x_in at h_18; split at h_18 <;> omega
        refine x_aload_n B dX8_against_28 rfl ?_
        refine x_iload_n B dX8_against_29 rfl ?_
        refine x_iload_n B dX8_against_30 rfl ?_
        refine x_go (x_rV B h8 (show x_cl[7]? = some _ from rfl) (c_X8_aimsBeat C0 (by rw [e3]; exact hi) (by rw [e3]; exact hj)) (lw_V q1746 q1748 qs84 q122 q1749) hv_X8_aimsBeat ⟨by decide, by decide⟩ ⟨by decide, by decide⟩ rfl rfl (by simp [x_cr, x_c1, x_c2]) dX8_against_31) (fun v_31 X_31 p_31 => ?_)
        obtain ⟨rfl, hw, hv⟩ := p_31
        rw [hz.bt] at hv
        have hh := hz.trans hw.h
        have C2 := hh.C hC
        have y3 : X_31 64 3 = X 64 3 := hh.v.1
        refine x_aload_n B dX8_against_34 rfl ?_
        refine x_iload_n B dX8_against_35 rfl ?_
        refine x_go (x_rV B h8 (show x_cl[7]? = some _ from rfl) (c_X8_tellsFree (A := (q8_bt X i j)) C2 (by rw [y3]; exact hi) (hh.Q hQ) hv (fun v v1 v2 => q8_bt_r hC hj)) (lw_V q1782 q1784 qs88 q122 q1785) hv_X8_tellsFree ⟨by decide, by decide⟩ ⟨by decide, by decide⟩ rfl rfl (by simp [x_cr, x_c1, x_c2]) dX8_against_36) (fun v_36 X_36 p_36 => ?_)
        obtain ⟨hhT, rfl, t1, t2, t3⟩ := p_36
        rw [(hh.fr (q8_bt X i j) i).1]
        rw [(hh.fr (q8_bt X i j) i).2] at t2
        rw [hh.q] at t3
        refine x_iret B (fun _ _ h => h) ?_ dX8_against_39
        refine ⟨hh.trans hhT, ?_⟩
        rw [if_pos (⟨by omega, by omega, by omega⟩)]
        exact ⟨rfl, t1, t2, t3⟩
      · refine x_iconst B dX8_against_26 ?_
        refine x_iret B (fun _ _ h => h) ?_ dX8_against_27
        exact ⟨hz, by rw [if_neg (by omega)]; exact ⟨rfl, hrz⟩⟩
theorem c_X8_gold {l : Launch} {E : x_E} {κ : x_Ka} {X : x_X} {i : Int} (hC : t_C κ X) (hQ : m_Q (X 64 3) (t_M X)) (hx : xR i) : x_Met l yX8_gold cX8_gold 2 (some .int) 33 0 0 E κ X [x_rf E 64, vi i] κ (fun v_ Y_ => h_eq X Y_ ∧ (if x_in i 0 (X 64 3 - 1) = 1 then (v_ = some (vi (q8_fr X (g_wn (q8_bt X) (X 64 3) i) i)) ∧ Y_ 64 1 = 2 ∧ Y_ 65 0 = q8_lf X (g_wn (q8_bt X) (X 64 3) i) i ∧ Y_ 65 1 = q8_pl X (g_wn (q8_bt X) (X 64 3) i) i) else (v_ = some (vi (-1)) ∧ hr8 X Y_))) := by
  refine x_Met.of [(false, x_rf E 64), (false, vi i)] [some (x_rf E 64), some (vi i)] 0 (by decide) rfl rfl ⟨x_cr E (64), rfl, trivial⟩ rfl rfl ?_
  intro p e s m args below meth c hargs hin B
  obtain ⟨hK, hP, hO, hW, hLa⟩ := id hC
  obtain ⟨hT, h8, hn⟩ := id hK
  have z1 := x_in_01 i 0 (X 64 3 - 1)
  refine x_aload_n B dX8_gold_0 rfl ?_
  refine x_iconst B dX8_gold_1 ?_
  refine x_putI B (k := 0) 0 rfl rfl rfl ⟨by omega, by omega⟩ xc_7 (by decide) rfl nn_7_0 (fun _ => rfl) h8 (Or.inl q1335) (fun _ h => h) dX8_gold_2 ?_
  have hz : h_eq X (x_up X 64 0 0) := h_eq.z
  have hrz : hr8 X (x_up X 64 0 0) := hr8.z
  have C0 := hz.C hC
  obtain ⟨e3, eM, el, eli, ep, eO, eG⟩ := hz.v
  generalize hX0 : x_up X 64 0 0 = X0 at hz hrz C0 e3 eM el eli ep eO eG ⊢
  obtain ⟨hK0, hP0, hO0, hW0, hL0⟩ := id C0
  refine x_aload_n B dX8_gold_5 rfl ?_
  refine x_iload_n B dX8_gold_6 rfl ?_
  refine x_goP (x_rV B h8 (show x_cl[7]? = some _ from rfl) (c_X8_isLifter hK0 hx) (lw_V q1553 q1555 qs57 q122 q1556) hv_X8_isLifter ⟨by decide, by decide⟩ ⟨by decide, by decide⟩ rfl rfl (by simp [x_cr, x_c1, x_c2]) dX8_gold_7) ?_
  rw [e3]
  refine x_if_ne B (tgt := 15) dX8_gold_10 (by decide) ⟨by omega, by omega⟩ (fun h_10 => ?_) (fun h_10 => ?_)
  · have hi : 0 ≤ i ∧ i < X 64 3 := by unfold x_in at h_10; split at h_10 <;> omega
    refine x_aload_n B dX8_gold_15 rfl ?_
    refine x_iload_n B dX8_gold_16 rfl ?_
    refine x_go (x_rV B h8 (show x_cl[7]? = some _ from rfl) (c_X8_aimsWin C0 (by rw [e3]; exact hi)) (lw_V q1762 q1764 qs87 q122 q1765) hv_X8_aimsWin ⟨by decide, by decide⟩ ⟨by decide, by decide⟩ rfl rfl (by simp [x_cr, x_c1, x_c2]) dX8_gold_17) (fun v_17 X_17 p_17 => ?_)
    obtain ⟨rfl, hw, hv⟩ := p_17
    rw [hz.wn] at hv
    have hh := hz.trans hw.h
    have C2 := hh.C hC
    have y3 : X_17 64 3 = X 64 3 := hh.v.1
    refine x_aload_n B dX8_gold_20 rfl ?_
    refine x_iload_n B dX8_gold_21 rfl ?_
    refine x_go (x_rV B h8 (show x_cl[7]? = some _ from rfl) (c_X8_tellsFree (A := (g_wn (q8_bt X) (X 64 3) i)) C2 (by rw [y3]; exact hi) (hh.Q hQ) hv (g_wn_r hC)) (lw_V q1782 q1784 qs88 q122 q1785) hv_X8_tellsFree ⟨by decide, by decide⟩ ⟨by decide, by decide⟩ rfl rfl (by simp [x_cr, x_c1, x_c2]) dX8_gold_22) (fun v_22 X_22 p_22 => ?_)
    obtain ⟨hhT, rfl, t1, t2, t3⟩ := p_22
    rw [(hh.fr (g_wn (q8_bt X) (X 64 3) i) i).1]
    rw [(hh.fr (g_wn (q8_bt X) (X 64 3) i) i).2] at t2
    rw [hh.q] at t3
    refine x_iret B (fun _ _ h => h) ?_ dX8_gold_25
    refine ⟨hh.trans hhT, ?_⟩
    rw [if_pos (by omega)]
    exact ⟨rfl, t1, t2, t3⟩
  · refine x_iconst B dX8_gold_13 ?_
    refine x_iret B (fun _ _ h => h) ?_ dX8_gold_14
    exact ⟨hz, by rw [if_neg (by omega)]; exact ⟨rfl, hrz⟩⟩
def q8_aim (X : x_X) (i z : Int) : Int := s_aim (fun w => q8_fr X (a_rc w) i) z 7 0 120
theorem c_X8_aim {l : Launch} {E : x_E} {κ : x_Ka} {X : x_X} {i z : Int} (hC : t_C κ X) (hQ : m_Q (X 64 3) (t_M X)) (hx : xR i) (hy : xR z) : x_Met l yX8_aim cX8_aim 7 (some .int) 33 0 0 E κ X [x_rf E 64, vi i, vi z] κ (fun v_ Y_ => h_eq X Y_ ∧ (if x_in i 0 (X 64 3 - 1) = 1 ∧ x_in z 1 1000000 = 1 then (v_ = some (vi (q8_aim X i z)) ∧ Y_ 64 1 = 1 ∧ Y_ 65 0 = q8_fr X (a_rc (q8_aim X i z)) i) else (v_ = some (vi (-1)) ∧ hr8 X Y_))) := by
  refine x_Met.of [(false, x_rf E 64), (false, vi i), (false, vi z)] [some (x_rf E 64), some (vi i), some (vi z), none, none, none, none] 4 (by decide) rfl rfl ⟨x_cr E (64), rfl, rfl, trivial⟩ rfl rfl ?_
  intro p e s m args below meth c hargs hin B
  obtain ⟨hK, hP, hO, hW, hLa⟩ := id hC
  obtain ⟨hT, h8, hn⟩ := id hK
  have z1 := x_in_01 i 0 (X 64 3 - 1)
  have z2 := x_in_01 z 1 1000000
  have lp_33 : ∀ (n : Nat) (q : Nat) (lo hi_ : Int) (Y : x_X), ((0 ≤ i ∧ i < X 64 3) ∧ (1 ≤ z ∧ z ≤ 1000000) ∧ (0 ≤ lo ∧ lo ≤ hi_ ∧ hi_ ≤ 120) ∧ (q ≤ 7 ∧ hi_ - lo + 1 ≤ 2 ^ q) ∧ h_eq X Y ∧ hr8 X Y ∧ q8_aim X i z = s_aim (fun w => q8_fr X (a_rc w) i) z q lo hi_) → (q + (hi_ - lo).toNat < n) → x_G p l e (x_rm 33 0 0) s m args below meth c 7 E 0 0 (MQ below (x_Q E κ (fun v_ Y_ => h_eq X Y_ ∧ (if x_in i 0 (X 64 3 - 1) = 1 ∧ x_in z 1 1000000 = 1 then (v_ = some (vi (q8_aim X i z)) ∧ Y_ 64 1 = 1 ∧ Y_ 65 0 = q8_fr X (a_rc (q8_aim X i z)) i) else (v_ = some (vi (-1)) ∧ hr8 X Y_)))) args s 0 0 (fun q => E.1 ≤ q)) κ 33 [some (x_rf E 64), some (vi i), some (vi z), some (vi lo), some (vi (hi_ + 1)), none, none] [] Y := by
    intro n
    induction n with
    | zero => intro q lo hi_ Y hinv hme; exfalso; omega
    | succ n ih =>
      intro q lo hi_ Y hinv hme
      obtain ⟨hi, hz, hlh, ⟨hq7, hqp⟩, hh, hr, he⟩ := hinv
      have CY := hh.C hC
      have hQY := hh.Q hQ
      have y3 : Y 64 3 = X 64 3 := hh.v.1
      refine x_iload B dX8_aim_33 rfl ?_
      refine x_iload_n B dX8_aim_35 rfl ?_
      refine x_iconst B dX8_aim_36 ?_
      refine x_iadd B dX8_aim_37 ?_
      refine x_icmp_le B (tgt := 77) dX8_aim_38 (by decide) ⟨by omega, by omega⟩ ⟨by omega, by omega⟩ (fun h_38 => ?_) (fun h_38 => ?_)
      · obtain rfl : lo = hi_ := by omega
        rw [s_aim_stop q (by omega)] at he
        rw [← he] at hlh ⊢
        have hs0 : 0 ≤ q8_aim X i z ∧ q8_aim X i z ≤ 120 := by omega
        refine x_aload_n B dX8_aim_77 rfl ?_
        refine x_iload_n B dX8_aim_78 rfl ?_
        refine x_go (x_rV B h8 (show x_cl[7]? = some _ from rfl) (c_X8_aimsReach hT h8 ⟨by omega, by omega⟩) (lw_V q1729 q1731 qs82 q122 q1732) hv_X8_aimsReach ⟨by decide, by decide⟩ ⟨by decide, by decide⟩ rfl rfl (by simp [x_cr, x_c1, x_c2]) dX8_aim_79) (fun v_79 X_79 p_79 => ?_)
        obtain ⟨rfl, hw, hv⟩ := p_79
        have hh2 := hh.trans hw.h
        have C2 := hh2.C hC
        have y32 : X_79 64 3 = X 64 3 := hh2.v.1
        refine x_aload_n B dX8_aim_82 rfl ?_
        refine x_iload_n B dX8_aim_83 rfl ?_
        refine x_go (x_rV B h8 (show x_cl[7]? = some _ from rfl) (c_X8_freeNow (e8.mk (A := a_rc (q8_aim X i z)) C2 (by rw [y32]; exact hi) hv (fun v _ _ => a_rc_r _ v)) C2 (hh2.Q hQ)) (lw_V q1786 q1788 qs89 q122 q1789) hv_X8_freeNow ⟨by decide, by decide⟩ ⟨by decide, by decide⟩ rfl rfl (by simp [x_cr, x_c1, x_c2]) dX8_aim_84) (fun v_84 X_84 p_84 => ?_)
        obtain ⟨rfl, hhf, hrf, h80, h34⟩ := p_84
        rw [show f_now (t_O X_79 i) (a_rc (q8_aim X i z)) (t_M X_79) i (m_least (t_M X_79) i) = q8_fr X (a_rc (q8_aim X i z)) i from (hh2.fr _ i).1]
        have hqr := (q8_fr_r (A := a_rc (q8_aim X i z)) hC hi (fun v _ _ => a_rc_r _ v)).1
        refine x_i2l B dX8_aim_87 ⟨by omega, by omega⟩ ?_
        refine x_lstw_5 B dX8_aim_88 (by first | rfl | exact x_cr _ _) ?_
        refine x_aload_n B dX8_aim_90 rfl ?_
        refine x_iconst B dX8_aim_91 ?_
        refine x_putI B (k := 1) 1 rfl rfl rfl ⟨by omega, by omega⟩ xc_7 (by decide) rfl nn_7_1 (fun _ => rfl) h8 (Or.inl q1336) (fun _ h => h) dX8_aim_92 ?_
        have hz1 : x_up X_84 64 1 0 64 1 = 0 := x_up_s _ _ _ _
        refine x_aload_n B dX8_aim_95 rfl ?_
        refine x_lload B dX8_aim_96 rfl ?_
        refine x_goV (x_rV B h8 (show x_cl[7]? = some _ from rfl) (c_X8_notes hT h8 ⟨by rw [hz1]; omega, by rw [hz1]; omega⟩ ⟨by omega, by omega⟩) (lw_V q1616 q1618 qs65 q122 q1619) hv_X8_notes ⟨by decide, by decide⟩ ⟨by decide, by decide⟩ rfl rfl (by simp [x_cr, x_c1, x_c2]) dX8_aim_98) ?_
        change x_G _ _ _ _ _ _ _ _ _ _ _ _ _ _ _ _ _ _ _ (t_tl (x_up X_84 64 1 0) (q8_fr X (a_rc (q8_aim X i z)) i))
        refine x_iload_n B dX8_aim_101 rfl ?_
        refine x_iret B (fun _ _ h => h) ?_ dX8_aim_102
        refine ⟨((hh2.trans hhf).u64 (Or.inr (Or.inl rfl))).tl, ?_⟩
        rw [if_pos ⟨by unfold x_in; rw [if_pos (by omega)], by unfold x_in; rw [if_pos (by omega)]⟩]
        have t1 := t_tl1 (x_up X_84 64 1 0) (q8_fr X (a_rc (q8_aim X i z)) i) hz1
        exact ⟨rfl, t1.1, t1.2.1⟩
      · have hmd := x_half (lo := lo) (hi := hi_) ⟨hlh.1, by omega, hlh.2.2⟩
        rw [show lo + hi_ + 1 = lo + (hi_ + 1) by omega] at hmd
        refine x_iload_n B dX8_aim_41 rfl ?_
        refine x_iload B dX8_aim_42 rfl ?_
        refine x_iadd B dX8_aim_44 ?_
        refine x_iconst B dX8_aim_45 ?_
        refine x_idiv B dX8_aim_46 ⟨by omega, by omega⟩ ⟨by omega, by omega⟩ ?_
        rw [show lo + (hi_ + 1) = lo + hi_ + 1 by omega] at hmd ⊢
        refine x_istw_5 B dX8_aim_47 (by first | rfl | exact x_cr _ _) ?_
        refine x_aload_n B dX8_aim_49 rfl ?_
        refine x_iload B dX8_aim_50 rfl ?_
        refine x_go (x_rV B h8 (show x_cl[7]? = some _ from rfl) (c_X8_aimsReach hT h8 ⟨by omega, by omega⟩) (lw_V q1729 q1731 qs82 q122 q1732) hv_X8_aimsReach ⟨by decide, by decide⟩ ⟨by decide, by decide⟩ rfl rfl (by simp [x_cr, x_c1, x_c2]) dX8_aim_52) (fun v_52 X_52 p_52 => ?_)
        obtain ⟨rfl, hw, hv⟩ := p_52
        have hh2 := hh.trans hw.h
        have C2 := hh2.C hC
        have y32 : X_52 64 3 = X 64 3 := hh2.v.1
        refine x_aload_n B dX8_aim_55 rfl ?_
        refine x_iload_n B dX8_aim_56 rfl ?_
        refine x_go (x_rV B h8 (show x_cl[7]? = some _ from rfl) (c_X8_freeNow (e8.mk (A := a_rc ((lo + hi_ + 1).tdiv 2)) C2 (by rw [y32]; exact hi) hv (fun v _ _ => a_rc_r _ v)) C2 (hh2.Q hQ)) (lw_V q1786 q1788 qs89 q122 q1789) hv_X8_freeNow ⟨by decide, by decide⟩ ⟨by decide, by decide⟩ rfl rfl (by simp [x_cr, x_c1, x_c2]) dX8_aim_57) (fun v_57 X_57 p_57 => ?_)
        obtain ⟨rfl, hhf, hrf, h80, h34⟩ := p_57
        rw [show f_now (t_O X_52 i) (a_rc ((lo + hi_ + 1).tdiv 2)) (t_M X_52) i (m_least (t_M X_52) i) = q8_fr X (a_rc ((lo + hi_ + 1).tdiv 2)) i from (hh2.fr _ i).1]
        have hhF := hh2.trans hhf
        have hrF := (hr.trans hw.r).trans hrf
        have hqr := (q8_fr_r (A := a_rc ((lo + hi_ + 1).tdiv 2)) hC hi (fun v _ _ => a_rc_r _ v)).1
        refine x_iload_n B dX8_aim_60 rfl ?_
        refine x_icmp_lt B (tgt := 70) dX8_aim_61 (by decide) ⟨by omega, by omega⟩ ⟨by omega, by omega⟩ (fun h_61 => ?_) (fun h_61 => ?_)
        · refine x_iload B dX8_aim_70 rfl ?_
          refine x_istw_4 B dX8_aim_72 (by first | rfl | exact x_cr _ _) ?_
          refine x_goto B (tgt := 33) dX8_aim_74 (by decide) ?_
          refine x_fg_5 ?_
          obtain ⟨q, rfl⟩ : ∃ g, q = g + 1 := ⟨q - 1, by (cases q with | zero => simp at hqp; omega | succ g => rfl)⟩
          have hp2 : (2 : Int) ^ (q + 1) = 2 * 2 ^ q := by rw [Int.pow_succ, Int.mul_comm]
          rw [hp2] at hqp
          unfold s_aim at he
          rw [if_pos (show lo < hi_ by omega)] at he
          first
          | (refine ih q _ _ _ ⟨hi, hz, ⟨by omega, by omega, by omega⟩, ⟨by omega, by omega⟩, hhF, hrF, ?_⟩ (by omega); rw [he, if_pos (by omega)])
          | (have ih2 := ih q lo (((lo + hi_ + 1).tdiv 2) - 1) X_57 ⟨hi, hz, ⟨by omega, by omega, by omega⟩, ⟨by omega, by omega⟩, hhF, hrF, by rw [he, if_neg (by omega)]⟩ (by omega); rw [show ((lo + hi_ + 1).tdiv 2) - 1 + 1 = ((lo + hi_ + 1).tdiv 2) by omega] at ih2; exact ih2)
        · refine x_iload B dX8_aim_64 rfl ?_
          refine x_ist_3 B dX8_aim_66 (by first | rfl | exact x_cr _ _) ?_
          refine x_goto B (tgt := 74) dX8_aim_67 (by decide) ?_
          refine x_goto B (tgt := 33) dX8_aim_74 (by decide) ?_
          refine x_fg_5 ?_
          obtain ⟨q, rfl⟩ : ∃ g, q = g + 1 := ⟨q - 1, by (cases q with | zero => simp at hqp; omega | succ g => rfl)⟩
          have hp2 : (2 : Int) ^ (q + 1) = 2 * 2 ^ q := by rw [Int.pow_succ, Int.mul_comm]
          rw [hp2] at hqp
          unfold s_aim at he
          rw [if_pos (show lo < hi_ by omega)] at he
          first
          | (refine ih q _ _ _ ⟨hi, hz, ⟨by omega, by omega, by omega⟩, ⟨by omega, by omega⟩, hhF, hrF, ?_⟩ (by omega); rw [he, if_pos (by omega)])
          | (have ih2 := ih q lo (((lo + hi_ + 1).tdiv 2) - 1) X_57 ⟨hi, hz, ⟨by omega, by omega, by omega⟩, ⟨by omega, by omega⟩, hhF, hrF, by rw [he, if_neg (by omega)]⟩ (by omega); rw [show ((lo + hi_ + 1).tdiv 2) - 1 + 1 = ((lo + hi_ + 1).tdiv 2) by omega] at ih2; exact ih2)
  refine x_aload_n B dX8_aim_0 rfl ?_
  refine x_iconst B dX8_aim_1 ?_
  refine x_putI B (k := 0) 0 rfl rfl rfl ⟨by omega, by omega⟩ xc_7 (by decide) rfl nn_7_0 (fun _ => rfl) h8 (Or.inl q1335) (fun _ h => h) dX8_aim_2 ?_
  have hz : h_eq X (x_up X 64 0 0) := h_eq.z
  have hrz : hr8 X (x_up X 64 0 0) := hr8.z
  have C0 := hz.C hC
  obtain ⟨e3, eM, el, eli, ep, eO, eG⟩ := hz.v
  generalize hX0 : x_up X 64 0 0 = X0 at hz hrz C0 e3 eM el eli ep eO eG ⊢
  obtain ⟨hK0, hP0, hO0, hW0, hL0⟩ := id C0
  refine x_aload_n B dX8_aim_5 rfl ?_
  refine x_iload_n B dX8_aim_6 rfl ?_
  refine x_goP (x_rV B h8 (show x_cl[7]? = some _ from rfl) (c_X8_isLifter hK0 hx) (lw_V q1553 q1555 qs57 q122 q1556) hv_X8_isLifter ⟨by decide, by decide⟩ ⟨by decide, by decide⟩ rfl rfl (by simp [x_cr, x_c1, x_c2]) dX8_aim_7) ?_
  rw [e3]
  refine x_if_eq B (tgt := 25) dX8_aim_10 (by decide) ⟨by omega, by omega⟩ (fun h_10 => ?_) (fun h_10 => ?_)
  · refine x_iconst B dX8_aim_25 ?_
    refine x_iret B (fun _ _ h => h) ?_ dX8_aim_26
    exact ⟨hz, by rw [if_neg (by omega)]; exact ⟨rfl, hrz⟩⟩
  · refine x_iload_n B dX8_aim_13 rfl ?_
    refine x_i2l B dX8_aim_14 ⟨by omega, by omega⟩ ?_
    refine x_lconst B 1 dX8_aim_15 (by decide) ?_
    refine x_ldc2 B (1000000) q1766 (by decide) dX8_aim_16 ?_
    refine x_goP (x_rS B (c_X8_in ⟨by omega, by omega⟩ ⟨by omega, by omega⟩ ⟨by omega, by omega⟩) (lw_S q1468 q1469 q122 q1470) hd_X8_in ⟨by decide, by decide⟩ ⟨by decide, by decide⟩ rfl rfl (by simp [x_cr, x_c1, x_c2]) dX8_aim_19) ?_
    refine x_if_ne B (tgt := 27) dX8_aim_22 (by decide) ⟨by omega, by omega⟩ (fun h_22 => ?_) (fun h_22 => ?_)
    · have hi : 0 ≤ i ∧ i < X 64 3 := by unfold x_in at h_10; split at h_10 <;> omega
      have hz9 : 1 ≤ z ∧ z ≤ 1000000 := by unfold x_in at h_22; split at h_22 <;> omega
      refine x_iconst B dX8_aim_27 ?_
      refine x_ist_3 B dX8_aim_28 (by first | rfl | exact x_cr _ _) ?_
      refine x_bipush B dX8_aim_29 (by decide) ?_
      refine x_istw_4 B dX8_aim_31 (by first | rfl | exact x_cr _ _) ?_
      have e33 := lp_33 _ 7 0 120 X0 ⟨hi, hz9, ⟨by omega, by omega, by omega⟩, ⟨by omega, by decide⟩, hz, hrz, rfl⟩ (Nat.lt_succ_self _)
      exact e33
    · refine x_iconst B dX8_aim_25 ?_
      refine x_iret B (fun _ _ h => h) ?_ dX8_aim_26
      exact ⟨hz, by rw [if_neg (by omega)]; exact ⟨rfl, hrz⟩⟩
theorem c_X8_follows_1 {l : Launch} {E : x_E} {κ : x_Ka} {X : x_X} {O : Int → Int → Int → Int} {A : Int → Int} {R0 : Int → Int} {a t r least fl best sum : Int} (h : e8 κ X O A a) (ht : 0 ≤ t ∧ t ≤ 2) (hs : 0 ≤ sum ∧ sum ≤ 40 * t) (hr : 0 ≤ r ∧ r ≤ 3) (hl : 0 ≤ least ∧ least ≤ 41) (hf : 0 ≤ fl ∧ fl ≤ 3) (hb : 0 ≤ best ∧ best ≤ 40) (hx : r < 3 → 1 ≤ least → fl ≤ r ∧ best < least ∧ (fl = r → best = 0)) (hB : bh8 X O A (t + 1)) (hn1 : 0 ≤ X 64 1 ∧ X 64 1 ≤ 55) (hR0 : ∀ k, 0 ≤ k → k < X 64 1 → X 65 k = R0 k) : x_Met l yX8_follows cX8_follows 13 (some .int) 4 0 0 E κ X [x_rf E 64, vi a, vi t, vi r, vi least, vi fl, vi best, vi sum, vi 1] κ (fun v_ Y_ => v_ = some (vi (e_in (f_d O A t sum) 1 3 (if least = 0 then 3 else r) fl best least (X 64 1) R0).1) ∧ h_eq X Y_ ∧ (Y_ 80 = X 80 ∧ Y_ 83 = X 83) ∧ Y_ 64 1 = (e_in (f_d O A t sum) 1 3 (if least = 0 then 3 else r) fl best least (X 64 1) R0).2.1 ∧ (∀ k, 0 ≤ k → k < (e_in (f_d O A t sum) 1 3 (if least = 0 then 3 else r) fl best least (X 64 1) R0).2.1 → Y_ 65 k = (e_in (f_d O A t sum) 1 3 (if least = 0 then 3 else r) fl best least (X 64 1) R0).2.2 k) ∧ (0 ≤ (e_in (f_d O A t sum) 1 3 (if least = 0 then 3 else r) fl best least (X 64 1) R0).1 ∧ (e_in (f_d O A t sum) 1 3 (if least = 0 then 3 else r) fl best least (X 64 1) R0).1 ≤ 40) ∧ (X 64 1 ≤ (e_in (f_d O A t sum) 1 3 (if least = 0 then 3 else r) fl best least (X 64 1) R0).2.1 ∧ (e_in (f_d O A t sum) 1 3 (if least = 0 then 3 else r) fl best least (X 64 1) R0).2.1 ≤ X 64 1 + 3)) := by
  refine x_Met.of [(false, x_rf E 64), (false, vi a), (false, vi t), (false, vi r), (false, vi least), (false, vi fl), (false, vi best), (false, vi sum), (false, vi 1)] [some (x_rf E 64), some (vi a), some (vi t), some (vi r), some (vi least), some (vi fl), some (vi best), some (vi sum), some (vi 1), none, none, none, none] 4 (by decide) rfl rfl ⟨x_cr E (64), rfl, rfl, rfl, rfl, rfl, rfl, rfl, rfl, trivial⟩ rfl rfl ?_
  intro p e s m args below meth c hargs hin B
  obtain ⟨hK, hO, ha, eO, eA, hA, hOr⟩ := id h
  obtain ⟨hT, h8, hn⟩ := id hK
  obtain ⟨EE, hE⟩ : ∃ e_, e_ = (e_in (f_d O A t sum) 1 3 (if least = 0 then 3 else r) fl best least (X 64 1) R0) := ⟨_, rfl⟩
  have lp_15 : ∀ (n : Nat) (q : Nat) (tr f2 be le n0 : Int) (R : Int → Int) (Y : x_X), (((0 ≤ tr ∧ tr ≤ 3 ∧ 3 ≤ (q : Int) + tr) ∧ (0 ≤ le ∧ le ≤ 41) ∧ (0 ≤ f2 ∧ f2 ≤ 6) ∧ (0 ≤ be ∧ be ≤ 40) ∧ (tr < 3 → 1 ≤ le → f2 ≤ tr ∧ be < le ∧ (f2 = tr → be = 0))) ∧ (h_eq X Y ∧ Y 80 = X 80 ∧ Y 83 = X 83) ∧ (Y 64 1 = n0 ∧ X 64 1 ≤ n0 ∧ n0 + 3 - tr ≤ X 64 1 + 3 ∧ ∀ k, 0 ≤ k → k < n0 → Y 65 k = R k) ∧ EE = e_in (f_d O A t sum) 1 q (if le = 0 then 3 else tr) f2 be le n0 R) → ((4 - tr).toNat < n) → x_G p l e (x_rm 4 0 0) s m args below meth c 13 E 0 0 (MQ below (x_Q E κ (fun v_ Y_ => v_ = some (vi (e_in (f_d O A t sum) 1 3 (if least = 0 then 3 else r) fl best least (X 64 1) R0).1) ∧ h_eq X Y_ ∧ (Y_ 80 = X 80 ∧ Y_ 83 = X 83) ∧ Y_ 64 1 = (e_in (f_d O A t sum) 1 3 (if least = 0 then 3 else r) fl best least (X 64 1) R0).2.1 ∧ (∀ k, 0 ≤ k → k < (e_in (f_d O A t sum) 1 3 (if least = 0 then 3 else r) fl best least (X 64 1) R0).2.1 → Y_ 65 k = (e_in (f_d O A t sum) 1 3 (if least = 0 then 3 else r) fl best least (X 64 1) R0).2.2 k) ∧ (0 ≤ (e_in (f_d O A t sum) 1 3 (if least = 0 then 3 else r) fl best least (X 64 1) R0).1 ∧ (e_in (f_d O A t sum) 1 3 (if least = 0 then 3 else r) fl best least (X 64 1) R0).1 ≤ 40) ∧ (X 64 1 ≤ (e_in (f_d O A t sum) 1 3 (if least = 0 then 3 else r) fl best least (X 64 1) R0).2.1 ∧ (e_in (f_d O A t sum) 1 3 (if least = 0 then 3 else r) fl best least (X 64 1) R0).2.1 ≤ X 64 1 + 3))) args s 0 0 (fun q => E.1 ≤ q)) κ 15 [some (x_rf E 64), some (vi a), some (vi t), some (vi r), some (vi least), some (vi fl), some (vi best), some (vi sum), some (vi 1), some (vi le), some (vi f2), some (vi be), some (vi tr)] [] Y := by
    intro n
    induction n with
    | zero => intro q tr f2 be le n0 R Y hinv hme; exfalso; omega
    | succ n ih =>
      intro q tr f2 be le n0 R Y hinv hme
      obtain ⟨⟨htr, hle, hf2, hbe, hxx⟩, ⟨hh, y80, y83⟩, ⟨y1, hn0, hn3, hR⟩, he⟩ := hinv
      have hY := h.h hh y80
      have hBY : bh8 Y O A (t + 1) := fun s s1 s2 => by rw [y83]; exact hB s s1 s2
      have z1 := x_in_01 le 1 40
      refine x_iload B dX8_follows_15 rfl ?_
      refine x_iconst B dX8_follows_17 ?_
      refine x_icmp_ge B (tgt := 120) dX8_follows_18 (by decide) ⟨by omega, by omega⟩ ⟨by omega, by omega⟩ (fun h_18 => ?_) (fun h_18 => ?_)
      · have hex : EE = (be, n0, R) := by
          rw [he]; refine e_in_e ?_
          by_cases q : le = 0
          · rw [if_pos q]; omega
          · rw [if_neg q]; first | omega | (unfold x_in at h_31; split at h_31 <;> omega)
        refine x_iload B dX8_follows_120 rfl ?_
        refine x_iret B (fun _ _ h => h) ?_ dX8_follows_122
        rw [← hE, hex]
        exact ⟨rfl, hh, ⟨y80, y83⟩, y1, hR, hbe, by dsimp only; omega, by dsimp only; omega⟩
      · refine x_iload B dX8_follows_21 rfl ?_
        refine x_i2l B dX8_follows_23 ⟨by omega, by omega⟩ ?_
        refine x_lconst B 1 dX8_follows_24 (by decide) ?_
        refine x_ldc2 B (40) q1561 (by decide) dX8_follows_25 ?_
        refine x_goP (x_rS B (c_X8_in ⟨by omega, by omega⟩ ⟨by omega, by omega⟩ ⟨by omega, by omega⟩) (lw_S q1468 q1469 q122 q1470) hd_X8_in ⟨by decide, by decide⟩ ⟨by decide, by decide⟩ rfl rfl (by simp [x_cr, x_c1, x_c2]) dX8_follows_28) ?_
        refine x_if_eq B (tgt := 120) dX8_follows_31 (by decide) ⟨by omega, by omega⟩ (fun h_31 => ?_) (fun h_31 => ?_)
        · have hex : EE = (be, n0, R) := by
            rw [he]; refine e_in_e ?_
            by_cases q : le = 0
            · rw [if_pos q]; omega
            · rw [if_neg q]; first | omega | (unfold x_in at h_31; split at h_31 <;> omega)
          refine x_iload B dX8_follows_120 rfl ?_
          refine x_iret B (fun _ _ h => h) ?_ dX8_follows_122
          rw [← hE, hex]
          exact ⟨rfl, hh, ⟨y80, y83⟩, y1, hR, hbe, by dsimp only; omega, by dsimp only; omega⟩
        · have hlx : 1 ≤ le ∧ le ≤ 40 := by unfold x_in at h_31; split at h_31 <;> omega
          have hhx := hxx (by omega) hlx.1
          have hdr := f_d8_r hOr hA (t := t) (sum := sum) (tr := tr) (fl := f2) (best := be) (least := le) ht hs hbe hf2.1 hlx
          refine x_aload_n B dX8_follows_34 rfl ?_
          refine x_iload_n B dX8_follows_35 rfl ?_
          refine x_iload_n B dX8_follows_36 rfl ?_
          refine x_iload B dX8_follows_37 rfl ?_
          refine x_iload B dX8_follows_39 rfl ?_
          refine x_go (x_rV B h8 (show x_cl[7]? = some _ from rfl) (c_X8_laysRounds hY ht hs ⟨by omega, by omega⟩ hBY) (lw_V q1794 q1796 qs91 q122 q1797) hv_X8_laysRounds ⟨by decide, by decide⟩ ⟨by decide, by decide⟩ rfl rfl (by simp [x_cr, x_c1, x_c2]) dX8_follows_41) (fun v_41 X_41 p_41 => ?_)
          obtain ⟨rfl, hz, e83, hR8⟩ := p_41
          refine x_aload_n B dX8_follows_44 rfl ?_
          refine x_iload_n B dX8_follows_45 rfl ?_
          refine x_iload_n B dX8_follows_46 rfl ?_
          refine x_iload B dX8_follows_47 rfl ?_
          refine x_iload B dX8_follows_49 rfl ?_
          refine x_iload B dX8_follows_51 rfl ?_
          refine x_iload B dX8_follows_53 rfl ?_
          refine x_goP (x_rV B h8 (show x_cl[7]? = some _ from rfl) (c_X8_triesBest (hY.z hz) ht hs ⟨by omega, by omega⟩ ⟨by omega, by omega⟩ hlx ⟨by omega, by omega⟩ hhx.2.2 (hR8 (tr + 1) (by omega) (by omega))) (lw_V q1805 q1807 qs93 q122 q1808) hv_X8_triesBest ⟨by decide, by decide⟩ ⟨by decide, by decide⟩ rfl rfl (by simp [x_cr, x_c1, x_c2]) dX8_follows_55) ?_
          have hd2 : (x_up X_41 64 33 (f_d O A t sum tr f2 be le)) 64 33 = (f_d O A t sum tr f2 be le) := x_up_s _ _ _ _
          have yd1 : (x_up X_41 64 33 (f_d O A t sum tr f2 be le)) 64 1 = n0 := by rw [x_up_n _ (Or.inr (by omega)), hz.2 1 (by omega)]; exact y1
          have hR65 : (x_up X_41 64 33 (f_d O A t sum tr f2 be le)) 65 = Y 65 := (x_up_o _ (by omega)).trans (hz.1 65 (by omega) (by omega) (by omega))
          have hhD : h_eq X (x_up X_41 64 33 (f_d O A t sum tr f2 be le)) := (hh.trans hz.h).u64 (Or.inr (Or.inr (by omega)))
          have yd80 : (x_up X_41 64 33 (f_d O A t sum tr f2 be le)) 80 = X 80 := (x_up_o _ (by omega)).trans ((hz.1 80 (by omega) (by omega) (by omega)).trans y80)
          have yd83 : (x_up X_41 64 33 (f_d O A t sum tr f2 be le)) 83 = X 83 := (x_up_o _ (by omega)).trans (e83.trans y83)
          generalize (x_up X_41 64 33 (f_d O A t sum tr f2 be le)) = Z at hd2 yd1 hR65 hhD yd80 yd83 ⊢
          refine x_pop B dX8_follows_58 (by first | rfl | exact x_cr _ _) ?_
          refine x_aload_n B dX8_follows_59 rfl ?_
          refine x_aload_n B dX8_follows_60 rfl ?_
          refine x_getI B (k := 33) 33 rfl rfl xc_7 (by decide) h8 (Or.inl q1368) (fun _ h => h) dX8_follows_61 (fun r_61 => ?_)
          rw [hd2] at r_61 ⊢
          refine x_i2l B dX8_follows_64 ⟨by omega, by omega⟩ ?_
          refine x_goV (x_rV B h8 (show x_cl[7]? = some _ from rfl) (c_X8_notes hT h8 ⟨by omega, by omega⟩ ⟨by omega, by omega⟩) (lw_V q1616 q1618 qs65 q122 q1619) hv_X8_notes ⟨by decide, by decide⟩ ⟨by decide, by decide⟩ rfl rfl (by simp [x_cr, x_c1, x_c2]) dX8_follows_65) ?_
          change x_G _ _ _ _ _ _ _ _ _ _ _ _ _ _ _ _ _ _ _ (t_tl Z (f_d O A t sum tr f2 be le))
          have t1 := t_tl1 Z (f_d O A t sum tr f2 be le) yd1
          have hhT := hhD.tl (z := (f_d O A t sum tr f2 be le))
          have hdT : t_tl Z (f_d O A t sum tr f2 be le) 64 33 = (f_d O A t sum tr f2 be le) := by unfold t_tl; rw [x_up_n _ (Or.inr (by omega)), x_up_o _ (by omega)]; exact hd2
          have zT80 : t_tl Z (f_d O A t sum tr f2 be le) 80 = X 80 := by unfold t_tl; rw [x_up_o _ (by omega), x_up_o _ (by omega)]; exact yd80
          have zT83 : t_tl Z (f_d O A t sum tr f2 be le) 83 = X 83 := by unfold t_tl; rw [x_up_o _ (by omega), x_up_o _ (by omega)]; exact yd83
          generalize hZT : t_tl Z (f_d O A t sum tr f2 be le) = ZT at t1 hhT hdT zT80 zT83 ⊢
          refine x_aload_n B dX8_follows_68 rfl ?_
          refine x_getI B (k := 33) 33 rfl rfl xc_7 (by decide) h8 (Or.inl q1368) (fun _ h => h) dX8_follows_69 (fun r_69 => ?_)
          rw [hdT] at r_69 ⊢
          refine x_iload B dX8_follows_72 rfl ?_
          refine x_goP (x_rS B (c_X8_flag ⟨by omega, by omega⟩) (lw_S q1597 q1598 q122 q1599) hd_X8_flag ⟨by decide, by decide⟩ ⟨by decide, by decide⟩ rfl rfl (by simp [x_cr, x_c1, x_c2]) dX8_follows_74) ?_
          refine x_iadd B dX8_follows_77 ?_
          refine x_istw_9 B dX8_follows_78 (by first | rfl | exact x_cr _ _) ?_
          refine x_iload B dX8_follows_80 rfl ?_
          refine x_if_eq B (tgt := 92) dX8_follows_82 (by decide) ⟨by omega, by omega⟩ (fun h_82 => (by exfalso; omega)) (fun h_82 => ?_)
          refine x_aload_n B dX8_follows_85 rfl ?_
          refine x_getI B (k := 33) 33 rfl rfl xc_7 (by decide) h8 (Or.inl q1368) (fun _ h => h) dX8_follows_86 (fun r_86 => ?_)
          rw [hdT] at r_86 ⊢
          refine x_goto B (tgt := 94) dX8_follows_89 (by decide) ?_
          refine x_istw_11 B dX8_follows_94 (by first | rfl | exact x_cr _ _) ?_
          refine x_iload B dX8_follows_96 rfl ?_
          refine x_iload B dX8_follows_98 rfl ?_
          refine x_if_ne B (tgt := 107) dX8_follows_100 (by decide) ⟨by omega, by omega⟩ (fun h_100 => ?_) (fun h_100 => (by exfalso; omega))
          refine x_iconst B dX8_follows_107 ?_
          refine x_goP (x_rS B (c_X8_flag ⟨by omega, by omega⟩) (lw_S q1597 q1598 q122 q1599) hd_X8_flag ⟨by decide, by decide⟩ ⟨by decide, by decide⟩ rfl rfl (by simp [x_cr, x_c1, x_c2]) dX8_follows_108) ?_
          refine x_iadd B dX8_follows_111 ?_
          refine x_istw_10 B dX8_follows_112 (by first | rfl | exact x_cr _ _) ?_
          refine x_iinc_12 B dX8_follows_114 (by first | rfl | exact x_cr _ _) ?_
          refine x_goto B (tgt := 15) dX8_follows_117 (by decide) ?_
          obtain ⟨q, rfl⟩ : ∃ g, q = g + 1 := ⟨q - 1, by omega⟩
          rw [if_neg (show ¬ le = 0 by omega)] at he
          unfold e_in at he
          rw [if_pos ⟨by omega, by omega⟩] at he
          have hRR : ∀ k, 0 ≤ k → k < n0 + 1 → ZT 65 k = (fun j => if j = n0 then (f_d O A t sum tr f2 be le) else R j) k := fun k k1 k2 => by
            dsimp only
            by_cases e : k = n0
            · rw [if_pos e, e]; exact t1.2.1
            · rw [if_neg e, t1.2.2 k e, hR65]; exact hR k k1 (by omega)
          have ih2 := ih q (tr + 1) f2 (f_d O A t sum tr f2 be le) ((f_d O A t sum tr f2 be le) + 1) (n0 + 1) (fun j => if j = n0 then (f_d O A t sum tr f2 be le) else R j) ZT ⟨⟨⟨by omega, by omega, by omega⟩, ⟨by omega, by omega⟩, ⟨by omega, by omega⟩, ⟨by omega, by omega⟩, fun _ _ => ⟨by omega, by omega, fun _ => by omega⟩⟩, ⟨hhT, zT80, zT83⟩, ⟨t1.1, by omega, by omega, hRR⟩, ?_⟩ (by omega)
          · first | (rw [Int.add_zero]; exact ih2) | exact ih2
          · rw [he, if_neg (show ¬ (f_d O A t sum tr f2 be le) + 1 = 0 by omega), show f2 + (1 - 1) = f2 by omega, if_pos (show (1 : Int) = 1 from rfl)]
  refine x_iload B dX8_follows_0 rfl ?_
  refine x_istw_9 B dX8_follows_2 (by first | rfl | exact x_cr _ _) ?_
  refine x_iload B dX8_follows_4 rfl ?_
  refine x_istw_10 B dX8_follows_6 (by first | rfl | exact x_cr _ _) ?_
  refine x_iload B dX8_follows_8 rfl ?_
  refine x_istw_11 B dX8_follows_10 (by first | rfl | exact x_cr _ _) ?_
  refine x_iload_n B dX8_follows_12 rfl ?_
  refine x_istw_12 B dX8_follows_13 (by first | rfl | exact x_cr _ _) ?_
  refine lp_15 _ 3 _ _ _ _ (X 64 1) R0 X ⟨⟨⟨by omega, by omega, by omega⟩, ⟨by omega, by omega⟩, ⟨by omega, by omega⟩, ⟨by omega, by omega⟩, hx⟩, ⟨h_eq.rf X, rfl, rfl⟩, ⟨rfl, by omega, by omega, hR0⟩, hE⟩ (Nat.lt_succ_self _)
theorem c_X8_follows_0 {l : Launch} {E : x_E} {κ : x_Ka} {X : x_X} {O : Int → Int → Int → Int} {A : Int → Int} {R0 : Int → Int} {a t r least fl best sum : Int} (h : e8 κ X O A a) (ht : 0 ≤ t ∧ t ≤ 2) (hs : 0 ≤ sum ∧ sum ≤ 40 * t) (hr : 0 ≤ r ∧ r ≤ 3) (hl : 0 ≤ least ∧ least ≤ 41) (hf : 0 ≤ fl ∧ fl ≤ 3) (hb : 0 ≤ best ∧ best ≤ 40) (hx : r < 3 → 1 ≤ least → fl ≤ r ∧ best < least ∧ (fl = r → best = 0)) (hB : bh8 X O A (t + 1)) (hn1 : 0 ≤ X 64 1 ∧ X 64 1 ≤ 55) (hR0 : ∀ k, 0 ≤ k → k < X 64 1 → X 65 k = R0 k) : x_Met l yX8_follows cX8_follows 13 (some .int) 4 0 0 E κ X [x_rf E 64, vi a, vi t, vi r, vi least, vi fl, vi best, vi sum, vi 0] κ (fun v_ Y_ => v_ = some (vi (e_in (f_d O A t sum) 0 3 (if least = 0 then 3 else r) fl best least (X 64 1) R0).1) ∧ h_eq X Y_ ∧ (Y_ 80 = X 80 ∧ Y_ 83 = X 83) ∧ Y_ 64 1 = (e_in (f_d O A t sum) 0 3 (if least = 0 then 3 else r) fl best least (X 64 1) R0).2.1 ∧ (∀ k, 0 ≤ k → k < (e_in (f_d O A t sum) 0 3 (if least = 0 then 3 else r) fl best least (X 64 1) R0).2.1 → Y_ 65 k = (e_in (f_d O A t sum) 0 3 (if least = 0 then 3 else r) fl best least (X 64 1) R0).2.2 k) ∧ (0 ≤ (e_in (f_d O A t sum) 0 3 (if least = 0 then 3 else r) fl best least (X 64 1) R0).1 ∧ (e_in (f_d O A t sum) 0 3 (if least = 0 then 3 else r) fl best least (X 64 1) R0).1 ≤ 40) ∧ (X 64 1 ≤ (e_in (f_d O A t sum) 0 3 (if least = 0 then 3 else r) fl best least (X 64 1) R0).2.1 ∧ (e_in (f_d O A t sum) 0 3 (if least = 0 then 3 else r) fl best least (X 64 1) R0).2.1 ≤ X 64 1 + 3)) := by
  refine x_Met.of [(false, x_rf E 64), (false, vi a), (false, vi t), (false, vi r), (false, vi least), (false, vi fl), (false, vi best), (false, vi sum), (false, vi 0)] [some (x_rf E 64), some (vi a), some (vi t), some (vi r), some (vi least), some (vi fl), some (vi best), some (vi sum), some (vi 0), none, none, none, none] 4 (by decide) rfl rfl ⟨x_cr E (64), rfl, rfl, rfl, rfl, rfl, rfl, rfl, rfl, trivial⟩ rfl rfl ?_
  intro p e s m args below meth c hargs hin B
  obtain ⟨hK, hO, ha, eO, eA, hA, hOr⟩ := id h
  obtain ⟨hT, h8, hn⟩ := id hK
  obtain ⟨EE, hE⟩ : ∃ e_, e_ = (e_in (f_d O A t sum) 0 3 (if least = 0 then 3 else r) fl best least (X 64 1) R0) := ⟨_, rfl⟩
  have lp_15 : ∀ (n : Nat) (q : Nat) (tr f2 be le n0 : Int) (R : Int → Int) (Y : x_X), (((0 ≤ tr ∧ tr ≤ 3 ∧ 3 ≤ (q : Int) + tr) ∧ (0 ≤ le ∧ le ≤ 41) ∧ (0 ≤ f2 ∧ f2 ≤ 6) ∧ (0 ≤ be ∧ be ≤ 40) ∧ (tr < 3 → 1 ≤ le → f2 ≤ tr ∧ be < le ∧ (f2 = tr → be = 0))) ∧ (h_eq X Y ∧ Y 80 = X 80 ∧ Y 83 = X 83) ∧ (Y 64 1 = n0 ∧ X 64 1 ≤ n0 ∧ n0 + 3 - tr ≤ X 64 1 + 3 ∧ ∀ k, 0 ≤ k → k < n0 → Y 65 k = R k) ∧ EE = e_in (f_d O A t sum) 0 q (if le = 0 then 3 else tr) f2 be le n0 R) → ((4 - tr).toNat < n) → x_G p l e (x_rm 4 0 0) s m args below meth c 13 E 0 0 (MQ below (x_Q E κ (fun v_ Y_ => v_ = some (vi (e_in (f_d O A t sum) 0 3 (if least = 0 then 3 else r) fl best least (X 64 1) R0).1) ∧ h_eq X Y_ ∧ (Y_ 80 = X 80 ∧ Y_ 83 = X 83) ∧ Y_ 64 1 = (e_in (f_d O A t sum) 0 3 (if least = 0 then 3 else r) fl best least (X 64 1) R0).2.1 ∧ (∀ k, 0 ≤ k → k < (e_in (f_d O A t sum) 0 3 (if least = 0 then 3 else r) fl best least (X 64 1) R0).2.1 → Y_ 65 k = (e_in (f_d O A t sum) 0 3 (if least = 0 then 3 else r) fl best least (X 64 1) R0).2.2 k) ∧ (0 ≤ (e_in (f_d O A t sum) 0 3 (if least = 0 then 3 else r) fl best least (X 64 1) R0).1 ∧ (e_in (f_d O A t sum) 0 3 (if least = 0 then 3 else r) fl best least (X 64 1) R0).1 ≤ 40) ∧ (X 64 1 ≤ (e_in (f_d O A t sum) 0 3 (if least = 0 then 3 else r) fl best least (X 64 1) R0).2.1 ∧ (e_in (f_d O A t sum) 0 3 (if least = 0 then 3 else r) fl best least (X 64 1) R0).2.1 ≤ X 64 1 + 3))) args s 0 0 (fun q => E.1 ≤ q)) κ 15 [some (x_rf E 64), some (vi a), some (vi t), some (vi r), some (vi least), some (vi fl), some (vi best), some (vi sum), some (vi 0), some (vi le), some (vi f2), some (vi be), some (vi tr)] [] Y := by
    intro n
    induction n with
    | zero => intro q tr f2 be le n0 R Y hinv hme; exfalso; omega
    | succ n ih =>
      intro q tr f2 be le n0 R Y hinv hme
      obtain ⟨⟨htr, hle, hf2, hbe, hxx⟩, ⟨hh, y80, y83⟩, ⟨y1, hn0, hn3, hR⟩, he⟩ := hinv
      have hY := h.h hh y80
      have hBY : bh8 Y O A (t + 1) := fun s s1 s2 => by rw [y83]; exact hB s s1 s2
      have z1 := x_in_01 le 1 40
      refine x_iload B dX8_follows_15 rfl ?_
      refine x_iconst B dX8_follows_17 ?_
      refine x_icmp_ge B (tgt := 120) dX8_follows_18 (by decide) ⟨by omega, by omega⟩ ⟨by omega, by omega⟩ (fun h_18 => ?_) (fun h_18 => ?_)
      · have hex : EE = (be, n0, R) := by
          rw [he]; refine e_in_e ?_
          by_cases q : le = 0
          · rw [if_pos q]; omega
          · rw [if_neg q]; first | omega | (unfold x_in at h_31; split at h_31 <;> omega)
        refine x_iload B dX8_follows_120 rfl ?_
        refine x_iret B (fun _ _ h => h) ?_ dX8_follows_122
        rw [← hE, hex]
        exact ⟨rfl, hh, ⟨y80, y83⟩, y1, hR, hbe, by dsimp only; omega, by dsimp only; omega⟩
      · refine x_iload B dX8_follows_21 rfl ?_
        refine x_i2l B dX8_follows_23 ⟨by omega, by omega⟩ ?_
        refine x_lconst B 1 dX8_follows_24 (by decide) ?_
        refine x_ldc2 B (40) q1561 (by decide) dX8_follows_25 ?_
        refine x_goP (x_rS B (c_X8_in ⟨by omega, by omega⟩ ⟨by omega, by omega⟩ ⟨by omega, by omega⟩) (lw_S q1468 q1469 q122 q1470) hd_X8_in ⟨by decide, by decide⟩ ⟨by decide, by decide⟩ rfl rfl (by simp [x_cr, x_c1, x_c2]) dX8_follows_28) ?_
        refine x_if_eq B (tgt := 120) dX8_follows_31 (by decide) ⟨by omega, by omega⟩ (fun h_31 => ?_) (fun h_31 => ?_)
        · have hex : EE = (be, n0, R) := by
            rw [he]; refine e_in_e ?_
            by_cases q : le = 0
            · rw [if_pos q]; omega
            · rw [if_neg q]; first | omega | (unfold x_in at h_31; split at h_31 <;> omega)
          refine x_iload B dX8_follows_120 rfl ?_
          refine x_iret B (fun _ _ h => h) ?_ dX8_follows_122
          rw [← hE, hex]
          exact ⟨rfl, hh, ⟨y80, y83⟩, y1, hR, hbe, by dsimp only; omega, by dsimp only; omega⟩
        · have hlx : 1 ≤ le ∧ le ≤ 40 := by unfold x_in at h_31; split at h_31 <;> omega
          have hhx := hxx (by omega) hlx.1
          have hdr := f_d8_r hOr hA (t := t) (sum := sum) (tr := tr) (fl := f2) (best := be) (least := le) ht hs hbe hf2.1 hlx
          refine x_aload_n B dX8_follows_34 rfl ?_
          refine x_iload_n B dX8_follows_35 rfl ?_
          refine x_iload_n B dX8_follows_36 rfl ?_
          refine x_iload B dX8_follows_37 rfl ?_
          refine x_iload B dX8_follows_39 rfl ?_
          refine x_go (x_rV B h8 (show x_cl[7]? = some _ from rfl) (c_X8_laysRounds hY ht hs ⟨by omega, by omega⟩ hBY) (lw_V q1794 q1796 qs91 q122 q1797) hv_X8_laysRounds ⟨by decide, by decide⟩ ⟨by decide, by decide⟩ rfl rfl (by simp [x_cr, x_c1, x_c2]) dX8_follows_41) (fun v_41 X_41 p_41 => ?_)
          obtain ⟨rfl, hz, e83, hR8⟩ := p_41
          refine x_aload_n B dX8_follows_44 rfl ?_
          refine x_iload_n B dX8_follows_45 rfl ?_
          refine x_iload_n B dX8_follows_46 rfl ?_
          refine x_iload B dX8_follows_47 rfl ?_
          refine x_iload B dX8_follows_49 rfl ?_
          refine x_iload B dX8_follows_51 rfl ?_
          refine x_iload B dX8_follows_53 rfl ?_
          refine x_goP (x_rV B h8 (show x_cl[7]? = some _ from rfl) (c_X8_triesBest (hY.z hz) ht hs ⟨by omega, by omega⟩ ⟨by omega, by omega⟩ hlx ⟨by omega, by omega⟩ hhx.2.2 (hR8 (tr + 1) (by omega) (by omega))) (lw_V q1805 q1807 qs93 q122 q1808) hv_X8_triesBest ⟨by decide, by decide⟩ ⟨by decide, by decide⟩ rfl rfl (by simp [x_cr, x_c1, x_c2]) dX8_follows_55) ?_
          have hd2 : (x_up X_41 64 33 (f_d O A t sum tr f2 be le)) 64 33 = (f_d O A t sum tr f2 be le) := x_up_s _ _ _ _
          have yd1 : (x_up X_41 64 33 (f_d O A t sum tr f2 be le)) 64 1 = n0 := by rw [x_up_n _ (Or.inr (by omega)), hz.2 1 (by omega)]; exact y1
          have hR65 : (x_up X_41 64 33 (f_d O A t sum tr f2 be le)) 65 = Y 65 := (x_up_o _ (by omega)).trans (hz.1 65 (by omega) (by omega) (by omega))
          have hhD : h_eq X (x_up X_41 64 33 (f_d O A t sum tr f2 be le)) := (hh.trans hz.h).u64 (Or.inr (Or.inr (by omega)))
          have yd80 : (x_up X_41 64 33 (f_d O A t sum tr f2 be le)) 80 = X 80 := (x_up_o _ (by omega)).trans ((hz.1 80 (by omega) (by omega) (by omega)).trans y80)
          have yd83 : (x_up X_41 64 33 (f_d O A t sum tr f2 be le)) 83 = X 83 := (x_up_o _ (by omega)).trans (e83.trans y83)
          generalize (x_up X_41 64 33 (f_d O A t sum tr f2 be le)) = Z at hd2 yd1 hR65 hhD yd80 yd83 ⊢
          refine x_pop B dX8_follows_58 (by first | rfl | exact x_cr _ _) ?_
          refine x_aload_n B dX8_follows_59 rfl ?_
          refine x_aload_n B dX8_follows_60 rfl ?_
          refine x_getI B (k := 33) 33 rfl rfl xc_7 (by decide) h8 (Or.inl q1368) (fun _ h => h) dX8_follows_61 (fun r_61 => ?_)
          rw [hd2] at r_61 ⊢
          refine x_i2l B dX8_follows_64 ⟨by omega, by omega⟩ ?_
          refine x_goV (x_rV B h8 (show x_cl[7]? = some _ from rfl) (c_X8_notes hT h8 ⟨by omega, by omega⟩ ⟨by omega, by omega⟩) (lw_V q1616 q1618 qs65 q122 q1619) hv_X8_notes ⟨by decide, by decide⟩ ⟨by decide, by decide⟩ rfl rfl (by simp [x_cr, x_c1, x_c2]) dX8_follows_65) ?_
          change x_G _ _ _ _ _ _ _ _ _ _ _ _ _ _ _ _ _ _ _ (t_tl Z (f_d O A t sum tr f2 be le))
          have t1 := t_tl1 Z (f_d O A t sum tr f2 be le) yd1
          have hhT := hhD.tl (z := (f_d O A t sum tr f2 be le))
          have hdT : t_tl Z (f_d O A t sum tr f2 be le) 64 33 = (f_d O A t sum tr f2 be le) := by unfold t_tl; rw [x_up_n _ (Or.inr (by omega)), x_up_o _ (by omega)]; exact hd2
          have zT80 : t_tl Z (f_d O A t sum tr f2 be le) 80 = X 80 := by unfold t_tl; rw [x_up_o _ (by omega), x_up_o _ (by omega)]; exact yd80
          have zT83 : t_tl Z (f_d O A t sum tr f2 be le) 83 = X 83 := by unfold t_tl; rw [x_up_o _ (by omega), x_up_o _ (by omega)]; exact yd83
          generalize hZT : t_tl Z (f_d O A t sum tr f2 be le) = ZT at t1 hhT hdT zT80 zT83 ⊢
          refine x_aload_n B dX8_follows_68 rfl ?_
          refine x_getI B (k := 33) 33 rfl rfl xc_7 (by decide) h8 (Or.inl q1368) (fun _ h => h) dX8_follows_69 (fun r_69 => ?_)
          rw [hdT] at r_69 ⊢
          refine x_iload B dX8_follows_72 rfl ?_
          refine x_goP (x_rS B (c_X8_flag ⟨by omega, by omega⟩) (lw_S q1597 q1598 q122 q1599) hd_X8_flag ⟨by decide, by decide⟩ ⟨by decide, by decide⟩ rfl rfl (by simp [x_cr, x_c1, x_c2]) dX8_follows_74) ?_
          refine x_iadd B dX8_follows_77 ?_
          refine x_istw_9 B dX8_follows_78 (by first | rfl | exact x_cr _ _) ?_
          refine x_iload B dX8_follows_80 rfl ?_
          refine x_if_eq B (tgt := 92) dX8_follows_82 (by decide) ⟨by omega, by omega⟩ (fun h_82 => ?_) (fun h_82 => (by exfalso; omega))
          refine x_iload B dX8_follows_92 rfl ?_
          refine x_istw_11 B dX8_follows_94 (by first | rfl | exact x_cr _ _) ?_
          refine x_iload B dX8_follows_96 rfl ?_
          refine x_iload B dX8_follows_98 rfl ?_
          refine x_if_ne B (tgt := 107) dX8_follows_100 (by decide) ⟨by omega, by omega⟩ (fun h_100 => (by exfalso; omega)) (fun h_100 => ?_)
          refine x_iconst B dX8_follows_103 ?_
          refine x_goto B (tgt := 108) dX8_follows_104 (by decide) ?_
          refine x_goP (x_rS B (c_X8_flag ⟨by omega, by omega⟩) (lw_S q1597 q1598 q122 q1599) hd_X8_flag ⟨by decide, by decide⟩ ⟨by decide, by decide⟩ rfl rfl (by simp [x_cr, x_c1, x_c2]) dX8_follows_108) ?_
          refine x_iadd B dX8_follows_111 ?_
          refine x_istw_10 B dX8_follows_112 (by first | rfl | exact x_cr _ _) ?_
          refine x_iinc_12 B dX8_follows_114 (by first | rfl | exact x_cr _ _) ?_
          refine x_goto B (tgt := 15) dX8_follows_117 (by decide) ?_
          obtain ⟨q, rfl⟩ : ∃ g, q = g + 1 := ⟨q - 1, by omega⟩
          rw [if_neg (show ¬ le = 0 by omega)] at he
          unfold e_in at he
          rw [if_pos ⟨by omega, by omega⟩] at he
          have hRR : ∀ k, 0 ≤ k → k < n0 + 1 → ZT 65 k = (fun j => if j = n0 then (f_d O A t sum tr f2 be le) else R j) k := fun k k1 k2 => by
            dsimp only
            by_cases e : k = n0
            · rw [if_pos e, e]; exact t1.2.1
            · rw [if_neg e, t1.2.2 k e, hR65]; exact hR k k1 (by omega)
          have ih2 := ih q (tr + 1) (f2 + 1) be (f_d O A t sum tr f2 be le) (n0 + 1) (fun j => if j = n0 then (f_d O A t sum tr f2 be le) else R j) ZT ⟨⟨⟨by omega, by omega, by omega⟩, ⟨by omega, by omega⟩, ⟨by omega, by omega⟩, ⟨by omega, by omega⟩, fun _ _ => ⟨by omega, by omega, fun _ => hhx.2.2 (by omega)⟩⟩, ⟨hhT, zT80, zT83⟩, ⟨t1.1, by omega, by omega, hRR⟩, ?_⟩ (by omega)
          · first | (rw [Int.add_zero]; exact ih2) | exact ih2
          · rw [he, if_neg (show ¬ (f_d O A t sum tr f2 be le) = 0 by omega), show f2 + (1 - 0) = f2 + 1 by omega, Int.add_zero, if_neg (show ¬ (0 : Int) = 1 by omega)]
  refine x_iload B dX8_follows_0 rfl ?_
  refine x_istw_9 B dX8_follows_2 (by first | rfl | exact x_cr _ _) ?_
  refine x_iload B dX8_follows_4 rfl ?_
  refine x_istw_10 B dX8_follows_6 (by first | rfl | exact x_cr _ _) ?_
  refine x_iload B dX8_follows_8 rfl ?_
  refine x_istw_11 B dX8_follows_10 (by first | rfl | exact x_cr _ _) ?_
  refine x_iload_n B dX8_follows_12 rfl ?_
  refine x_istw_12 B dX8_follows_13 (by first | rfl | exact x_cr _ _) ?_
  refine lp_15 _ 3 _ _ _ _ (X 64 1) R0 X ⟨⟨⟨by omega, by omega, by omega⟩, ⟨by omega, by omega⟩, ⟨by omega, by omega⟩, ⟨by omega, by omega⟩, hx⟩, ⟨h_eq.rf X, rfl, rfl⟩, ⟨rfl, by omega, by omega, hR0⟩, hE⟩ (Nat.lt_succ_self _)
