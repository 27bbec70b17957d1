theorem c_X8_expected {l : Launch} {E : x_E} {κ : x_Ka} {X : x_X} {o g f : Int} (ho : 0 ≤ o ∧ o ≤ 1000) (hg : 0 ≤ g ∧ g ≤ 1000000) (hf : 0 ≤ f ∧ f ≤ 1000000) : x_Pu l yX8_expected cX8_expected 3 (some .int) 0 E κ X [vi o, vi g, vi f] (vi (p_mix o g f)) := by
  refine x_Met.of [(false, vi o), (false, vi g), (false, vi f)] [some (vi o), some (vi g), some (vi f)] 0 (by decide) rfl rfl ⟨rfl, rfl, rfl, trivial⟩ rfl rfl ?_
  intro p e s m args below meth c hargs hin B
  have hr := (p_mix_r ho hg hf).1
  refine x_iload_n B dX8_expected_0 rfl ?_
  refine x_i2l B dX8_expected_1 ⟨by omega, by omega⟩ ?_
  refine x_iload_n B dX8_expected_2 rfl ?_
  refine x_i2l B dX8_expected_3 ⟨by omega, by omega⟩ ?_
  refine x_lmul B dX8_expected_4 ?_
  refine x_sipush B dX8_expected_5 (by decide) ?_
  refine x_iload_n B dX8_expected_8 rfl ?_
  refine x_isub B dX8_expected_9 ?_
  refine x_i2l B dX8_expected_10 ⟨by omega, by omega⟩ ?_
  refine x_iload_n B dX8_expected_11 rfl ?_
  refine x_i2l B dX8_expected_12 ⟨by omega, by omega⟩ ?_
  refine x_lmul B dX8_expected_13 ?_
  refine x_ladd B dX8_expected_14 ?_
  refine x_ldc2 B (1000) q1716 (by decide) dX8_expected_15 ?_
  refine x_ldiv B dX8_expected_18 ⟨by omega, by omega⟩ ⟨by omega, by omega⟩ ?_
  refine x_l2i B dX8_expected_19 ?_
  refine x_iret B (fun _ _ h => h) ?_ dX8_expected_20
  exact ⟨rfl, rfl⟩
theorem c_X8_failsToo {l : Launch} {E : x_E} {κ : x_Ka} {X : x_X} {z o : Int} (hz : 0 ≤ z ∧ z ≤ 1000000) (ho : 0 ≤ o ∧ o ≤ 1000) : x_Pu l yX8_failsToo cX8_failsToo 2 (some .int) 0 E κ X [vi z, vi o] (vi ((z * (1000 - o)).tdiv 1000)) := by
  refine x_Met.of [(false, vi z), (false, vi o)] [some (vi z), some (vi o)] 0 (by decide) rfl rfl ⟨rfl, rfl, trivial⟩ rfl rfl ?_
  intro p e s m args below meth c hargs hin B
  have hr := (b_dv hz ho).1
  refine x_iload_n B dX8_failsToo_0 rfl ?_
  refine x_i2l B dX8_failsToo_1 ⟨by omega, by omega⟩ ?_
  refine x_sipush B dX8_failsToo_2 (by decide) ?_
  refine x_iload_n B dX8_failsToo_5 rfl ?_
  refine x_isub B dX8_failsToo_6 ?_
  refine x_i2l B dX8_failsToo_7 ⟨by omega, by omega⟩ ?_
  refine x_lmul B dX8_failsToo_8 ?_
  refine x_ldc2 B (1000) q1716 (by decide) dX8_failsToo_9 ?_
  refine x_ldiv B dX8_failsToo_12 ⟨by omega, by omega⟩ ⟨by omega, by omega⟩ ?_
  refine x_l2i B dX8_failsToo_13 ?_
  refine x_iret B (fun _ _ h => h) ?_ dX8_failsToo_14
  exact ⟨rfl, rfl⟩
theorem c_X8_roundOf {l : Launch} {E : x_E} {κ : x_Ka} {X : x_X} {a : Int} (hK : t_K κ X) (hW : m_W (X 64 3) (t_M X)) (ha : 0 ≤ a ∧ a < X 64 3) : x_Pu l yX8_roundOf cX8_roundOf 2 (some .int) 1 E κ X [x_rf E 64, vi a] (vi (t_M X (-1) 2 + t_M X a 6)) := by
  refine x_Met.of [(false, x_rf E 64), (false, vi a)] [some (x_rf E 64), some (vi a)] 0 (by decide) rfl rfl ⟨x_cr E (64), rfl, trivial⟩ rfl rfl ?_
  intro p e s m args below meth c hargs hin B
  obtain ⟨hT, h8, hn⟩ := id hK
  have g2 : t_M X (-1) 2 = X 72 1 := t_M_g (by omega)
  have s6 : t_M X a 6 = X 72 (3 + 10 * a + 1) := t_M_s (by assumption) (by decide) (by omega) (by omega)
  refine x_aload_n B dX8_roundOf_0 rfl ?_
  refine x_getC0 B (k := 11) hT rfl rfl xc_7 (by decide) h8 (Or.inl q1346) (fun _ h => h) dX8_roundOf_1 (fun k_1 => ?_)
  refine x_iconst B dX8_roundOf_4 ?_
  refine x_iald B k_1 ⟨by omega, by omega⟩ dX8_roundOf_5 (fun r_5 => ?_)
  refine x_aload_n B dX8_roundOf_6 rfl ?_
  refine x_iload_n B dX8_roundOf_7 rfl ?_
  refine x_iconst B dX8_roundOf_8 ?_
  refine x_goP (x_rV B h8 (show x_cl[7]? = some _ from rfl) (c_X8_of hT h8 ⟨by omega, by omega⟩) (lw_V q1525 q1527 qs52 q122 q1528) hv_X8_of ⟨by decide, by decide⟩ ⟨by decide, by decide⟩ rfl rfl (by simp [x_cr, x_c1, x_c2]) dX8_roundOf_9) ?_
  refine x_iadd B dX8_roundOf_12 ?_
  refine x_iret B (fun _ _ h => h) ?_ dX8_roundOf_13
  exact ⟨congrArg (fun z => some (vi z)) (by rw [g2, s6]), rfl⟩
theorem c_X8_sumAhead {l : Launch} {E : x_E} {κ : x_Ka} {X : x_X} {a : Int} (hK : t_K κ X) (hW : m_W (X 64 3) (t_M X)) (ha : 0 ≤ a ∧ a < X 64 3) (h7 : t_M X a 7 = 0) (hL : t_M X (-1) 1 ≠ 3) : x_Pu l yX8_sumAhead cX8_sumAhead 4 (some .int) 1 E κ X [x_rf E 64, vi a] (vi (m_sum (t_M X) a - t_M X a (10 + t_M X (-1) 1))) := by
  refine x_Met.of [(false, x_rf E 64), (false, vi a)] [some (x_rf E 64), some (vi a), none, none] 2 (by decide) rfl rfl ⟨x_cr E (64), rfl, trivial⟩ rfl rfl ?_
  intro p e s m args below meth c hargs hin B
  obtain ⟨hT, h8, hn⟩ := id hK
  have g1 : t_M X (-1) 1 = X 72 0 := t_M_g (by omega)
  have w1 := hW.1
  have w2 := hW.2.1 a ha.1 ha.2
  have w3 := hW.2.2 a ha.1 ha.2
  have b0 : t_M X a 10 = X 72 (3 + 10 * a + 7) := t_M_s ha (by decide) (by omega) (by omega)
  have b1 : t_M X a 11 = X 72 (3 + 10 * a + 8) := t_M_s ha (by decide) (by omega) (by omega)
  have b2 : t_M X a 12 = X 72 (3 + 10 * a + 9) := t_M_s ha (by decide) (by omega) (by omega)
  have lp_4 : ∀ (n : Nat) (k z : Int), ((0 ≤ k ∧ k ≤ X 72 0) ∧ z = (if k = 0 then 0 else if k = 1 then t_M X a 10 else t_M X a 10 + t_M X a 11)) → ((4 - k).toNat < n) → x_G p l e (x_rm 1 0 0) s m args below meth c 4 E 0 0 (MQ below (x_Q E κ (fun v_ X_ => v_ = some (vi (m_sum (t_M X) a - t_M X a (10 + t_M X (-1) 1))) ∧ X_ = X)) args s 0 0 (fun q => E.1 ≤ q)) κ 4 [some (x_rf E 64), some (vi a), some (vi z), some (vi k)] [] X := by
    intro n
    induction n with
    | zero => intro k z hinv hme; exfalso; omega
    | succ n ih =>
      intro k z hinv hme
      obtain ⟨hk, hz⟩ := hinv
      have hzr : 0 ≤ z ∧ z ≤ 80 := by rw [hz]; split; omega; split <;> omega
      refine x_iload_n B dX8_sumAhead_4 rfl ?_
      refine x_aload_n B dX8_sumAhead_5 rfl ?_
      refine x_getC0 B (k := 11) hT rfl rfl xc_7 (by decide) h8 (Or.inl q1346) (fun _ h => h) dX8_sumAhead_6 (fun k_6 => ?_)
      refine x_iconst B dX8_sumAhead_9 ?_
      refine x_iald B k_6 ⟨by omega, by omega⟩ dX8_sumAhead_10 (fun r_10 => ?_)
      refine x_icmp_ge B (tgt := 32) dX8_sumAhead_11 (by decide) ⟨by omega, by omega⟩ ⟨by omega, by omega⟩ (fun h_11 => ?_) (fun h_11 => ?_)
      · obtain rfl : k = X 72 0 := by omega
        refine x_iload_n B dX8_sumAhead_32 rfl ?_
        refine x_iret B (fun _ _ h => h) ?_ dX8_sumAhead_33
        have q : (if X 72 0 = 0 then 0 else if X 72 0 = 1 then t_M X a 10 else t_M X a 10 + t_M X a 11) = m_sum (t_M X) a - t_M X a (10 + t_M X (-1) 1) := by
          unfold m_sum; rw [if_pos h7, g1]
          rcases (show X 72 0 = 0 ∨ X 72 0 = 1 ∨ X 72 0 = 2 by omega) with e | e | e
          · rw [e, if_pos rfl, show (10 : Int) + 0 = 10 by omega]; have := w3.2.2.1 (by omega); have := w3.2.2.2.1 (by omega); omega
          · rw [e, if_neg (by omega), if_pos rfl, show (10 : Int) + 1 = 11 by omega]; have := w3.2.2.2.1 (by omega); omega
          · rw [e, if_neg (by omega), if_neg (by omega), show (10 : Int) + 2 = 12 by omega]; omega
        exact ⟨by rw [← q, ← hz], rfl⟩
      · refine x_iload_n B dX8_sumAhead_14 rfl ?_
        refine x_aload_n B dX8_sumAhead_15 rfl ?_
        refine x_iload_n B dX8_sumAhead_16 rfl ?_
        refine x_bipush B dX8_sumAhead_17 (by decide) ?_
        refine x_iload_n B dX8_sumAhead_19 rfl ?_
        refine x_iadd B dX8_sumAhead_20 ?_
        refine x_goP (x_rV B h8 (show x_cl[7]? = some _ from rfl) (c_X8_of hT h8 ⟨by omega, by omega⟩) (lw_V q1525 q1527 qs52 q122 q1528) hv_X8_of ⟨by decide, by decide⟩ ⟨by decide, by decide⟩ rfl rfl (by simp [x_cr, x_c1, x_c2]) dX8_sumAhead_21) ?_
        refine x_rga (show κ 72 = some (.inr (0, 63)) from hT.1 64 7 h8 11 (0, 72, .inr (0, 63)) rfl) (3 + 10 * a + (7 + k)) ⟨by omega, by omega⟩ (fun rb => ?_)
        refine x_iadd B dX8_sumAhead_24 ?_
        refine x_ist_2 B dX8_sumAhead_25 (by first | rfl | exact x_cr _ _) ?_
        refine x_iinc_3 B dX8_sumAhead_26 (by first | rfl | exact x_cr _ _) ?_
        refine x_goto B (tgt := 4) dX8_sumAhead_29 (by decide) ?_
        refine ih _ _ ⟨⟨by omega, by omega⟩, ?_⟩ (by omega)
        rcases (show k = 0 ∨ k = 1 by omega) with e | e
        · subst e; rw [hz, if_pos rfl, if_neg (by omega), if_pos (by omega), b0]; show 0 + X 72 (3 + 10 * a + (7 + 0)) = _; rw [Int.zero_add]; rfl
        · subst e; rw [hz, if_neg (by omega), if_pos rfl, if_neg (by omega), if_neg (by omega), b1]; rfl
  refine x_iconst B dX8_sumAhead_0 ?_
  refine x_ist_2 B dX8_sumAhead_1 (by first | rfl | exact x_cr _ _) ?_
  refine x_iconst B dX8_sumAhead_2 ?_
  refine x_ist_3 B dX8_sumAhead_3 (by first | rfl | exact x_cr _ _) ?_
  exact lp_4 _ 0 0 ⟨⟨by omega, by omega⟩, by rw [if_pos rfl]⟩ (Nat.lt_succ_self _)
theorem p_w_rg {O : Int → Int → Int → Int} {op mr ag A : Int → Int} (hO : ∀ t x f, 0 ≤ t → t ≤ 2 → 0 ≤ f → 0 ≤ O t x f ∧ O t x f ≤ 1000) (hp : ∀ t, 0 ≤ t → t ≤ 2 → 0 ≤ op t ∧ 0 ≤ mr t ∧ 0 ≤ ag t) (hA : ∀ v, 0 ≤ v → v ≤ 120 → 0 ≤ A v ∧ A v ≤ 1000000) : ∀ (k : Nat) (t sum tr fl best load : Int), (0 ≤ t ∧ t ≤ 2) → (0 ≤ sum ∧ sum ≤ 40 * t) → (0 ≤ best ∧ best ≤ 40) → 0 ≤ fl → 0 ≤ load → 0 ≤ p_w O op mr ag A k t sum tr fl best load ∧ p_w O op mr ag A k t sum tr fl best load ≤ 1000000
  | 0, _, _, _, _, _, _, _, _, _, _, _ => by simp [p_w]
  | k + 1, t, sum, tr, fl, best, load, h1, h2, h3, h4, h5 => by
    have hq := hp t h1.1 h1.2
    unfold p_w
    split
    · split
      · exact hA _ (by omega) (by omega)
      · split
        · exact hA _ (by omega) (by omega)
        · have := hp (t + 1) (by omega) (by omega)
          exact p_w_rg hO hp hA k _ _ _ _ _ _ (by omega) (by omega) (by omega) (by omega) this.1
    · exact (p_mix_r (hO _ _ _ h1.1 h1.2 h4) (p_w_rg hO hp hA k _ _ _ _ _ _ h1 h2 (by omega) h4 (by omega)) (p_w_rg hO hp hA k _ _ _ _ _ _ h1 h2 h3 (by omega) (by omega))).2
theorem p_e_rg {O : Int → Int → Int → Int} {op mr ag A : Int → Int} (hO : ∀ t x f, 0 ≤ t → t ≤ 2 → 0 ≤ f → 0 ≤ O t x f ∧ O t x f ≤ 1000) (hp : ∀ t, 0 ≤ t → t ≤ 2 → 0 ≤ op t ∧ 0 ≤ mr t ∧ 0 ≤ ag t) (hA : ∀ v, 0 ≤ v → v ≤ 120 → 0 ≤ A v ∧ A v ≤ 1000000) {t sum best : Int} (h1 : 0 ≤ t ∧ t ≤ 2) (h2 : 0 ≤ sum ∧ sum ≤ 40 * t) (h3 : 0 ≤ best ∧ best ≤ 40) : 0 ≤ p_e O op mr ag A t sum best ∧ p_e O op mr ag A t sum best ≤ 1000000 := by
  unfold p_e
  split
  · exact hA _ (by omega) (by omega)
  · split
    · exact hA _ (by omega) (by omega)
    · have := hp (t + 1) (by omega) (by omega)
      exact p_w_rg hO hp hA 12 _ _ _ _ _ _ (by omega) (by omega) (by omega) (by omega) this.1
/-- asked for nothing: the lift is done -/
theorem p_w_ask {O : Int → Int → Int → Int} {op mr ag A : Int → Int} {t sum r f b y : Int} (h1 : 0 ≤ t ∧ t ≤ 2) (h2 : 0 ≤ r ∧ r ≤ 2) (hy : 1 ≤ y) : (if (if r = 2 then 0 else if y > 40 then 0 else y) = 0 ∨ r + 1 = 3 then p_e O op mr ag A t sum b else p_w O op mr ag A 12 t sum (r + 1) f b (if r = 2 then 0 else if y > 40 then 0 else y)) = p_w O op mr ag A 12 t sum (r + 1) f b y := by
  have hE := p_wE (O := O) (op := op) (mr := mr) (ag := ag) (A := A) (sum := sum) (fl := f) (best := b) (load := y) h1 (show 0 ≤ r + 1 ∧ r + 1 ≤ 3 by omega)
  by_cases q : r = 2
  · rw [if_pos (Or.inr (by omega))]
    rw [if_pos (Or.inl (by omega))] at hE
    exact hE.symm
  · rw [if_neg q]
    by_cases q2 : y > 40
    · rw [if_pos q2, if_pos (Or.inl rfl)]
      rw [if_pos (Or.inr q2)] at hE
      exact hE.symm
    · rw [if_neg q2, if_neg (by omega)]
/-- one worth for every total: that is what comes -/
theorem p_mix_K {o K : Int} : p_mix o K K = K := by
  unfold p_mix
  rw [show o * K + (1000 - o) * K = K * 1000 by rw [← Int.add_mul, Int.mul_comm]; congr 1; omega]
  exact Int.mul_tdiv_cancel K (by omega)
theorem p_w_K {O : Int → Int → Int → Int} {op mr ag A : Int → Int} {K : Int} (hp : ∀ t, 0 ≤ t → t ≤ 2 → 0 ≤ op t ∧ 0 ≤ mr t ∧ 0 ≤ ag t) (hA : ∀ v, 0 ≤ v → v ≤ 120 → A v = K) : ∀ (k : Nat) (t sum tr fl best load : Int), (0 ≤ t ∧ t ≤ 2) → (0 ≤ sum ∧ sum ≤ 40 * t) → (0 ≤ best ∧ best ≤ 40) → (0 ≤ tr ∧ tr ≤ 3) → 0 ≤ load → 4 * (2 - t) + (3 - tr) < k → p_w O op mr ag A k t sum tr fl best load = K
  | 0, _, _, _, _, _, _, _, _, _, _, _, h => by omega
  | k + 1, t, sum, tr, fl, best, load, h1, h2, h3, h4, h5, hd => by
    have hq := hp t h1.1 h1.2
    unfold p_w
    by_cases q : tr = 3 ∨ load > 40
    · rw [if_pos q]
      by_cases q2 : best = 0
      · rw [if_pos q2, hA 0 (by omega) (by omega)]
      · rw [if_neg q2]
        by_cases q3 : t = 2
        · rw [if_pos q3, hA _ (by omega) (by omega)]
        · have := hp (t + 1) (by omega) (by omega)
          rw [if_neg q3]
          exact p_w_K hp hA k _ _ _ _ _ _ (by omega) (by omega) (by omega) (by omega) this.1 (by omega)
    · rw [if_neg q, p_w_K hp hA k _ _ _ _ _ _ h1 h2 (by omega) (by omega) (by omega) (by omega), p_w_K hp hA k _ _ _ _ _ _ h1 h2 h3 (by omega) (by omega) (by omega)]
      exact p_mix_K
theorem p_now_K {O : Int → Int → Int → Int} {op mr ag A : Int → Int} {K : Int} (hp : ∀ t, 0 ≤ t → t ≤ 2 → 0 ≤ op t ∧ 0 ≤ mr t ∧ 0 ≤ ag t) (hA : ∀ v, 0 ≤ v → v ≤ 120 → A v = K) {n l load : Int} {M : x_X} (hW : m_W n M) (h1 : 0 ≤ l) (h2 : l < n) (hl : 0 ≤ load) (h6 : M l 3 ≠ 0 → M (-1) 2 + M l 6 ≤ 3) : p_now O op mr ag A M l load = K := by
  have hs := m_sum_r hW h1 h2
  have w := hW.1
  have w2 := hW.2.1 l h1 h2
  unfold p_now
  by_cases q : M l 7 ≠ 0
  · rw [if_pos q, hA 0 (by omega) (by omega)]
  · rw [if_neg q]
    by_cases q2 : M (-1) 1 = 3
    · rw [if_pos q2, hA _ hs.1 hs.2]
    · have hr := m_rest hW h1 h2 (by omega) q2
      rw [if_neg q2]
      by_cases q3 : M l 3 = 0
      · rw [if_pos q3]
        unfold p_e
        by_cases q4 : M l (10 + M (-1) 1) = 0
        · rw [if_pos q4, hA 0 (by omega) (by omega)]
        · rw [if_neg q4]
          by_cases q5 : M (-1) 1 = 2
          · rw [if_pos q5, hA _ (by omega) (by omega)]
          · have := hp (M (-1) 1 + 1) (by omega) (by omega)
            rw [if_neg q5]
            exact p_w_K hp hA 12 _ _ _ _ _ _ (by omega) (by omega) (by omega) (by omega) this.1 (by omega)
      · rw [if_neg q3]
        exact p_w_K hp hA 12 _ _ _ _ _ _ (by omega) hr.1 hr.2 (by have := h6 q3; omega) hl (by omega)
theorem c_X8_plannedBehind {l : Launch} {E : x_E} {κ : x_Ka} {X : x_X} {q : Nat} {a t best sum bv : Int} (hK : t_K κ X) (hP : t_P X) (hO : t_Ow X) (ha : 0 ≤ a ∧ a < X 64 3) (hA : ∀ v, 0 ≤ v → v ≤ 120 → 0 ≤ X 80 v ∧ X 80 v ≤ 1000000) (ht : 0 ≤ t ∧ t ≤ 2) (hb : 0 ≤ best ∧ best ≤ 40) (hs : 0 ≤ sum ∧ sum ≤ 40 * t) (hc : best ≠ 0 → t ≠ 2 → (x_Pu l yX8_planned cX8_planned 10 (some .int) q E κ X [x_rf E 64, vi a, vi (t + 1), vi (0), vi (t_p3 X a (t + 1) 0), vi (0), vi (0), vi (sum + best)] (vi (bv)))) : x_Pu l yX8_plannedBehind cX8_plannedBehind 5 (some .int) (q + 1) E κ X [x_rf E 64, vi a, vi t, vi best, vi sum] (vi (if best = 0 then X 80 0 else if t = 2 then X 80 (sum + best) else bv)) := by
  refine x_Met.of [(false, x_rf E 64), (false, vi a), (false, vi t), (false, vi best), (false, vi sum)] [some (x_rf E 64), some (vi a), some (vi t), some (vi best), some (vi sum)] 0 (by decide) rfl rfl ⟨x_cr E (64), rfl, rfl, rfl, rfl, trivial⟩ rfl rfl ?_
  intro p e s m args below meth c hargs hin B
  obtain ⟨hT, h8, hn⟩ := id hK
  refine x_iload_n B dX8_plannedBehind_0 rfl ?_
  refine x_if_ne B (tgt := 11) dX8_plannedBehind_1 (by decide) ⟨by omega, by omega⟩ (fun h_1 => ?_) (fun h_1 => ?_)
  · refine x_iload_n B dX8_plannedBehind_11 rfl ?_
    refine x_iconst B dX8_plannedBehind_12 ?_
    refine x_icmp_ne B (tgt := 28) dX8_plannedBehind_13 (by decide) ⟨by omega, by omega⟩ ⟨by omega, by omega⟩ (fun h_13 => ?_) (fun h_13 => ?_)
    · refine x_aload_n B dX8_plannedBehind_28 rfl ?_
      refine x_iload_n B dX8_plannedBehind_29 rfl ?_
      refine x_iload_n B dX8_plannedBehind_30 rfl ?_
      refine x_iconst B dX8_plannedBehind_31 ?_
      refine x_iadd B dX8_plannedBehind_32 ?_
      refine x_iconst B dX8_plannedBehind_33 ?_
      refine x_aload_n B dX8_plannedBehind_34 rfl ?_
      refine x_iload_n B dX8_plannedBehind_35 rfl ?_
      refine x_iload_n B dX8_plannedBehind_36 rfl ?_
      refine x_iconst B dX8_plannedBehind_37 ?_
      refine x_iadd B dX8_plannedBehind_38 ?_
      refine x_iconst B dX8_plannedBehind_39 ?_
      refine x_goP (x_rV B h8 (show x_cl[7]? = some _ from rfl) (c_X8_planOf hK ha ⟨by omega, by omega⟩ ⟨by omega, by omega⟩) (lw_V q1529 q1531 qs53 q122 q1532) hv_X8_planOf ⟨by show _ ≤ q + 1 + 1; omega, by show _ ≤ 64 * (q + 1 + 1); omega⟩ ⟨Nat.le_refl _, Nat.le_refl _⟩ rfl rfl (by simp [x_cr, x_c1, x_c2]) dX8_plannedBehind_40) ?_
      refine x_iconst B dX8_plannedBehind_43 ?_
      refine x_iconst B dX8_plannedBehind_44 ?_
      refine x_iload B dX8_plannedBehind_45 rfl ?_
      refine x_iload_n B dX8_plannedBehind_47 rfl ?_
      refine x_iadd B dX8_plannedBehind_48 ?_
      refine x_goP (x_rV B h8 (show x_cl[7]? = some _ from rfl) ((hc h_1 h_13) ) (lw_V q1705 q1707 qs79 q122 q1708) hv_X8_planned ⟨by show _ ≤ q + 1 + 1; omega, by show _ ≤ 64 * (q + 1 + 1); omega⟩ ⟨Nat.le_refl _, Nat.le_refl _⟩ rfl rfl (by simp [x_cr, x_c1, x_c2]) dX8_plannedBehind_49) ?_
      refine x_iret B (fun _ _ h => h) ?_ dX8_plannedBehind_52
      exact ⟨congrArg (fun z => some (vi z)) (by first | (rw [if_neg h_1, if_pos (by omega)]; done) | (rw [if_neg h_1, if_neg h_13]; done)), rfl⟩
    · refine x_aload_n B dX8_plannedBehind_16 rfl ?_
      refine x_getC0 B (k := 28) hT rfl rfl xc_7 (by decide) h8 (Or.inl q1363) (fun _ h => h) dX8_plannedBehind_17 (fun k_17 => ?_)
      refine x_iload B dX8_plannedBehind_20 rfl ?_
      refine x_iload_n B dX8_plannedBehind_22 rfl ?_
      refine x_iadd B dX8_plannedBehind_23 ?_
      refine x_iald B k_17 ⟨by omega, by omega⟩ dX8_plannedBehind_24 (fun r_24 => ?_)
      refine x_goto B (tgt := 52) dX8_plannedBehind_25 (by decide) ?_
      refine x_iret B (fun _ _ h => h) ?_ dX8_plannedBehind_52
      exact ⟨congrArg (fun z => some (vi z)) (by first | (rw [if_neg h_1, if_pos (by omega)]; done) | (rw [if_neg h_1, if_neg h_13]; done)), rfl⟩
  · refine x_aload_n B dX8_plannedBehind_4 rfl ?_
    refine x_getC0 B (k := 28) hT rfl rfl xc_7 (by decide) h8 (Or.inl q1363) (fun _ h => h) dX8_plannedBehind_5 (fun k_5 => ?_)
    refine x_iconst B dX8_plannedBehind_8 ?_
    refine x_iald B k_5 ⟨by omega, by omega⟩ dX8_plannedBehind_9 (fun r_9 => ?_)
    refine x_iret B (fun _ _ h => h) ?_ dX8_plannedBehind_10
    exact ⟨congrArg (fun z => some (vi z)) (by rw [if_pos (by omega)]), rfl⟩
theorem c_X8_planned {l : Launch} {E : x_E} {κ : x_Ka} {X : x_X} {q q2 : Nat} {a t r x f best sum ev gv fv : Int} (hK : t_K κ X) (hP : t_P X) (hO : t_Ow X) (ha : 0 ≤ a ∧ a < X 64 3) (hA : ∀ v, 0 ≤ v → v ≤ 120 → 0 ≤ X 80 v ∧ X 80 v ≤ 1000000) (hq : 2 ≤ q ∧ q2 ≤ q) (ht : 0 ≤ t ∧ t ≤ 2) (hr : 0 ≤ r ∧ r ≤ 3) (hx : 0 ≤ x ∧ x ≤ 40) (hf : 0 ≤ f ∧ f ≤ 3) (hb : 0 ≤ best ∧ best ≤ 40) (hs : 0 ≤ sum ∧ sum ≤ 40 * t) (he : x = 0 ∨ r = 3 → (x_Pu l yX8_plannedBehind cX8_plannedBehind 5 (some .int) q E κ X [x_rf E 64, vi a, vi (t), vi (best), vi (sum)] (vi (ev)))) (hg : ¬ (x = 0 ∨ r = 3) → (x_Pu l yX8_planned cX8_planned 10 (some .int) q2 E κ X [x_rf E 64, vi a, vi (t), vi (r + 1), vi (if r = 2 then 0 else if x + t_p3 X a t (if (1 : Int) = 1 then 1 else 2) > 40 then 0 else x + t_p3 X a t (if (1 : Int) = 1 then 1 else 2)), vi (f), vi (max best x), vi (sum)] (vi (gv)))) (hv : ¬ (x = 0 ∨ r = 3) → (x_Pu l yX8_planned cX8_planned 10 (some .int) q2 E κ X [x_rf E 64, vi a, vi (t), vi (r + 1), vi (if r = 2 then 0 else if x + t_p3 X a t (if (0 : Int) = 1 then 1 else 2) > 40 then 0 else x + t_p3 X a t (if (0 : Int) = 1 then 1 else 2)), vi (f + 1), vi (best), vi (sum)] (vi (fv)))) (rg : 0 ≤ gv ∧ gv ≤ 1000000) (rv : 0 ≤ fv ∧ fv ≤ 1000000) : x_Pu l yX8_planned cX8_planned 10 (some .int) (q + 1) E κ X [x_rf E 64, vi a, vi t, vi r, vi x, vi f, vi best, vi sum] (vi (if x = 0 ∨ r = 3 then ev else p_mix (t_O X a t x f) gv fv)) := by
  refine x_Met.of [(false, x_rf E 64), (false, vi a), (false, vi t), (false, vi r), (false, vi x), (false, vi f), (false, vi best), (false, vi sum)] [some (x_rf E 64), some (vi a), some (vi t), some (vi r), some (vi x), some (vi f), some (vi best), some (vi sum), none, none] 2 (by decide) rfl rfl ⟨x_cr E (64), rfl, rfl, rfl, rfl, rfl, rfl, rfl, trivial⟩ rfl rfl ?_
  intro p e s m args below meth c hargs hin B
  obtain ⟨hT, h8, hn⟩ := id hK
  refine x_iload B dX8_planned_0 rfl ?_
  refine x_if_eq B (tgt := 10) dX8_planned_2 (by decide) ⟨by omega, by omega⟩ (fun h_2 => ?_) (fun h_2 => ?_)
  · refine x_aload_n B dX8_planned_10 rfl ?_
    refine x_iload_n B dX8_planned_11 rfl ?_
    refine x_iload_n B dX8_planned_12 rfl ?_
    refine x_iload B dX8_planned_13 rfl ?_
    refine x_iload B dX8_planned_15 rfl ?_
    refine x_goP (x_rV B h8 (show x_cl[7]? = some _ from rfl) ((he (by omega)) ) (lw_V q1709 q1711 qs80 q122 q1712) hv_X8_plannedBehind ⟨by show _ ≤ q + 1 + 1; omega, by show _ ≤ 64 * (q + 1 + 1); omega⟩ ⟨Nat.le_refl _, Nat.le_refl _⟩ rfl rfl (by simp [x_cr, x_c1, x_c2]) dX8_planned_17) ?_
    refine x_iret B (fun _ _ h => h) ?_ dX8_planned_20
    exact ⟨congrArg (fun z => some (vi z)) (by rw [if_pos (by omega)]), rfl⟩
  · refine x_iload_n B dX8_planned_5 rfl ?_
    refine x_iconst B dX8_planned_6 ?_
    refine x_icmp_ne B (tgt := 21) dX8_planned_7 (by decide) ⟨by omega, by omega⟩ ⟨by omega, by omega⟩ (fun h_7 => ?_) (fun h_7 => ?_)
    · have hnn : ¬ (x = 0 ∨ r = 3) := by omega
      have hOr := t_O_r (κ := κ) (x := x) (f := f) (t := t) hO ha ⟨by omega, by omega⟩ (by omega)
      refine x_aload_n B dX8_planned_21 rfl ?_
      refine x_iload_n B dX8_planned_22 rfl ?_
      refine x_iload_n B dX8_planned_23 rfl ?_
      refine x_iload_n B dX8_planned_24 rfl ?_
      refine x_iconst B dX8_planned_25 ?_
      refine x_iadd B dX8_planned_26 ?_
      refine x_aload_n B dX8_planned_27 rfl ?_
      refine x_iload_n B dX8_planned_28 rfl ?_
      refine x_iload_n B dX8_planned_29 rfl ?_
      refine x_iload_n B dX8_planned_30 rfl ?_
      refine x_iload B dX8_planned_31 rfl ?_
      refine x_iconst B dX8_planned_33 ?_
      refine x_goP (x_rV B h8 (show x_cl[7]? = some _ from rfl) (c_X8_asksThen hK hP ha ⟨by omega, by omega⟩ ⟨by omega, by omega⟩ ⟨by omega, by omega⟩ (by omega)) (lw_V q1640 q1642 qs68 q122 q1643) hv_X8_asksThen ⟨by show _ ≤ q + 1 + 1; omega, by show _ ≤ 64 * (q + 1 + 1); omega⟩ ⟨Nat.le_refl _, Nat.le_refl _⟩ rfl rfl (by simp [x_cr, x_c1, x_c2]) dX8_planned_34) ?_
      refine x_iload B dX8_planned_37 rfl ?_
      refine x_iload B dX8_planned_39 rfl ?_
      refine x_iload B dX8_planned_41 rfl ?_
      refine x_max B ⟨by omega, by omega⟩ ⟨by omega, by omega⟩ q1584 q666 q130 q667 (by show 1 ≤ q + 1 + 1; omega) (by simp only [List.map, x_cr, x_c1, x_c2, List.sum_cons, List.sum_nil]; show _ ≤ 64 * (q + 1 + 1); first | omega | (simp; omega)) ⟨Nat.le_refl _, Nat.le_refl _⟩ dX8_planned_43 ?_
      refine x_iload B dX8_planned_46 rfl ?_
      refine x_goP (x_rV B h8 (show x_cl[7]? = some _ from rfl) ((hg hnn) ) (lw_V q1705 q1707 qs79 q122 q1708) hv_X8_planned ⟨by show _ ≤ q + 1 + 1; omega, by show _ ≤ 64 * (q + 1 + 1); omega⟩ ⟨Nat.le_refl _, Nat.le_refl _⟩ rfl rfl (by simp [x_cr, x_c1, x_c2]) dX8_planned_48) ?_
      refine x_istw_8 B dX8_planned_51 (by first | rfl | exact x_cr _ _) ?_
      refine x_aload_n B dX8_planned_53 rfl ?_
      refine x_iload_n B dX8_planned_54 rfl ?_
      refine x_iload_n B dX8_planned_55 rfl ?_
      refine x_iload_n B dX8_planned_56 rfl ?_
      refine x_iconst B dX8_planned_57 ?_
      refine x_iadd B dX8_planned_58 ?_
      refine x_aload_n B dX8_planned_59 rfl ?_
      refine x_iload_n B dX8_planned_60 rfl ?_
      refine x_iload_n B dX8_planned_61 rfl ?_
      refine x_iload_n B dX8_planned_62 rfl ?_
      refine x_iload B dX8_planned_63 rfl ?_
      refine x_iconst B dX8_planned_65 ?_
      refine x_goP (x_rV B h8 (show x_cl[7]? = some _ from rfl) (c_X8_asksThen hK hP ha ⟨by omega, by omega⟩ ⟨by omega, by omega⟩ ⟨by omega, by omega⟩ (by omega)) (lw_V q1640 q1642 qs68 q122 q1643) hv_X8_asksThen ⟨by show _ ≤ q + 1 + 1; omega, by show _ ≤ 64 * (q + 1 + 1); omega⟩ ⟨Nat.le_refl _, Nat.le_refl _⟩ rfl rfl (by simp [x_cr, x_c1, x_c2]) dX8_planned_66) ?_
      refine x_iload B dX8_planned_69 rfl ?_
      refine x_iconst B dX8_planned_71 ?_
      refine x_iadd B dX8_planned_72 ?_
      refine x_iload B dX8_planned_73 rfl ?_
      refine x_iload B dX8_planned_75 rfl ?_
      refine x_goP (x_rV B h8 (show x_cl[7]? = some _ from rfl) ((hv hnn) ) (lw_V q1705 q1707 qs79 q122 q1708) hv_X8_planned ⟨by show _ ≤ q + 1 + 1; omega, by show _ ≤ 64 * (q + 1 + 1); omega⟩ ⟨Nat.le_refl _, Nat.le_refl _⟩ rfl rfl (by simp [x_cr, x_c1, x_c2]) dX8_planned_77) ?_
      refine x_istw_9 B dX8_planned_80 (by first | rfl | exact x_cr _ _) ?_
      refine x_aload_n B dX8_planned_82 rfl ?_
      refine x_iload_n B dX8_planned_83 rfl ?_
      refine x_iload_n B dX8_planned_84 rfl ?_
      refine x_iload B dX8_planned_85 rfl ?_
      refine x_iload B dX8_planned_87 rfl ?_
      refine x_goP (x_rV B h8 (show x_cl[7]? = some _ from rfl) (c_X8_oddsOf hK hO ha ⟨by omega, by omega⟩ ⟨by omega, by omega⟩ ⟨by omega, by omega⟩) (lw_V q1576 q1578 qs58 q122 q1579) hv_X8_oddsOf ⟨by show _ ≤ q + 1 + 1; omega, by show _ ≤ 64 * (q + 1 + 1); omega⟩ ⟨Nat.le_refl _, Nat.le_refl _⟩ rfl rfl (by simp [x_cr, x_c1, x_c2]) dX8_planned_89) ?_
      refine x_iload B dX8_planned_92 rfl ?_
      refine x_iload B dX8_planned_94 rfl ?_
      refine x_goP (x_rS B (c_X8_expected hOr rg rv) (lw_S q1713 q1714 q122 q1715) hd_X8_expected ⟨by show _ ≤ q + 1 + 1; omega, by show _ ≤ 64 * (q + 1 + 1); omega⟩ ⟨Nat.le_refl _, Nat.le_refl _⟩ rfl rfl (by simp [x_cr, x_c1, x_c2]) dX8_planned_96) ?_
      refine x_iret B (fun _ _ h => h) ?_ dX8_planned_99
      exact ⟨congrArg (fun z => some (vi z)) (by rw [if_neg hnn]), rfl⟩
    · refine x_aload_n B dX8_planned_10 rfl ?_
      refine x_iload_n B dX8_planned_11 rfl ?_
      refine x_iload_n B dX8_planned_12 rfl ?_
      refine x_iload B dX8_planned_13 rfl ?_
      refine x_iload B dX8_planned_15 rfl ?_
      refine x_goP (x_rV B h8 (show x_cl[7]? = some _ from rfl) ((he (by omega)) ) (lw_V q1709 q1711 qs80 q122 q1712) hv_X8_plannedBehind ⟨by show _ ≤ q + 1 + 1; omega, by show _ ≤ 64 * (q + 1 + 1); omega⟩ ⟨Nat.le_refl _, Nat.le_refl _⟩ rfl rfl (by simp [x_cr, x_c1, x_c2]) dX8_planned_17) ?_
      refine x_iret B (fun _ _ h => h) ?_ dX8_planned_20
      exact ⟨congrArg (fun z => some (vi z)) (by rw [if_pos (by omega)]), rfl⟩
theorem p_all8 {l : Launch} {E : x_E} {κ : x_Ka} {X : x_X} {a : Int} (hK : t_K κ X) (hP : t_P X) (hO : t_Ow X) (ha : 0 ≤ a ∧ a < X 64 3) (hA : ∀ v, 0 ≤ v → v ≤ 120 → 0 ≤ X 80 v ∧ X 80 v ≤ 1000000) : ∀ (d : Nat) (t r x f best sum : Int), (0 ≤ t ∧ t ≤ 2) → (0 ≤ r ∧ r ≤ 3) → (0 ≤ x ∧ x ≤ 40) → (0 ≤ f ∧ f ≤ 3 ∧ (x ≠ 0 → f ≤ r)) → (0 ≤ best ∧ best ≤ 40) → (x = 0 ∨ best < x) → (0 ≤ sum ∧ sum ≤ 40 * t) → 4 * (2 - t) + (3 - r) < d →
    (x_Pu l yX8_planned cX8_planned 10 (some .int) (2 * d + 3) E κ X [x_rf E 64, vi a, vi (t), vi (r), vi (x), vi (f), vi (best), vi (sum)] (vi ((if x = 0 ∨ r = 3 then p_e (t_O X a) (fun t => t_p3 X a t 0) (fun t => t_p3 X a t 1) (fun t => t_p3 X a t 2) (X 80) (t) (sum) (best) else p_w (t_O X a) (fun t => t_p3 X a t 0) (fun t => t_p3 X a t 1) (fun t => t_p3 X a t 2) (X 80) 12 (t) (sum) (r) (f) (best) (x)))))
  | 0, _, _, _, _, _, _, _, _, _, _, _, _, _, hd => by omega
  | d + 1, t, r, x, f, best, sum, h1, h2, h3, h4, h5, h6, h7, hd => by
    have hp3 : ∀ t, 0 ≤ t → t ≤ 2 → 0 ≤ t_p3 X a t 0 ∧ 0 ≤ t_p3 X a t 1 ∧ 0 ≤ t_p3 X a t 2 := fun t t1 t2 => by have := hP a ha.1 ha.2 t t1 (by omega); omega
    have hOr : ∀ t x f, 0 ≤ t → t ≤ 2 → 0 ≤ f → 0 ≤ t_O X a t x f ∧ t_O X a t x f ≤ 1000 := fun t x f t1 t2 f0 => t_O_r (κ := κ) hO ha ⟨t1, by omega⟩ f0
    have hp := hP a ha.1 ha.2 t h1.1 (by omega)
    by_cases q : x = 0 ∨ r = 3
    · have hB : (x_Pu l yX8_plannedBehind cX8_plannedBehind 5 (some .int) (2 * d + 4) E κ X [x_rf E 64, vi a, vi (t), vi (best), vi (sum)] (vi (p_e (t_O X a) (fun t => t_p3 X a t 0) (fun t => t_p3 X a t 1) (fun t => t_p3 X a t 2) (X 80) t sum best))) := by
        unfold p_e
        refine c_X8_plannedBehind (q := 2 * d + 3) hK hP hO ha hA h1 h5 h7 (fun q1 q2 => ?_)
        have hpn := hP a ha.1 ha.2 (t + 1) (by omega) (by omega)
        have := p_all8 (l := l) (E := E) hK hP hO ha hA d (t + 1) 0 (t_p3 X a (t + 1) 0) 0 0 (sum + best) (by omega) (by omega) (by omega) ⟨by omega, by omega, fun _ => by omega⟩ (by omega) (by omega) (by omega) (by omega)
        rw [if_neg (by omega)] at this
        exact this
      have h := c_X8_planned (l := l) (E := E) (q := 2 * d + 4) (q2 := 2 * d + 3) (f := f) (ev := p_e (t_O X a) (fun t => t_p3 X a t 0) (fun t => t_p3 X a t 1) (fun t => t_p3 X a t 2) (X 80) t sum best) (gv := 0) (fv := 0) hK hP hO ha hA (by omega) h1 h2 h3 (by omega) h5 h7 (fun _ => hB) (fun n => absurd q n) (fun n => absurd q n) (by omega) (by omega)
      rw [if_pos q] at h ⊢
      exact h
    · have g1 := p_all8 (l := l) (E := E) hK hP hO ha hA d t (r + 1) (if r = 2 then 0 else if x + t_p3 X a t (if (1 : Int) = 1 then 1 else 2) > 40 then 0 else x + t_p3 X a t (if (1 : Int) = 1 then 1 else 2)) f (max best x) sum h1 (by omega) (by rw [if_pos rfl]; split; omega; split <;> omega) ⟨by omega, by omega, fun _ => by have := h4.2.2 (by omega); omega⟩ (by omega) (by rw [if_pos rfl]; split; omega; split <;> omega) h7 (by omega)
      have g0 := p_all8 (l := l) (E := E) hK hP hO ha hA d t (r + 1) (if r = 2 then 0 else if x + t_p3 X a t (if (0 : Int) = 1 then 1 else 2) > 40 then 0 else x + t_p3 X a t (if (0 : Int) = 1 then 1 else 2)) (f + 1) best sum h1 (by omega) (by rw [if_neg (show ¬ (0 : Int) = 1 by omega)]; split; omega; split <;> omega) ⟨by omega, by have := h4.2.2 (by omega); omega, fun _ => by have := h4.2.2 (by omega); omega⟩ h5 (by rw [if_neg (show ¬ (0 : Int) = 1 by omega)]; split; omega; split <;> omega) h7 (by omega)
      rw [p_w_ask h1 (by omega) (by rw [if_pos rfl]; omega)] at g1
      rw [p_w_ask h1 (by omega) (by rw [if_neg (by omega)]; omega)] at g0
      have h := c_X8_planned (l := l) (E := E) (q := 2 * d + 4) (q2 := 2 * d + 3) (f := f) (ev := 0) (gv := p_w (t_O X a) (fun t => t_p3 X a t 0) (fun t => t_p3 X a t 1) (fun t => t_p3 X a t 2) (X 80) 12 t sum (r + 1) f (max best x) (x + t_p3 X a t (if (1 : Int) = 1 then 1 else 2))) (fv := p_w (t_O X a) (fun t => t_p3 X a t 0) (fun t => t_p3 X a t 1) (fun t => t_p3 X a t 2) (X 80) 12 t sum (r + 1) (f + 1) best (x + t_p3 X a t (if (0 : Int) = 1 then 1 else 2))) hK hP hO ha hA (by omega) h1 h2 h3 (by omega) h5 h7 (fun n => absurd n q) (fun _ => g1) (fun _ => g0) (p_w_rg hOr hp3 hA 12 _ _ _ _ _ _ h1 h7 (by omega) (by omega) (by rw [if_pos rfl]; omega)) (p_w_rg hOr hp3 hA 12 _ _ _ _ _ _ h1 h7 h5 (by omega) (by rw [if_neg (by omega)]; omega))
      rw [if_neg q] at h ⊢
      rw [p_wE h1 h2, if_neg (by omega)]
      rw [if_pos rfl, if_neg (show ¬ (0 : Int) = 1 by omega), show max best x = x by omega] at h
      exact h
def q8_pl (X : x_X) (A : Int → Int) (a : Int) : Int := p_now (t_O X a) (fun t => t_p3 X a t 0) (fun t => t_p3 X a t 1) (fun t => t_p3 X a t 2) A (t_M X) a (t_M X a 3)
/-- queries leave the twin's core as it was -/
def h_eq (X Y : x_X) : Prop := (∀ b, b ≠ 64 → b ≠ 65 → (b < 80 ∨ 86 < b) → Y b = X b) ∧ ∀ i, i ≠ 0 → i ≠ 1 → (i < 33 ∨ 36 < i) → Y 64 i = X 64 i
theorem h_eq.rf (X : x_X) : h_eq X X := ⟨fun _ _ _ _ => rfl, fun _ _ _ _ => rfl⟩
theorem h_eq.trans {X Y Z : x_X} (h : h_eq X Y) (h2 : h_eq Y Z) : h_eq X Z := ⟨fun b b1 b2 b3 => (h2.1 b b1 b2 b3).trans (h.1 b b1 b2 b3), fun i i1 i2 i3 => (h2.2 i i1 i2 i3).trans (h.2 i i1 i2 i3)⟩
theorem h_eq.up {X Y : x_X} (h : h_eq X Y) {b i z : Int} (hb : b = 65 ∨ (80 ≤ b ∧ b ≤ 86)) : h_eq X (x_up Y b i z) := ⟨fun c c1 c2 c3 => by rw [x_up_o _ (by omega)]; exact h.1 c c1 c2 c3, fun j j1 j2 j3 => by rw [x_up_o _ (by omega)]; exact h.2 j j1 j2 j3⟩
theorem h_eq.u64 {X Y : x_X} (h : h_eq X Y) {i z : Int} (hi : i = 0 ∨ i = 1 ∨ (33 ≤ i ∧ i ≤ 36)) : h_eq X (x_up Y 64 i z) := ⟨fun c c1 c2 c3 => by rw [x_up_o _ c1]; exact h.1 c c1 c2 c3, fun j j1 j2 j3 => by rw [x_up_n _ (Or.inr (by omega))]; exact h.2 j j1 j2 j3⟩
theorem h_eq.tl {X Y : x_X} (h : h_eq X Y) {z : Int} : h_eq X (t_tl Y z) := (h.up (Or.inl rfl)).u64 (Or.inr (Or.inl rfl))
theorem h_eq.v {X Y : x_X} (h : h_eq X Y) : Y 64 3 = X 64 3 ∧ t_M Y = t_M X ∧ t_lot Y = t_lot X ∧ t_li Y = t_li X ∧ t_p3 Y = t_p3 X ∧ t_O Y = t_O X ∧ t_G Y = t_G X := by
  have e3 : Y 64 3 = X 64 3 := h.2 3 (by omega) (by omega) (by omega)
  have el := t_lot_e e3 (h.1 67 (by omega) (by omega) (by omega))
  refine ⟨e3, t_M_e e3 (h.1 72 (by omega) (by omega) (by omega)), el, ?_, t_p3_e e3 (h.1 71 (by omega) (by omega) (by omega)), t_O_e e3 (h.2 10 (by omega) (by omega) (by omega)) (h.1 68 (by omega) (by omega) (by omega)) (h.1 69 (by omega) (by omega) (by omega)) (h.1 70 (by omega) (by omega) (by omega)), ?_⟩
  · unfold t_li; rw [el, t_body_e e3 (h.1 66 (by omega) (by omega) (by omega))]
  · funext k w; unfold t_G; rw [h.2 13 (by omega) (by omega) (by omega), h.1 74 (by omega) (by omega) (by omega)]
theorem h_eq.C {κ : x_Ka} {X Y : x_X} (h : h_eq X Y) (hC : t_C κ X) : t_C κ Y := by
  obtain ⟨hK, hP, hO, hW, hL⟩ := hC
  obtain ⟨e3, eM, -, -, ep, -, -⟩ := h.v
  refine ⟨?_, ?_, ?_, ?_, ?_⟩
  · unfold t_K at *; rw [e3]; exact hK
  · unfold t_P at *; rw [e3, ep]; exact hP
  · unfold t_Ow at *; rw [e3, h.2 10 (by omega) (by omega) (by omega), h.1 68 (by omega) (by omega) (by omega), h.1 69 (by omega) (by omega) (by omega), h.1 70 (by omega) (by omega) (by omega)]; exact hO
  · rw [e3, eM]; exact hW
  · unfold t_La at *; rw [e3, h.1 72 (by omega) (by omega) (by omega)]; exact hL
theorem h_eq.q {X Y : x_X} (h : h_eq X Y) (A : Int → Int) (a : Int) : q8_pl Y A a = q8_pl X A a := by
  obtain ⟨-, eM, -, -, ep, eO, -⟩ := h.v
  unfold q8_pl; rw [eM, ep, eO]
theorem q8_c {κ : x_Ka} {X : x_X} {A A2 : Int → Int} {a : Int} (hC : t_C κ X) (ha : 0 ≤ a ∧ a < X 64 3) (h : ∀ v, 0 ≤ v → v ≤ 120 → A v = A2 v) : q8_pl X A a = q8_pl X A2 a := by
  obtain ⟨hK, hP, hO, hW, hL⟩ := hC
  exact p_now_c (fun _ _ _ _ _ => rfl) (fun _ _ _ => ⟨rfl, rfl, rfl⟩) h (fun t t1 t2 => by have := hP a ha.1 ha.2 t t1 (by omega); omega) hW ha.1 ha.2 (hW.2.1 a ha.1 ha.2).2.1.1
theorem q8_r {κ : x_Ka} {X : x_X} {A : Int → Int} {a : Int} (hC : t_C κ X) (ha : 0 ≤ a ∧ a < X 64 3) (hA : ∀ v, 0 ≤ v → v ≤ 120 → 0 ≤ A v ∧ A v ≤ 1000000) : 0 ≤ q8_pl X A a ∧ q8_pl X A a ≤ 1000000 := by
  obtain ⟨hK, hP, hO, hW, hL⟩ := hC
  have hp3 : ∀ t, 0 ≤ t → t ≤ 2 → 0 ≤ t_p3 X a t 0 ∧ 0 ≤ t_p3 X a t 1 ∧ 0 ≤ t_p3 X a t 2 := fun t t1 t2 => by have := hP a ha.1 ha.2 t t1 (by omega); omega
  have hOr : ∀ t x f, 0 ≤ t → t ≤ 2 → 0 ≤ f → 0 ≤ t_O X a t x f ∧ t_O X a t x f ≤ 1000 := fun t x f t1 t2 f0 => t_O_r (κ := κ) hO ha ⟨t1, by omega⟩ f0
  have hs := m_sum_r hW ha.1 ha.2
  have w2 := hW.2.1 a ha.1 ha.2
  have w1 := hW.1
  unfold q8_pl p_now
  split
  · exact hA _ (by omega) (by omega)
  · rename_i q
    split
    · exact hA _ hs.1 hs.2
    · rename_i q2
      have hr := m_rest hW ha.1 ha.2 (by omega) q2
      split
      · exact p_e_rg hOr hp3 hA (by omega) hr.1 hr.2
      · exact p_w_rg hOr hp3 hA 12 _ _ _ _ _ _ (by omega) hr.1 hr.2 (by omega) (by omega)
theorem q8_K {κ : x_Ka} {X : x_X} {A : Int → Int} {a K : Int} (hC : t_C κ X) (ha : 0 ≤ a ∧ a < X 64 3) (hA : ∀ v, 0 ≤ v → v ≤ 120 → A v = K) : q8_pl X A a = K := by
  obtain ⟨hK, hP, hO, hW, hL⟩ := hC
  have w2 := hW.2.1 a ha.1 ha.2
  have w1 := hW.1
  exact p_now_K (fun t t1 t2 => by have := hP a ha.1 ha.2 t t1 (by omega); omega) hA hW ha.1 ha.2 w2.2.1.1 (fun _ => by omega)
theorem c_X8_planNow {l : Launch} {E : x_E} {κ : x_Ka} {X : x_X} {a : Int} (hC : t_C κ X) (ha : 0 ≤ a ∧ a < X 64 3) (hA : ∀ v, 0 ≤ v → v ≤ 120 → 0 ≤ X 80 v ∧ X 80 v ≤ 1000000) : x_Pu l yX8_planNow cX8_planNow 3 (some .int) 28 E κ X [x_rf E 64, vi a] (vi (q8_pl X (X 80) a)) := by
  refine x_Met.of [(false, x_rf E 64), (false, vi a)] [some (x_rf E 64), some (vi a), none] 1 (by decide) rfl rfl ⟨x_cr E (64), rfl, trivial⟩ rfl rfl ?_
  intro p e s m args below meth c hargs hin B
  obtain ⟨hK, hP, hO, hW, hLa⟩ := id hC
  obtain ⟨hT, h8, hn⟩ := id hK
  have s2 : t_M X a 2 = X 72 (3 + 10 * a + 4) := t_M_s (by assumption) (by decide) (by omega) (by omega)
  have s3 : t_M X a 3 = X 72 (3 + 10 * a + 0) := t_M_s (by assumption) (by decide) (by omega) (by omega)
  have s6 : t_M X a 6 = X 72 (3 + 10 * a + 1) := t_M_s (by assumption) (by decide) (by omega) (by omega)
  have s7 : t_M X a 7 = X 72 (3 + 10 * a + 6) := t_M_s (by assumption) (by decide) (by omega) (by omega)
  have g1 : t_M X (-1) 1 = X 72 0 := t_M_g (by omega)
  have w1 := hW.1
  have w2 := hW.2.1 a ha.1 ha.2
  have w3 := hW.2.2 a ha.1 ha.2
  have sr := m_sum_r hW ha.1 ha.2
  refine x_aload_n B dX8_planNow_0 rfl ?_
  refine x_iload_n B dX8_planNow_1 rfl ?_
  refine x_goP (x_rV B h8 (show x_cl[7]? = some _ from rfl) (c_X8_isOut hT h8 ⟨by omega, by omega⟩) (lw_V q1521 q1523 qs51 q122 q1524) hv_X8_isOut ⟨by decide, by decide⟩ ⟨by decide, by decide⟩ rfl rfl (by simp [x_cr, x_c1, x_c2]) dX8_planNow_2) ?_
  refine x_if_ne B (tgt := 15) dX8_planNow_5 (by decide) ⟨by split <;> omega, by split <;> omega⟩ (fun h_5 => ?_) (fun h_5 => ?_)
  · refine x_aload_n B dX8_planNow_15 rfl ?_
    refine x_getC0 B (k := 28) hT rfl rfl xc_7 (by decide) h8 (Or.inl q1363) (fun _ h => h) dX8_planNow_16 (fun k_16 => ?_)
    refine x_aload_n B dX8_planNow_19 rfl ?_
    refine x_iload_n B dX8_planNow_20 rfl ?_
    refine x_goP (x_rV B h8 (show x_cl[7]? = some _ from rfl) (c_X8_sumOf hK hW.V ha) (lw_V q1600 q1602 qs62 q122 q1603) hv_X8_sumOf ⟨by decide, by decide⟩ ⟨by decide, by decide⟩ rfl rfl (by simp [x_cr, x_c1, x_c2]) dX8_planNow_21) ?_
    refine x_iald B k_16 ⟨by omega, by omega⟩ dX8_planNow_24 (fun r_24 => ?_)
    refine x_iret B (fun _ _ h => h) ?_ dX8_planNow_25
    have hz : m_sum (t_M X) a = 0 ∨ (t_M X a 7 = 0 ∧ t_M X (-1) 1 = 3) := by
      by_cases z : t_M X a 7 = 0
      · refine Or.inr ⟨z, ?_⟩
        first | (by_cases y : X 72 0 = 3; omega; rw [if_neg y] at h_12; omega) | (rw [if_neg (by omega)] at h_5; omega)
      · exact Or.inl (by unfold m_sum; rw [if_neg z])
    refine ⟨?_, rfl⟩
    unfold q8_pl p_now
    by_cases z : t_M X a 7 ≠ 0
    · rw [if_pos z]; rcases hz with q | q; rw [q]; exact absurd q.1 z
    · rw [if_neg z]; rcases hz with q | q
      · by_cases y : t_M X (-1) 1 = 3
        · rw [if_pos y]
        · exfalso; first | (rw [if_neg (by omega)] at h_5; omega) | (rw [if_neg (by omega)] at h_12; omega)
      · rw [if_pos q.2]
  · refine x_aload_n B dX8_planNow_8 rfl ?_
    refine x_goP (x_rV B h8 (show x_cl[7]? = some _ from rfl) (c_X8_isOver hT h8) (lw_V q1517 q1519 qs50 q122 q1520) hv_X8_isOver ⟨by decide, by decide⟩ ⟨by decide, by decide⟩ rfl rfl (by simp [x_cr, x_c1, x_c2]) dX8_planNow_9) ?_
    refine x_if_eq B (tgt := 26) dX8_planNow_12 (by decide) ⟨by split <;> omega, by split <;> omega⟩ (fun h_12 => ?_) (fun h_12 => ?_)
    · have h7 : t_M X a 7 = 0 := by by_cases z : X 72 (3 + 10 * a + 6) = 1; rw [if_pos z] at h_5; omega; omega
      have hL3 : t_M X (-1) 1 ≠ 3 := by intro z; rw [if_pos (by omega)] at h_12; omega
      have hr := m_rest hW ha.1 ha.2 h7 hL3
      have hti : ti (10 + X 72 0) = 7 + X 72 0 := by rcases (show X 72 0 = 0 ∨ X 72 0 = 1 ∨ X 72 0 = 2 by omega) with e | e | e <;> rw [e] <;> decide
      have sb : t_M X a (10 + t_M X (-1) 1) = X 72 (3 + 10 * a + (7 + X 72 0)) := by rw [g1]; exact t_M_s ha hti (by omega) (by omega)
      have hq3 := w3.2.2.2.2
      refine x_aload_n B dX8_planNow_26 rfl ?_
      refine x_getC0 B (k := 11) hT rfl rfl xc_7 (by decide) h8 (Or.inl q1346) (fun _ h => h) dX8_planNow_27 (fun k_27 => ?_)
      refine x_iconst B dX8_planNow_30 ?_
      refine x_iald B k_27 ⟨by omega, by omega⟩ dX8_planNow_31 (fun r_31 => ?_)
      rw [← g1] at r_31 ⊢
      refine x_ist_2 B dX8_planNow_32 (by first | rfl | exact x_cr _ _) ?_
      refine x_aload_n B dX8_planNow_33 rfl ?_
      refine x_iload_n B dX8_planNow_34 rfl ?_
      refine x_iload_n B dX8_planNow_35 rfl ?_
      refine x_aload_n B dX8_planNow_36 rfl ?_
      refine x_iload_n B dX8_planNow_37 rfl ?_
      refine x_goP (x_rV B h8 (show x_cl[7]? = some _ from rfl) (c_X8_roundOf hK hW ha) (lw_V q1697 q1699 qs77 q122 q1700) hv_X8_roundOf ⟨by decide, by decide⟩ ⟨by decide, by decide⟩ rfl rfl (by simp [x_cr, x_c1, x_c2]) dX8_planNow_38) ?_
      refine x_aload_n B dX8_planNow_41 rfl ?_
      refine x_iload_n B dX8_planNow_42 rfl ?_
      refine x_iconst B dX8_planNow_43 ?_
      refine x_goP (x_rV B h8 (show x_cl[7]? = some _ from rfl) (c_X8_of hT h8 ⟨by omega, by omega⟩) (lw_V q1525 q1527 qs52 q122 q1528) hv_X8_of ⟨by decide, by decide⟩ ⟨by decide, by decide⟩ rfl rfl (by simp [x_cr, x_c1, x_c2]) dX8_planNow_44) ?_
      rw [← s3]
      refine x_aload_n B dX8_planNow_47 rfl ?_
      refine x_iload_n B dX8_planNow_48 rfl ?_
      refine x_iconst B dX8_planNow_49 ?_
      refine x_goP (x_rV B h8 (show x_cl[7]? = some _ from rfl) (c_X8_of hT h8 ⟨by omega, by omega⟩) (lw_V q1525 q1527 qs52 q122 q1528) hv_X8_of ⟨by decide, by decide⟩ ⟨by decide, by decide⟩ rfl rfl (by simp [x_cr, x_c1, x_c2]) dX8_planNow_50) ?_
      rw [← s2]
      refine x_aload_n B dX8_planNow_53 rfl ?_
      refine x_iload_n B dX8_planNow_54 rfl ?_
      refine x_bipush B dX8_planNow_55 (by decide) ?_
      refine x_iload_n B dX8_planNow_57 rfl ?_
      refine x_iadd B dX8_planNow_58 ?_
      refine x_goP (x_rV B h8 (show x_cl[7]? = some _ from rfl) (c_X8_of hT h8 ⟨by omega, by omega⟩) (lw_V q1525 q1527 qs52 q122 q1528) hv_X8_of ⟨by decide, by decide⟩ ⟨by decide, by decide⟩ rfl rfl (by simp [x_cr, x_c1, x_c2]) dX8_planNow_59) ?_
      rw [show X 72 (3 + 10 * a + (7 + t_M X (-1) 1)) = t_M X a (10 + t_M X (-1) 1) by rw [sb, g1]]
      refine x_aload_n B dX8_planNow_62 rfl ?_
      refine x_iload_n B dX8_planNow_63 rfl ?_
      refine x_goP (x_rV B h8 (show x_cl[7]? = some _ from rfl) (c_X8_sumAhead hK hW ha h7 hL3) (lw_V q1701 q1703 qs78 q122 q1704) hv_X8_sumAhead ⟨by decide, by decide⟩ ⟨by decide, by decide⟩ rfl rfl (by simp [x_cr, x_c1, x_c2]) dX8_planNow_64) ?_
      refine x_goP (x_rV B h8 (show x_cl[7]? = some _ from rfl) ((p_all8 hK hP hO ha hA 12 (t_M X (-1) 1) (t_M X (-1) 2 + t_M X a 6) (t_M X a 3) (t_M X a 2) (t_M X a (10 + t_M X (-1) 1)) (m_sum (t_M X) a - t_M X a (10 + t_M X (-1) 1)) (by omega) (by omega) (by omega) ⟨by omega, by omega, fun z => by have := hq3 (by omega); omega⟩ hr.2 (by omega) hr.1 (by omega)) ) (lw_V q1705 q1707 qs79 q122 q1708) hv_X8_planned ⟨by decide, by decide⟩ ⟨by decide, by decide⟩ rfl rfl (by simp [x_cr, x_c1, x_c2]) dX8_planNow_67) ?_
      refine x_iret B (fun _ _ h => h) ?_ dX8_planNow_70
      refine ⟨?_, rfl⟩
      unfold q8_pl p_now
      rw [if_neg (show ¬ t_M X a 7 ≠ 0 by omega), if_neg hL3]
      by_cases z : t_M X a 3 = 0
      · rw [if_pos (Or.inl z), if_pos z]
      · rw [if_neg z]; by_cases y : t_M X (-1) 2 + t_M X a 6 = 3
        · rw [if_pos (Or.inr y), p_wE (by omega) (by omega), if_pos (Or.inl y)]; rfl
        · rw [if_neg (by omega)]
    · refine x_aload_n B dX8_planNow_15 rfl ?_
      refine x_getC0 B (k := 28) hT rfl rfl xc_7 (by decide) h8 (Or.inl q1363) (fun _ h => h) dX8_planNow_16 (fun k_16 => ?_)
      refine x_aload_n B dX8_planNow_19 rfl ?_
      refine x_iload_n B dX8_planNow_20 rfl ?_
      refine x_goP (x_rV B h8 (show x_cl[7]? = some _ from rfl) (c_X8_sumOf hK hW.V ha) (lw_V q1600 q1602 qs62 q122 q1603) hv_X8_sumOf ⟨by decide, by decide⟩ ⟨by decide, by decide⟩ rfl rfl (by simp [x_cr, x_c1, x_c2]) dX8_planNow_21) ?_
      refine x_iald B k_16 ⟨by omega, by omega⟩ dX8_planNow_24 (fun r_24 => ?_)
      refine x_iret B (fun _ _ h => h) ?_ dX8_planNow_25
      have hz : m_sum (t_M X) a = 0 ∨ (t_M X a 7 = 0 ∧ t_M X (-1) 1 = 3) := by
        by_cases z : t_M X a 7 = 0
        · refine Or.inr ⟨z, ?_⟩
          first | (by_cases y : X 72 0 = 3; omega; rw [if_neg y] at h_12; omega) | (rw [if_neg (by omega)] at h_5; omega)
        · exact Or.inl (by unfold m_sum; rw [if_neg z])
      refine ⟨?_, rfl⟩
      unfold q8_pl p_now
      by_cases z : t_M X a 7 ≠ 0
      · rw [if_pos z]; rcases hz with q | q; rw [q]; exact absurd q.1 z
      · rw [if_neg z]; rcases hz with q | q
        · by_cases y : t_M X (-1) 1 = 3
          · rw [if_pos y]
          · exfalso; first | (rw [if_neg (by omega)] at h_5; omega) | (rw [if_neg (by omega)] at h_12; omega)
        · rw [if_pos q.2]
