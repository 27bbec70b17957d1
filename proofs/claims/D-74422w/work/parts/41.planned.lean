/-! ===== by plan ===== -/
def p_mix (o g f : Int) : Int := (o * g + (1000 - o) * f).tdiv 1000
theorem p_mix_r {o g f : Int} (ho : 0 ≤ o ∧ o ≤ 1000) (hg : 0 ≤ g ∧ g ≤ 1000000) (hf : 0 ≤ f ∧ f ≤ 1000000) : (0 ≤ o * g + (1000 - o) * f ∧ o * g + (1000 - o) * f ≤ 1000000000) ∧ 0 ≤ p_mix o g f ∧ p_mix o g f ≤ 1000000 := by
  have h1 := x_mb ho hg
  have h2 := x_mb (a := 1000 - o) (A := 1000) (by omega) hf
  have h3 : o * g ≤ o * 1000000 := Int.mul_le_mul_of_nonneg_left hg.2 ho.1
  have h4 : (1000 - o) * f ≤ (1000 - o) * 1000000 := Int.mul_le_mul_of_nonneg_left hf.2 (by omega)
  have h5 : 0 ≤ o * g + (1000 - o) * f ∧ o * g + (1000 - o) * f ≤ 1000000000 := ⟨by omega, by omega⟩
  refine ⟨h5, Int.tdiv_nonneg h5.1 (by omega), ?_⟩
  have h6 := Int.tdiv_le_tdiv (show (0 : Int) < 1000 by omega) h5.2
  exact Int.le_trans h6 (by decide)
/-- worth by plan: O odds by lift, load, failed; op, mr, ag the plan; A the aim -/
def p_w (O : Int → Int → Int → Int) (op mr ag A : Int → Int) : Nat → Int → Int → Int → Int → Int → Int → Int
  | 0, _, _, _, _, _, _ => 0
  | k + 1, t, sum, tr, fl, best, load => if tr = 3 ∨ load > 40 then (if best = 0 then A 0 else if t = 2 then A (sum + best) else p_w O op mr ag A k (t + 1) (sum + best) 0 0 0 (op (t + 1))) else p_mix (O t load fl) (p_w O op mr ag A k t sum (tr + 1) fl load (load + mr t)) (p_w O op mr ag A k t sum (tr + 1) (fl + 1) best (load + ag t))
theorem p_w_m {O : Int → Int → Int → Int} {op mr ag A : Int → Int} : ∀ (k : Nat) (t sum tr fl best load : Int), (0 ≤ t ∧ t ≤ 2) → (0 ≤ tr ∧ tr ≤ 3) → 4 * (2 - t) + (3 - tr) < k → p_w O op mr ag A k t sum tr fl best load = p_w O op mr ag A (k + 1) t sum tr fl best load
  | 0, t, sum, tr, fl, best, load, h1, h2, h3 => by omega
  | k + 1, t, sum, tr, fl, best, load, h1, h2, h3 => by
    conv => lhs; unfold p_w
    conv => rhs; unfold p_w
    by_cases q : tr = 3 ∨ load > 40
    · rw [if_pos q, if_pos q]
      by_cases q2 : best = 0
      · rw [if_pos q2, if_pos q2]
      · rw [if_neg q2, if_neg q2]
        by_cases q3 : t = 2
        · rw [if_pos q3, if_pos q3]
        · rw [if_neg q3, if_neg q3]
          exact p_w_m k _ _ _ _ _ _ (by omega) (by omega) (by omega)
    · rw [if_neg q, if_neg q, p_w_m k _ _ _ _ _ _ h1 (by omega) (by omega), p_w_m k _ _ _ _ _ _ h1 (by omega) (by omega)]
theorem p_wE {O : Int → Int → Int → Int} {op mr ag A : Int → Int} {t sum tr fl best load : Int} (h1 : 0 ≤ t ∧ t ≤ 2) (h2 : 0 ≤ tr ∧ tr ≤ 3) : p_w O op mr ag A 12 t sum tr fl best load = if tr = 3 ∨ load > 40 then (if best = 0 then A 0 else if t = 2 then A (sum + best) else p_w O op mr ag A 12 (t + 1) (sum + best) 0 0 0 (op (t + 1))) else p_mix (O t load fl) (p_w O op mr ag A 12 t sum (tr + 1) fl load (load + mr t)) (p_w O op mr ag A 12 t sum (tr + 1) (fl + 1) best (load + ag t)) := by
  conv => lhs; unfold p_w
  by_cases q : tr = 3 ∨ load > 40
  · rw [if_pos q, if_pos q]
    by_cases q2 : best = 0
    · rw [if_pos q2, if_pos q2]
    · rw [if_neg q2, if_neg q2]
      by_cases q3 : t = 2
      · rw [if_pos q3, if_pos q3]
      · rw [if_neg q3, if_neg q3]
        exact p_w_m 11 _ _ _ _ _ _ (by omega) (by omega) (by omega)
  · rw [if_neg q, if_neg q, p_w_m 11 _ _ _ _ _ _ h1 (by omega) (by omega), p_w_m 11 _ _ _ _ _ _ h1 (by omega) (by omega)]
/-- what a looker stands on: cell lk, its lifter X lk 0, its aim X lk 1 -/
def p_H (κ : x_Ka) (X : x_X) (lk : Int) (A : Int → Int) : Prop := x_T κ ∧ κ 0 = some (.inl (0, 1)) ∧ κ (X lk 0) = some (.inl (8, 1)) ∧ l_wf X (X lk 0) ∧ (0 ≤ X 0 1 ∧ X 0 1 ≤ 300) ∧ (∀ t, 0 ≤ t → t < 3 → (1 ≤ X (X lk 0 + 11) t ∧ X (X lk 0 + 11) t ≤ 40) ∧ (1 ≤ X (X lk 0 + 12) t ∧ X (X lk 0 + 12) t ≤ 9) ∧ (0 ≤ X (X lk 0 + 13) t ∧ X (X lk 0 + 13) t ≤ 9)) ∧ x_Aim κ X (X lk 1) A
theorem p_H.k37 {κ : x_Ka} {X : x_X} {lk : Int} {A : Int → Int} (h : p_H κ X lk A) : κ 37 = some (.inl (4, 1)) := h.1.1 0 0 h.2.1 13 (0, 37, .inl (4, 1)) rfl
theorem p_H.k38 {κ : x_Ka} {X : x_X} {lk : Int} {A : Int → Int} (h : p_H κ X lk A) : κ 38 = some (.inl (5, 1)) := h.1.1 0 0 h.2.1 14 (0, 38, .inl (5, 1)) rfl
theorem l_odds_r {X : x_X} {a t x f : Int} (hw : l_wf X a) (ht : 0 ≤ t ∧ t < 3) (hf : 0 ≤ f) (hti : 0 ≤ X 0 1) : 0 ≤ l_odds X a t x f ∧ l_odds X a t x f ≤ 1000 := by
  have h1 := t_of_r (x := x) (hw t ht.1 ht.2)
  have h2 := Int.mul_nonneg hti hf
  unfold l_odds l_od
  omega
theorem c_X1_mixed {l : Launch} {E : x_E} {κ : x_Ka} {X : x_X} {o g f : Int} (ho : 0 ≤ o ∧ o ≤ 1000) (hg : 0 ≤ g ∧ g ≤ 1000000) (hf : 0 ≤ f ∧ f ≤ 1000000) : x_Pu l yX1_mixed cX1_mixed 5 (some .long) 0 E κ X [vi o, vl g, vl f] (vl (p_mix o g f)) := by
  refine x_Met.of [(false, vi o), (true, vl g), (true, vl f)] [some (vi o), some (vl g), none, some (vl f), none] 0 (by decide) rfl rfl ⟨rfl, rfl, rfl, trivial⟩ rfl rfl ?_
  intro p e s m args below meth c hargs hin B
  have hr := (p_mix_r ho hg hf).1
  refine x_iload_n B dX1_mixed_0 rfl ?_
  refine x_i2l B dX1_mixed_1 ⟨by omega, by omega⟩ ?_
  refine x_lload_n B dX1_mixed_2 rfl ?_
  refine x_lmul B dX1_mixed_3 ?_
  refine x_sipush B dX1_mixed_4 (by decide) ?_
  refine x_iload_n B dX1_mixed_7 rfl ?_
  refine x_isub B dX1_mixed_8 ?_
  refine x_i2l B dX1_mixed_9 ⟨by omega, by omega⟩ ?_
  refine x_lload_n B dX1_mixed_10 rfl ?_
  refine x_lmul B dX1_mixed_11 ?_
  refine x_ladd B dX1_mixed_12 ?_
  refine x_ldc2 B (1000) q1062 (by decide) dX1_mixed_13 ?_
  refine x_ldiv B dX1_mixed_16 ⟨by omega, by omega⟩ ⟨by omega, by omega⟩ ?_
  refine x_lret B (fun _ _ h => h) ?_ dX1_mixed_17
  exact ⟨rfl, rfl⟩
theorem c_X4_ended_P {l : Launch} {E : x_E} {κ : x_Ka} {X : x_X} {A : Int → Int} {q : Nat} {t best sum bv : Int} (h : p_H κ X 37 A) (ht : 0 ≤ t ∧ t ≤ 2) (hs : 0 ≤ sum ∧ sum ≤ 40 * t) (hb : 0 ≤ best ∧ best ≤ 40) (hc : best ≠ 0 → t ≠ 2 → x_Pu l yX5_begun cX5_begun 3 (some .long) q E κ X [x_rf E 37, vi (t + 1), vi (sum + best)] (vl bv)) : x_Pu l yX4_ended cX4_ended 4 (some .long) (q + 2) E κ X [x_rf E 37, vi t, vi best, vi sum] (vl (if best = 0 then A 0 else if t = 2 then A (sum + best) else bv)) := by
  refine x_Met.of [(false, x_rf E 37), (false, vi t), (false, vi best), (false, vi sum)] [some (x_rf E 37), some (vi t), some (vi best), some (vi sum)] 0 (by decide) rfl rfl ⟨x_cr E (37), rfl, rfl, rfl, trivial⟩ rfl rfl ?_
  intro p e s m args below meth c hargs hin B
  obtain ⟨hT, h0, hL, hw, hti, hpl, hA⟩ := id h
  have hk := h.k37
  refine x_iload_n B dX4_ended_0 rfl ?_
  refine x_if_ne B (tgt := 15) dX4_ended_1 (by decide) ⟨by omega, by omega⟩ (fun h_1 => ?_) (fun h_1 => ?_)
  · refine x_iload_n B dX4_ended_15 rfl ?_
    refine x_iconst B dX4_ended_16 ?_
    refine x_icmp_ne B (tgt := 35) dX4_ended_17 (by decide) ⟨by omega, by omega⟩ ⟨by omega, by omega⟩ (fun h_17 => ?_) (fun h_17 => ?_)
    · refine x_aload_n B dX4_ended_35 rfl ?_
      refine x_iload_n B dX4_ended_36 rfl ?_
      refine x_iconst B dX4_ended_37 ?_
      refine x_iadd B dX4_ended_38 ?_
      refine x_iload_n B dX4_ended_39 rfl ?_
      refine x_iload_n B dX4_ended_40 rfl ?_
      refine x_iadd B dX4_ended_41 ?_
      refine x_goP (x_rA B (n := 2) (x_rcK B hk (show x_cl[4]? = some _ from rfl)) (hc (by omega) (by omega) ) (lw_U q1014 q1016 q1063 q1064 q117 q1065) q1015 (by decide +kernel) ⟨(by show _ ≤ (q + 2) + 1; omega), (by show _ ≤ 64 * ((q + 2) + 1); omega)⟩ ⟨Nat.le_refl _, Nat.le_refl _⟩ rfl rfl (by simp [x_cr, x_c1, x_c2]) dX4_ended_42) ?_
      refine x_lret B (fun _ _ h => h) ?_ dX4_ended_45
      exact ⟨congrArg (fun z => some (vl z)) (by first | rw [if_neg (by omega), if_pos (by omega)] | rw [if_neg (by omega), if_neg (by omega)]), rfl⟩
    · refine x_aload_n B dX4_ended_20 rfl ?_
      refine x_getR B (k := 1) 1 rfl rfl xc_4 (by decide) hk (Or.inl q279) (fun _ h => h) dX4_ended_21 (?_)
      refine x_iload_n B dX4_ended_24 rfl ?_
      refine x_iload_n B dX4_ended_25 rfl ?_
      refine x_iadd B dX4_ended_26 ?_
      refine x_aim B q974 hA (by omega) (by omega) ⟨by show _ ≤ q + 2 + 1; omega, by show _ ≤ 64 * (q + 2 + 1); omega⟩ ⟨Nat.le_refl _, Nat.le_refl _⟩ (by simp [x_cr, x_c1, x_c2]) dX4_ended_27 ?_
      refine x_goto B (tgt := 45) dX4_ended_32 (by decide) ?_
      refine x_lret B (fun _ _ h => h) ?_ dX4_ended_45
      exact ⟨congrArg (fun z => some (vl z)) (by first | rw [if_neg (by omega), if_pos (by omega)] | rw [if_neg (by omega), if_neg (by omega)]), rfl⟩
  · refine x_aload_n B dX4_ended_4 rfl ?_
    refine x_getR B (k := 1) 1 rfl rfl xc_4 (by decide) hk (Or.inl q279) (fun _ h => h) dX4_ended_5 (?_)
    refine x_iconst B dX4_ended_8 ?_
    refine x_aim B q974 hA (by omega) (by omega) ⟨by show _ ≤ q + 2 + 1; omega, by show _ ≤ 64 * (q + 2 + 1); omega⟩ ⟨Nat.le_refl _, Nat.le_refl _⟩ (by simp [x_cr, x_c1, x_c2]) dX4_ended_9 ?_
    refine x_lret B (fun _ _ h => h) ?_ dX4_ended_14
    exact ⟨congrArg (fun z => some (vl z)) (by rw [if_pos (by omega)]), rfl⟩
theorem c_X4_tried_P {l : Launch} {E : x_E} {κ : x_Ka} {X : x_X} {A : Int → Int} {q : Nat} {t sum tr fl best load gl fo gv fv : Int} (h : p_H κ X 37 A) (ht : 0 ≤ t ∧ t ≤ 2) (hf : 0 ≤ fl ∧ fl ≤ 3) (hl : 0 ≤ load ∧ load ≤ 40) (hq : 2 ≤ q) (hg : (x_Pu l yX5_worth cX5_worth 7 (some .long) q E κ X [x_rf E 37, vi t, vi sum, vi (tr + 1), vi fl, vi load, vi gl] (vl gv))) (hv : (x_Pu l yX5_worth cX5_worth 7 (some .long) q E κ X [x_rf E 37, vi t, vi sum, vi (tr + 1), vi (fl + 1), vi best, vi fo] (vl fv))) (rg : 0 ≤ gv ∧ gv ≤ 1000000) (rv : 0 ≤ fv ∧ fv ≤ 1000000) : x_Pu l yX4_tried cX4_tried 11 (some .long) (q + 1) E κ X [x_rf E 37, vi t, vi sum, vi tr, vi fl, vi best, vi load, vi gl, vi fo] (vl (p_mix (l_odds X (X 37 0) t load fl) gv fv)) := by
  refine x_Met.of [(false, x_rf E 37), (false, vi t), (false, vi sum), (false, vi tr), (false, vi fl), (false, vi best), (false, vi load), (false, vi gl), (false, vi fo)] [some (x_rf E 37), some (vi t), some (vi sum), some (vi tr), some (vi fl), some (vi best), some (vi load), some (vi gl), some (vi fo), none, none] 2 (by decide) rfl rfl ⟨x_cr E (37), rfl, rfl, rfl, rfl, rfl, rfl, rfl, rfl, trivial⟩ rfl rfl ?_
  intro p e s m args below meth c hargs hin B
  obtain ⟨hT, h0, hL, hw, hti, hpl, hA⟩ := id h
  have hk := h.k37
  have hor := l_odds_r (x := load) (t := t) hw (by omega) hf.1 hti.1
  refine x_aload_n B dX4_tried_0 rfl ?_
  refine x_iload_n B dX4_tried_1 rfl ?_
  refine x_iload_n B dX4_tried_2 rfl ?_
  refine x_iload_n B dX4_tried_3 rfl ?_
  refine x_iconst B dX4_tried_4 ?_
  refine x_iadd B dX4_tried_5 ?_
  refine x_iload B dX4_tried_6 rfl ?_
  refine x_iload B dX4_tried_8 rfl ?_
  refine x_iload B dX4_tried_10 rfl ?_
  refine x_goP (x_rA B (n := 6) (x_rcK B hk (show x_cl[4]? = some _ from rfl)) (hg ) (lw_U q1042 q1044 q1046 q1047 q117 q1048) q1043 (by decide +kernel) ⟨(by show _ ≤ (q + 1) + 1; omega), (by show _ ≤ 64 * ((q + 1) + 1); omega)⟩ ⟨Nat.le_refl _, Nat.le_refl _⟩ rfl rfl (by simp [x_cr, x_c1, x_c2]) dX4_tried_12) ?_
  refine x_lstw_9 B dX4_tried_15 (by first | rfl | exact x_cr _ _) ?_
  refine x_aload_n B dX4_tried_17 rfl ?_
  refine x_getC0 B (k := 2) hT rfl rfl xc_4 (by decide) hk (Or.inl q280) (fun _ h => h) dX4_tried_18 (fun k_18 => ?_)
  refine x_aload_n B dX4_tried_21 rfl ?_
  refine x_getR B (k := 0) 0 rfl rfl xc_4 (by decide) hk (Or.inl q276) (fun _ h => h) dX4_tried_22 (?_)
  refine x_iload_n B dX4_tried_25 rfl ?_
  refine x_iload B dX4_tried_26 rfl ?_
  refine x_iload B dX4_tried_28 rfl ?_
  refine x_goP (x_rVN B k_18 (show x_cl[0]? = some _ from rfl) (c_X1_oddsOf hT h0 hL hw ⟨by omega, by omega⟩ ⟨by omega, by omega⟩ ⟨by omega, by omega⟩ hti) q1058 q766 qs14 q110 q767 hd_X1_oddsOf ⟨(by show _ ≤ (q + 1) + 1; omega), (by show _ ≤ 64 * ((q + 1) + 1); omega)⟩ ⟨Nat.le_refl _, Nat.le_refl _⟩ rfl rfl (by simp [x_cr, x_c1, x_c2]) dX4_tried_30) ?_
  refine x_lload B dX4_tried_33 rfl ?_
  refine x_aload_n B dX4_tried_35 rfl ?_
  refine x_iload_n B dX4_tried_36 rfl ?_
  refine x_iload_n B dX4_tried_37 rfl ?_
  refine x_iload_n B dX4_tried_38 rfl ?_
  refine x_iconst B dX4_tried_39 ?_
  refine x_iadd B dX4_tried_40 ?_
  refine x_iload B dX4_tried_41 rfl ?_
  refine x_iconst B dX4_tried_43 ?_
  refine x_iadd B dX4_tried_44 ?_
  refine x_iload B dX4_tried_45 rfl ?_
  refine x_iload B dX4_tried_47 rfl ?_
  refine x_goP (x_rA B (n := 6) (x_rcK B hk (show x_cl[4]? = some _ from rfl)) (hv ) (lw_U q1042 q1044 q1046 q1047 q117 q1048) q1043 (by decide +kernel) ⟨(by show _ ≤ (q + 1) + 1; omega), (by show _ ≤ 64 * ((q + 1) + 1); omega)⟩ ⟨Nat.le_refl _, Nat.le_refl _⟩ rfl rfl (by simp [x_cr, x_c1, x_c2]) dX4_tried_49) ?_
  refine x_goP (x_rSN B (c_X1_mixed ⟨by omega, by omega⟩ ⟨by omega, by omega⟩ ⟨by omega, by omega⟩) q1059 q1060 q110 q1061 hd_X1_mixed ⟨(by show _ ≤ (q + 1) + 1; omega), (by show _ ≤ 64 * ((q + 1) + 1); omega)⟩ ⟨Nat.le_refl _, Nat.le_refl _⟩ rfl rfl (by simp [x_cr, x_c1, x_c2]) dX4_tried_52) ?_
  refine x_lret B (fun _ _ h => h) ?_ dX4_tried_55
  exact ⟨rfl, rfl⟩
theorem c_X5_worth {l : Launch} {E : x_E} {κ : x_Ka} {X : x_X} {A : Int → Int} {q q2 : Nat} {t sum tr fl best load ev tv : Int} (h : p_H κ X 37 A) (ht : 0 ≤ t ∧ t ≤ 2) (hs : 0 ≤ sum ∧ sum ≤ 40 * t) (hb : 0 ≤ best ∧ best ≤ 40) (h3 : 0 ≤ tr ∧ tr ≤ 3) (hf : 0 ≤ fl ∧ fl ≤ tr) (hl : 0 ≤ load ∧ load ≤ 49) (hq : 1 ≤ q ∧ q2 ≤ q) (he : tr = 3 ∨ load > 40 → x_Pu l yX4_ended cX4_ended 4 (some .long) q E κ X [x_rf E 37, vi t, vi best, vi sum] (vl ev)) (hc : ¬ (tr = 3 ∨ load > 40) → x_Pu l yX4_tried cX4_tried 11 (some .long) q2 E κ X [x_rf E 37, vi t, vi sum, vi tr, vi fl, vi best, vi load, vi (load + X (X 37 0 + 12) t), vi (load + X (X 37 0 + 13) t)] (vl tv)) : x_Pu l yX5_worth cX5_worth 7 (some .long) (q + 1) E κ X [x_rf E 37, vi t, vi sum, vi tr, vi fl, vi best, vi load] (vl (if tr = 3 ∨ load > 40 then ev else tv)) := by
  refine x_Met.of [(false, x_rf E 37), (false, vi t), (false, vi sum), (false, vi tr), (false, vi fl), (false, vi best), (false, vi load)] [some (x_rf E 37), some (vi t), some (vi sum), some (vi tr), some (vi fl), some (vi best), some (vi load)] 0 (by decide) rfl rfl ⟨x_cr E (37), rfl, rfl, rfl, rfl, rfl, rfl, trivial⟩ rfl rfl ?_
  intro p e s m args below meth c hargs hin B
  obtain ⟨hT, h0, hL, hw, hti, hpl, hA⟩ := id h
  have hk := h.k37
  refine x_iload_n B dX5_worth_0 rfl ?_
  refine x_iconst B dX5_worth_1 ?_
  refine x_icmp_eq B (tgt := 12) dX5_worth_2 (by decide) ⟨by omega, by omega⟩ ⟨by omega, by omega⟩ (fun h_2 => ?_) (fun h_2 => ?_)
  · refine x_aload_n B dX5_worth_12 rfl ?_
    refine x_iload_n B dX5_worth_13 rfl ?_
    refine x_iload B dX5_worth_14 rfl ?_
    refine x_iload_n B dX5_worth_16 rfl ?_
    refine x_goP (x_rU B (n := 3) (x_rcK B hk (show x_cl[4]? = some _ from rfl)) (he (by omega) ) (lw_U q1049 q1050 q1051 q1009 q116 q1013) rfl (by decide +kernel) ⟨(by show _ ≤ (q + 1) + 1; omega), (by show _ ≤ 64 * ((q + 1) + 1); omega)⟩ ⟨Nat.le_refl _, Nat.le_refl _⟩ rfl rfl (by simp [x_cr, x_c1, x_c2]) dX5_worth_17) ?_
    refine x_lret B (fun _ _ h => h) ?_ dX5_worth_20
    exact ⟨congrArg (fun z => some (vl z)) (by rw [if_pos (by omega)]), rfl⟩
  · refine x_iload B dX5_worth_5 rfl ?_
    refine x_bipush B dX5_worth_7 (by decide) ?_
    refine x_icmp_le B (tgt := 21) dX5_worth_9 (by decide) ⟨by omega, by omega⟩ ⟨by omega, by omega⟩ (fun h_9 => ?_) (fun h_9 => ?_)
    · refine x_aload_n B dX5_worth_21 rfl ?_
      refine x_iload_n B dX5_worth_22 rfl ?_
      refine x_iload_n B dX5_worth_23 rfl ?_
      refine x_iload_n B dX5_worth_24 rfl ?_
      refine x_iload B dX5_worth_25 rfl ?_
      refine x_iload B dX5_worth_27 rfl ?_
      refine x_iload B dX5_worth_29 rfl ?_
      refine x_getG B q1052 dX5_worth_31 ?_
      refine x_aload_n B dX5_worth_34 rfl ?_
      refine x_getR B (k := 0) 0 rfl rfl xc_4 (by decide) hk (Or.inl q277) (u_same (B.1.2.2.2.2 _ q278)) dX5_worth_35 (?_)
      refine x_iload_n B dX5_worth_38 rfl ?_
      refine x_iload B dX5_worth_39 rfl ?_
      refine x_goP (x_rAN B (n := 3) (x_rcG B) (c_X18_asks hT hL ⟨by omega, by omega⟩) q1053 q890 q891 q892 q893 q889 (by decide +kernel) ⟨(by show _ ≤ (q + 1) + 1; omega), (by show _ ≤ 64 * ((q + 1) + 1); omega)⟩ ⟨Nat.le_refl _, Nat.le_refl _⟩ rfl rfl (by simp [x_cr, x_c1, x_c2]) dX5_worth_41) ?_
      refine x_getFd B q1054 dX5_worth_44 ?_
      refine x_aload_n B dX5_worth_47 rfl ?_
      refine x_getR B (k := 0) 0 rfl rfl xc_4 (by decide) hk (Or.inl q277) (u_same (B.1.2.2.2.2 _ q278)) dX5_worth_48 (?_)
      refine x_iload_n B dX5_worth_51 rfl ?_
      refine x_iload B dX5_worth_52 rfl ?_
      refine x_goP (x_rAN B (n := 3) (x_rcF B) (c_X19_asks hT hL ⟨by omega, by omega⟩) q1053 q890 q894 q895 q896 q889 (by decide +kernel) ⟨(by show _ ≤ (q + 1) + 1; omega), (by show _ ≤ 64 * ((q + 1) + 1); omega)⟩ ⟨Nat.le_refl _, Nat.le_refl _⟩ rfl rfl (by simp [x_cr, x_c1, x_c2]) dX5_worth_54) ?_
      refine x_goP (x_rU B (n := 8) (x_rcK B hk (show x_cl[4]? = some _ from rfl)) (hc (by omega) ) (lw_U q1055 q1056 q1057 q1040 q116 q1041) rfl (by decide +kernel) ⟨(by show _ ≤ (q + 1) + 1; omega), (by show _ ≤ 64 * ((q + 1) + 1); omega)⟩ ⟨Nat.le_refl _, Nat.le_refl _⟩ rfl rfl (by simp [x_cr, x_c1, x_c2]) dX5_worth_57) ?_
      refine x_lret B (fun _ _ h => h) ?_ dX5_worth_60
      exact ⟨congrArg (fun z => some (vl z)) (by rw [if_neg (by omega)]), rfl⟩
    · refine x_aload_n B dX5_worth_12 rfl ?_
      refine x_iload_n B dX5_worth_13 rfl ?_
      refine x_iload B dX5_worth_14 rfl ?_
      refine x_iload_n B dX5_worth_16 rfl ?_
      refine x_goP (x_rU B (n := 3) (x_rcK B hk (show x_cl[4]? = some _ from rfl)) (he (by omega) ) (lw_U q1049 q1050 q1051 q1009 q116 q1013) rfl (by decide +kernel) ⟨(by show _ ≤ (q + 1) + 1; omega), (by show _ ≤ 64 * ((q + 1) + 1); omega)⟩ ⟨Nat.le_refl _, Nat.le_refl _⟩ rfl rfl (by simp [x_cr, x_c1, x_c2]) dX5_worth_17) ?_
      refine x_lret B (fun _ _ h => h) ?_ dX5_worth_20
      exact ⟨congrArg (fun z => some (vl z)) (by rw [if_pos (by omega)]), rfl⟩
theorem c_X5_begun {l : Launch} {E : x_E} {κ : x_Ka} {X : x_X} {A : Int → Int} {q : Nat} {t sum wv : Int} (h : p_H κ X 37 A) (ht : 0 ≤ t ∧ t ≤ 2) (hc : (x_Pu l yX5_worth cX5_worth 7 (some .long) q E κ X [x_rf E 37, vi t, vi sum, vi 0, vi 0, vi 0, vi (X (X 37 0 + 11) t)] (vl wv))) : x_Pu l yX5_begun cX5_begun 3 (some .long) (q + 1) E κ X [x_rf E 37, vi t, vi sum] (vl wv) := by
  refine x_Met.of [(false, x_rf E 37), (false, vi t), (false, vi sum)] [some (x_rf E 37), some (vi t), some (vi sum)] 0 (by decide) rfl rfl ⟨x_cr E (37), rfl, rfl, trivial⟩ rfl rfl ?_
  intro p e s m args below meth c hargs hin B
  obtain ⟨hT, h0, hL, hw, hti, hpl, hA⟩ := id h
  have hk := h.k37
  refine x_aload_n B dX5_begun_0 rfl ?_
  refine x_iload_n B dX5_begun_1 rfl ?_
  refine x_iload_n B dX5_begun_2 rfl ?_
  refine x_iconst B dX5_begun_3 ?_
  refine x_iconst B dX5_begun_4 ?_
  refine x_iconst B dX5_begun_5 ?_
  refine x_aload_n B dX5_begun_6 rfl ?_
  refine x_getR B (k := 0) 0 rfl rfl xc_4 (by decide) hk (Or.inl q277) (u_same (B.1.2.2.2.2 _ q278)) dX5_begun_7 (?_)
  refine x_getC1 B (k := 3) hT rfl rfl xc_8 (by decide) hL (Or.inr q526) (fun _ h => h) dX5_begun_10 (fun k_10 => ?_)
  refine x_iload_n B dX5_begun_13 rfl ?_
  refine x_iald B k_10 ⟨by omega, by omega⟩ dX5_begun_14 (fun r_14 => ?_)
  refine x_goP (x_rV B hk (show x_cl[4]? = some _ from rfl) (hc ) (lw_V q1066 q1047 q1927 q117 q1048) hv_X5_worth ⟨(by show _ ≤ (q + 1) + 1; omega), (by show _ ≤ 64 * ((q + 1) + 1); omega)⟩ ⟨Nat.le_refl _, Nat.le_refl _⟩ rfl rfl (by simp [x_cr, x_c1, x_c2]) dX5_begun_15) ?_
  refine x_lret B (fun _ _ h => h) ?_ dX5_begun_18
  exact ⟨rfl, rfl⟩
theorem p_w_r {κ : x_Ka} {X : x_X} {A : Int → Int} (h : p_H κ X 37 A) : ∀ (k : Nat) (t sum tr fl best load : Int), (0 ≤ t ∧ t ≤ 2) → (0 ≤ sum ∧ sum ≤ 40 * t) → (0 ≤ best ∧ best ≤ 40) → (0 ≤ fl) → (0 ≤ load) → 0 ≤ p_w (l_odds X (X 37 0)) (X (X 37 0 + 11)) (X (X 37 0 + 12)) (X (X 37 0 + 13)) A k t sum tr fl best load ∧ p_w (l_odds X (X 37 0)) (X (X 37 0 + 11)) (X (X 37 0 + 12)) (X (X 37 0 + 13)) A k t sum tr fl best load ≤ 1000000
  | 0, _, _, _, _, _, _, _, _, _, _, _ => by simp [p_w]
  | k + 1, t, sum, tr, fl, best, load, h1, h2, h3, h4, h5 => by
    obtain ⟨hT, h0, hL, hw, hti, hpl, hA⟩ := id h
    have hp := hpl t h1.1 (by omega)
    unfold p_w
    split
    · split
      · exact hA.rng (by omega) (by omega)
      · split
        · exact hA.rng (by omega) (by omega)
        · have := hpl (t + 1) (by omega) (by omega)
          exact p_w_r h k _ _ _ _ _ _ (by omega) (by omega) (by omega) (by omega) (by omega)
    · exact (p_mix_r (l_odds_r hw (by omega) h4 hti.1) (p_w_r h k _ _ _ _ _ _ h1 h2 (by omega) h4 (by omega)) (p_w_r h k _ _ _ _ _ _ h1 h2 h3 (by omega) (by omega))).2
/-- Planned.worth, whatever is left to try -/
theorem p_all {l : Launch} {E : x_E} {κ : x_Ka} {X : x_X} {A : Int → Int} (h : p_H κ X 37 A) : ∀ (d : Nat) (t sum tr fl best load : Int), (0 ≤ t ∧ t ≤ 2) → (0 ≤ sum ∧ sum ≤ 40 * t) → (0 ≤ best ∧ best ≤ 40) → (0 ≤ tr ∧ tr ≤ 3) → (0 ≤ fl ∧ fl ≤ tr) → (0 ≤ load ∧ load ≤ 49) → 4 * (2 - t) + (3 - tr) < d →
    x_Pu l yX5_worth cX5_worth 7 (some .long) (4 * d + 4) E κ X [x_rf E 37, vi t, vi sum, vi tr, vi fl, vi best, vi load] (vl (p_w (l_odds X (X 37 0)) (X (X 37 0 + 11)) (X (X 37 0 + 12)) (X (X 37 0 + 13)) A 12 t sum tr fl best load))
  | 0, _, _, _, _, _, _, _, _, _, _, _, _, hd => by omega
  | d + 1, t, sum, tr, fl, best, load, h1, h2, h3, h4, h5, h6, hd => by
    obtain ⟨hT, h0, hL, hw, hti, hpl, hA⟩ := id h
    have hp := hpl t h1.1 (by omega)
    rw [p_wE h1 h4]
    refine c_X5_worth (q := 4 * d + 7) (q2 := 4 * d + 5) h h1 h2 h3 h4 h5 h6 (by omega) (fun _ => ?_) (fun hn => ?_)
    · refine c_X4_ended_P (q := 4 * d + 5) h h1 h2 h3 (fun q1 q2 => ?_)
      have := hpl (t + 1) (by omega) (by omega)
      exact c_X5_begun (q := 4 * d + 4) h (by omega) (p_all h d _ _ _ _ _ _ (by omega) (by omega) (by omega) (by omega) (by omega) (by omega) (by omega))
    · exact c_X4_tried_P (q := 4 * d + 4) h h1 (by omega) (by omega) (by omega) (p_all h d _ _ _ _ _ _ h1 h2 (by omega) (by omega) (by omega) (by omega) (by omega)) (p_all h d _ _ _ _ _ _ h1 h2 h3 (by omega) (by omega) (by omega) (by omega)) (p_w_r h 12 _ _ _ _ _ _ h1 h2 (by omega) (by omega) (by omega)) (p_w_r h 12 _ _ _ _ _ _ h1 h2 h3 (by omega) (by omega))
