def w80 (X Y : x_X) : Prop := ∀ b, b ≠ 80 → Y b = X b
theorem w80.h {X Y : x_X} (h : w80 X Y) : h_eq X Y := ⟨fun b b1 b2 b3 => h b (by omega), fun i i1 i2 i3 => by rw [h 64 (by omega)]⟩
def w801 (X Y : x_X) : Prop := ∀ b, b ≠ 80 → b ≠ 81 → Y b = X b
theorem w801.h {X Y : x_X} (h : w801 X Y) : h_eq X Y := ⟨fun b b1 b2 b3 => h b (by omega) (by omega), fun i i1 i2 i3 => by rw [h 64 (by omega) (by omega)]⟩
theorem a_rc_K {w : Int} : (w = 121 → ∀ v, 0 ≤ v → v ≤ 120 → a_rc w v = 0) ∧ (w = 0 → ∀ v, 0 ≤ v → v ≤ 120 → a_rc w v = 1000000) := by
  refine ⟨fun h v h1 h2 => ?_, fun h v h1 h2 => ?_⟩
  · unfold a_rc; rw [if_neg (by omega)]
  · unfold a_rc; rw [if_pos (by omega)]
def q8_ch (X : x_X) (a w : Int) : Int := q8_pl X (a_rc w) a
theorem q8_ch_r {κ : x_Ka} {X : x_X} {a w : Int} (hC : t_C κ X) (ha : 0 ≤ a ∧ a < X 64 3) : 0 ≤ q8_ch X a w ∧ q8_ch X a w ≤ 1000000 := q8_r hC ha (fun v _ _ => a_rc_r w v)
theorem q8_ch_121 {κ : x_Ka} {X : x_X} {a : Int} (hC : t_C κ X) (ha : 0 ≤ a ∧ a < X 64 3) : q8_ch X a 121 = 0 := q8_K hC ha (a_rc_K.1 rfl)
theorem q8_ch_0 {κ : x_Ka} {X : x_X} {a : Int} (hC : t_C κ X) (ha : 0 ≤ a ∧ a < X 64 3) : q8_ch X a 0 = 1000000 := q8_K hC ha (a_rc_K.2 rfl)
theorem h_eq.ch {X Y : x_X} (h : h_eq X Y) : q8_ch Y = q8_ch X := by funext a w; exact h.q _ _
def g_bt (li ch : Int → Int → Int) (i j v : Int) : Int := if v = 0 then 0 else 1000000 - ch j (v + li i j)
def g_wf (bt : Int → Int → Int → Int) (i v : Int) : Nat → Int
  | 0 => 1000000
  | k + 1 => if (k : Int) = i then g_wf bt i v k else (g_wf bt i v k * bt i k v).tdiv 1000000
theorem g_wf_s (bt : Int → Int → Int → Int) (i v : Int) {k : Int} (hk : 0 ≤ k) : g_wf bt i v (k + 1).toNat = if k = i then g_wf bt i v k.toNat else (g_wf bt i v k.toNat * bt i k v).tdiv 1000000 := by
  rw [show (k + 1).toNat = k.toNat + 1 by omega]
  conv => lhs; unfold g_wf
  rw [show ((k.toNat : Nat) : Int) = k by omega]
def g_wn (bt : Int → Int → Int → Int) (n i v : Int) : Int := if v = 0 then 0 else g_wf bt i v n.toNat
theorem g_wf_r {bt : Int → Int → Int → Int} {i v : Int} : ∀ k : Nat, (∀ j : Int, 0 ≤ j → j < k → 0 ≤ bt i j v ∧ bt i j v ≤ 1000000) → 0 ≤ g_wf bt i v k ∧ g_wf bt i v k ≤ 1000000
  | 0, _ => by simp [g_wf]
  | k + 1, h => by
    have ih := g_wf_r k (fun j j1 j2 => h j j1 (by omega))
    unfold g_wf
    split
    · exact ih
    · exact (a_dv ih (h k (by omega) (by omega))).2
def q8_bt (X : x_X) : Int → Int → Int → Int := g_bt (t_li X) (q8_ch X)
theorem t_li_r (X : x_X) (i j : Int) : 0 ≤ t_li X i j ∧ t_li X i j ≤ 1 := m_li_r _ _ _ _
theorem q8_bt_r {κ : x_Ka} {X : x_X} {i j v : Int} (hC : t_C κ X) (hj : 0 ≤ j ∧ j < X 64 3) : 0 ≤ q8_bt X i j v ∧ q8_bt X i j v ≤ 1000000 := by
  have := q8_ch_r (w := v + t_li X i j) hC hj
  unfold q8_bt g_bt
  split <;> omega
theorem h_eq.bt {X Y : x_X} (h : h_eq X Y) : q8_bt Y = q8_bt X := by unfold q8_bt; rw [h.v.2.2.2.1, h.ch]
theorem c_X8_aimsMass {l : Launch} {E : x_E} {κ : x_Ka} {X : x_X}  (hT : x_T κ) (h8 : κ 64 = some (.inl (7, 1))) : x_Met l yX8_aimsMass cX8_aimsMass 2 none 0 0 0 E κ X [x_rf E 64] κ (fun v_ Y_ => v_ = none ∧ w80 X Y_ ∧ ∀ v, 0 ≤ v → v ≤ 120 → Y_ 80 v = 1000 * v) := by
  refine x_Met.of [(false, x_rf E 64)] [some (x_rf E 64), none] 1 (by decide) rfl rfl ⟨x_cr E (64), trivial⟩ rfl rfl ?_
  intro p e s m args below meth c hargs hin B
  have lp_2 : ∀ (n : Nat) (k : Int) (Y : x_X), ((0 ≤ k ∧ k ≤ 121) ∧ w80 X Y ∧ ∀ v, 0 ≤ v → v < k → Y 80 v = 1000 * v) → ((122 - k).toNat < n) → x_G p l e (x_rm 0 0 0) s m args below meth c 2 E 0 0 (MQ below (x_Q E κ (fun v_ Y_ => v_ = none ∧ w80 X Y_ ∧ ∀ v, 0 ≤ v → v ≤ 120 → Y_ 80 v = 1000 * v)) args s 0 0 (fun q => E.1 ≤ q)) κ 2 [some (x_rf E 64), some (vi k)] [] Y := by
    intro n
    induction n with
    | zero => intro k Y hinv hme; exfalso; omega
    | succ n ih =>
      intro k Y hinv hme
      obtain ⟨hk, hw, hv⟩ := hinv
      refine x_iload_n B dX8_aimsMass_2 rfl ?_
      refine x_bipush B dX8_aimsMass_3 (by decide) ?_
      refine x_icmp_ge B (tgt := 25) dX8_aimsMass_5 (by decide) ⟨by omega, by omega⟩ ⟨by omega, by omega⟩ (fun h_5 => ?_) (fun h_5 => ?_)
      · refine x_vret B (fun _ _ h => h) ?_ dX8_aimsMass_25
        exact ⟨rfl, hw, fun v v1 v2 => hv v v1 (by omega)⟩
      · refine x_aload_n B dX8_aimsMass_8 rfl ?_
        refine x_getC0 B (k := 28) hT rfl rfl xc_7 (by decide) h8 (Or.inl q1363) (fun _ h => h) dX8_aimsMass_9 (fun k_9 => ?_)
        refine x_iload_n B dX8_aimsMass_12 rfl ?_
        refine x_sipush B dX8_aimsMass_13 (by decide) ?_
        refine x_iload_n B dX8_aimsMass_16 rfl ?_
        refine x_imul B dX8_aimsMass_17 ?_
        refine x_iast B k_9 ⟨by omega, by omega⟩ ⟨by omega, by omega⟩ dX8_aimsMass_18 ?_
        refine x_iinc_1 B dX8_aimsMass_19 (by first | rfl | exact x_cr _ _) ?_
        refine x_goto B (tgt := 2) dX8_aimsMass_22 (by decide) ?_
        refine ih _ _ ⟨⟨by omega, by omega⟩, fun b hb => by rw [x_up_o _ hb]; exact hw b hb, fun v v1 v2 => ?_⟩ (by omega)
        by_cases e : v = k
        · rw [e, x_up_s]
        · rw [x_up_n _ (Or.inr e)]; exact hv v v1 (by omega)
  refine x_iconst B dX8_aimsMass_0 ?_
  refine x_ist_1 B dX8_aimsMass_1 (by first | rfl | exact x_cr _ _) ?_
  exact lp_2 _ 0 X ⟨⟨by omega, by omega⟩, fun _ _ => rfl, fun v v1 v2 => by omega⟩ (Nat.lt_succ_self _)
theorem c_X8_aimsReach {l : Launch} {E : x_E} {κ : x_Ka} {X : x_X} {w : Int} (hT : x_T κ) (h8 : κ 64 = some (.inl (7, 1))) (hx : xR w) : x_Met l yX8_aimsReach cX8_aimsReach 3 none 0 0 0 E κ X [x_rf E 64, vi w] κ (fun v_ Y_ => v_ = none ∧ w80 X Y_ ∧ ∀ v, 0 ≤ v → v ≤ 120 → Y_ 80 v = a_rc w v) := by
  refine x_Met.of [(false, x_rf E 64), (false, vi w)] [some (x_rf E 64), some (vi w), none] 1 (by decide) rfl rfl ⟨x_cr E (64), rfl, trivial⟩ rfl rfl ?_
  intro p e s m args below meth c hargs hin B
  have lp_2 : ∀ (n : Nat) (k : Int) (Y : x_X), ((0 ≤ k ∧ k ≤ 121) ∧ w80 X Y ∧ ∀ v, 0 ≤ v → v < k → Y 80 v = a_rc w v) → ((122 - k).toNat < n) → x_G p l e (x_rm 0 0 0) s m args below meth c 3 E 0 0 (MQ below (x_Q E κ (fun v_ Y_ => v_ = none ∧ w80 X Y_ ∧ ∀ v, 0 ≤ v → v ≤ 120 → Y_ 80 v = a_rc w v)) args s 0 0 (fun q => E.1 ≤ q)) κ 2 [some (x_rf E 64), some (vi w), some (vi k)] [] Y := by
    intro n
    induction n with
    | zero => intro k Y hinv hme; exfalso; omega
    | succ n ih =>
      intro k Y hinv hme
      obtain ⟨hk, hw, hv⟩ := hinv
      refine x_iload_n B dX8_aimsReach_2 rfl ?_
      refine x_bipush B dX8_aimsReach_3 (by decide) ?_
      refine x_icmp_ge B (tgt := 32) dX8_aimsReach_5 (by decide) ⟨by omega, by omega⟩ ⟨by omega, by omega⟩ (fun h_5 => ?_) (fun h_5 => ?_)
      · refine x_vret B (fun _ _ h => h) ?_ dX8_aimsReach_32
        exact ⟨rfl, hw, fun v v1 v2 => hv v v1 (by omega)⟩
      · refine x_aload_n B dX8_aimsReach_8 rfl ?_
        refine x_getC0 B (k := 28) hT rfl rfl xc_7 (by decide) h8 (Or.inl q1363) (fun _ h => h) dX8_aimsReach_9 (fun k_9 => ?_)
        refine x_iload_n B dX8_aimsReach_12 rfl ?_
        refine x_iload_n B dX8_aimsReach_13 rfl ?_
        refine x_iload_n B dX8_aimsReach_14 rfl ?_
        refine x_icmp_lt B (tgt := 24) dX8_aimsReach_15 (by decide) ⟨by omega, by omega⟩ ⟨by omega, by omega⟩ (fun h_15 => ?_) (fun h_15 => ?_)
        · refine x_iconst B dX8_aimsReach_24 ?_
          refine x_iast B k_9 ⟨by omega, by omega⟩ ⟨by omega, by omega⟩ dX8_aimsReach_25 ?_
          refine x_iinc_2 B dX8_aimsReach_26 (by first | rfl | exact x_cr _ _) ?_
          refine x_goto B (tgt := 2) dX8_aimsReach_29 (by decide) ?_
          refine ih _ _ ⟨⟨by omega, by omega⟩, fun b hb => by rw [x_up_o _ hb]; exact hw b hb, fun v v1 v2 => ?_⟩ (by omega)
          by_cases e : v = k
          · rw [e, x_up_s]; unfold a_rc; first | (rw [if_pos (by omega)]; done) | (rw [if_neg (by omega)]; done)
          · rw [x_up_n _ (Or.inr e)]; exact hv v v1 (by omega)
        · refine x_ldcw B (1000000) q1733 (by decide) dX8_aimsReach_18 ?_
          refine x_goto B (tgt := 25) dX8_aimsReach_21 (by decide) ?_
          refine x_iast B k_9 ⟨by omega, by omega⟩ ⟨by omega, by omega⟩ dX8_aimsReach_25 ?_
          refine x_iinc_2 B dX8_aimsReach_26 (by first | rfl | exact x_cr _ _) ?_
          refine x_goto B (tgt := 2) dX8_aimsReach_29 (by decide) ?_
          refine ih _ _ ⟨⟨by omega, by omega⟩, fun b hb => by rw [x_up_o _ hb]; exact hw b hb, fun v v1 v2 => ?_⟩ (by omega)
          by_cases e : v = k
          · rw [e, x_up_s]; unfold a_rc; first | (rw [if_pos (by omega)]; done) | (rw [if_neg (by omega)]; done)
          · rw [x_up_n _ (Or.inr e)]; exact hv v v1 (by omega)
  refine x_iconst B dX8_aimsReach_0 ?_
  refine x_ist_2 B dX8_aimsReach_1 (by first | rfl | exact x_cr _ _) ?_
  exact lp_2 _ 0 X ⟨⟨by omega, by omega⟩, fun _ _ => rfl, fun v v1 v2 => by omega⟩ (Nat.lt_succ_self _)
theorem c_X8_chanceOf {l : Launch} {E : x_E} {κ : x_Ka} {X : x_X} {a w : Int} (hC : t_C κ X) (ha : 0 ≤ a ∧ a < X 64 3) (hx : xR w) : x_Met l yX8_chanceOf cX8_chanceOf 3 (some .int) 29 0 0 E κ X [x_rf E 64, vi a, vi w] κ (fun v_ Y_ => v_ = some (vi (q8_ch X a w)) ∧ w80 X Y_) := by
  refine x_Met.of [(false, x_rf E 64), (false, vi a), (false, vi w)] [some (x_rf E 64), some (vi a), some (vi w)] 0 (by decide) rfl rfl ⟨x_cr E (64), rfl, rfl, trivial⟩ rfl rfl ?_
  intro p e s m args below meth c hargs hin B
  obtain ⟨hK, hP, hO, hW, hLa⟩ := id hC
  obtain ⟨hT, h8, hn⟩ := id hK
  refine x_aload_n B dX8_chanceOf_0 rfl ?_
  refine x_iload_n B dX8_chanceOf_1 rfl ?_
  refine x_go (x_rV B h8 (show x_cl[7]? = some _ from rfl) (c_X8_aimsReach hT h8 hx) (lw_V q1729 q1731 qs82 q122 q1732) hv_X8_aimsReach ⟨by decide, by decide⟩ ⟨by decide, by decide⟩ rfl rfl (by simp [x_cr, x_c1, x_c2]) dX8_chanceOf_2) (fun v_2 X_2 p_2 => ?_)
  obtain ⟨rfl, hw, hv⟩ := p_2
  have hh := hw.h
  have C2 := hh.C hC
  have y3 : X_2 64 3 = X 64 3 := hh.v.1
  refine x_aload_n B dX8_chanceOf_5 rfl ?_
  refine x_iload_n B dX8_chanceOf_6 rfl ?_
  refine x_goP (x_rV B h8 (show x_cl[7]? = some _ from rfl) (c_X8_planNow C2 (by rw [y3]; exact ha) (fun v v1 v2 => by rw [hv v v1 v2]; exact a_rc_r w v)) (lw_V q1693 q1695 qs76 q122 q1696) hv_X8_planNow ⟨by decide, by decide⟩ ⟨by decide, by decide⟩ rfl rfl (by simp [x_cr, x_c1, x_c2]) dX8_chanceOf_7) ?_
  rw [q8_c C2 (by rw [y3]; exact ha) hv, hh.q]
  refine x_iret B (fun _ _ h => h) ?_ dX8_chanceOf_10
  exact ⟨rfl, hw⟩
theorem c_X8_laysChances {l : Launch} {E : x_E} {κ : x_Ka} {X : x_X} {a : Int} (hC : t_C κ X) (ha : 0 ≤ a ∧ a < X 64 3) : x_Met l yX8_laysChances cX8_laysChances 3 none 30 0 0 E κ X [x_rf E 64, vi a] κ (fun v_ Y_ => v_ = none ∧ w801 X Y_ ∧ ∀ w, 0 ≤ w → w ≤ 121 → Y_ 81 w = q8_ch X a w) := by
  refine x_Met.of [(false, x_rf E 64), (false, vi a)] [some (x_rf E 64), some (vi a), none] 1 (by decide) rfl rfl ⟨x_cr E (64), rfl, trivial⟩ rfl rfl ?_
  intro p e s m args below meth c hargs hin B
  obtain ⟨hK, hP, hO, hW, hLa⟩ := id hC
  obtain ⟨hT, h8, hn⟩ := id hK
  have lp_2 : ∀ (n : Nat) (k : Int) (Y : x_X), ((0 ≤ k ∧ k ≤ 122) ∧ w801 X Y ∧ ∀ w, 0 ≤ w → w < k → Y 81 w = q8_ch X a w) → ((123 - k).toNat < n) → x_G p l e (x_rm 30 0 0) s m args below meth c 3 E 0 0 (MQ below (x_Q E κ (fun v_ Y_ => v_ = none ∧ w801 X Y_ ∧ ∀ w, 0 ≤ w → w ≤ 121 → Y_ 81 w = q8_ch X a w)) args s 0 0 (fun q => E.1 ≤ q)) κ 2 [some (x_rf E 64), some (vi a), some (vi k)] [] Y := by
    intro n
    induction n with
    | zero => intro k Y hinv hme; exfalso; omega
    | succ n ih =>
      intro k Y hinv hme
      obtain ⟨hk, hw, hv⟩ := hinv
      have hh := hw.h
      have CY := hh.C hC
      have y3 : Y 64 3 = X 64 3 := hh.v.1
      have hqr := q8_ch_r (w := k) hC ha
      refine x_iload_n B dX8_laysChances_2 rfl ?_
      refine x_bipush B dX8_laysChances_3 (by decide) ?_
      refine x_icmp_gt B (tgt := 36) dX8_laysChances_5 (by decide) ⟨by omega, by omega⟩ ⟨by omega, by omega⟩ (fun h_5 => ?_) (fun h_5 => ?_)
      · refine x_vret B (fun _ _ h => h) ?_ dX8_laysChances_36
        exact ⟨rfl, hw, fun v v1 v2 => hv v v1 (by omega)⟩
      · refine x_aload_n B dX8_laysChances_8 rfl ?_
        refine x_getC0 B (k := 29) hT rfl rfl xc_7 (by decide) h8 (Or.inl q1364) (fun _ h => h) dX8_laysChances_9 (fun k_9 => ?_)
        refine x_iload_n B dX8_laysChances_12 rfl ?_
        refine x_iload_n B dX8_laysChances_13 rfl ?_
        refine x_bipush B dX8_laysChances_14 (by decide) ?_
        refine x_icmp_ne B (tgt := 23) dX8_laysChances_16 (by decide) ⟨by omega, by omega⟩ ⟨by omega, by omega⟩ (fun h_16 => ?_) (fun h_16 => ?_)
        · refine x_aload_n B dX8_laysChances_23 rfl ?_
          refine x_iload_n B dX8_laysChances_24 rfl ?_
          refine x_iload_n B dX8_laysChances_25 rfl ?_
          refine x_go (x_rV B h8 (show x_cl[7]? = some _ from rfl) (c_X8_chanceOf CY (by rw [y3]; exact ha) ⟨by omega, by omega⟩) (lw_V q1725 q1727 qs81 q122 q1728) hv_X8_chanceOf ⟨by decide, by decide⟩ ⟨by decide, by decide⟩ rfl rfl (by simp [x_cr, x_c1, x_c2]) dX8_laysChances_26) (fun v_26 X_26 p_26 => ?_)
          obtain ⟨rfl, hw26⟩ := p_26
          rw [hh.ch]
          refine x_iast B k_9 ⟨by omega, by omega⟩ ⟨by omega, by omega⟩ dX8_laysChances_29 ?_
          refine x_iinc_2 B dX8_laysChances_30 (by first | rfl | exact x_cr _ _) ?_
          refine x_goto B (tgt := 2) dX8_laysChances_33 (by decide) ?_
          have hsub : ∀ (Z : x_X) (z : Int), w80 Y Z → z = q8_ch X a k → (w801 X (x_up Z 81 k z) ∧ ∀ w, 0 ≤ w → w < k + 1 → x_up Z 81 k z 81 w = q8_ch X a w) := fun Z z hz he => by
            refine ⟨fun b b1 b2 => by rw [x_up_o _ b2, hz b b1]; exact hw b b1 b2, fun w w1 w2 => ?_⟩
            by_cases e : w = k
            · rw [e, x_up_s]; exact he
            · rw [x_up_n _ (Or.inr e), hz 81 (by omega)]; exact hv w w1 (by omega)
          have hlt : 0 ≤ k + 1 ∧ k + 1 ≤ 122 := by omega
          have hme2 : (123 - (k + 1)).toNat < n := by omega
          first
          | exact ih _ _ ⟨hlt, hsub _ _ (fun _ _ => rfl) hq0⟩ hme2
          | exact ih _ _ ⟨hlt, hsub _ _ hw26 rfl⟩ hme2
        · have hq0 : 0 = q8_ch X a k := by rw [show k = 121 by omega]; exact (q8_ch_121 hC ha).symm
          refine x_iconst B dX8_laysChances_19 ?_
          refine x_goto B (tgt := 29) dX8_laysChances_20 (by decide) ?_
          refine x_iast B k_9 ⟨by omega, by omega⟩ ⟨by omega, by omega⟩ dX8_laysChances_29 ?_
          refine x_iinc_2 B dX8_laysChances_30 (by first | rfl | exact x_cr _ _) ?_
          refine x_goto B (tgt := 2) dX8_laysChances_33 (by decide) ?_
          have hsub : ∀ (Z : x_X) (z : Int), w80 Y Z → z = q8_ch X a k → (w801 X (x_up Z 81 k z) ∧ ∀ w, 0 ≤ w → w < k + 1 → x_up Z 81 k z 81 w = q8_ch X a w) := fun Z z hz he => by
            refine ⟨fun b b1 b2 => by rw [x_up_o _ b2, hz b b1]; exact hw b b1 b2, fun w w1 w2 => ?_⟩
            by_cases e : w = k
            · rw [e, x_up_s]; exact he
            · rw [x_up_n _ (Or.inr e), hz 81 (by omega)]; exact hv w w1 (by omega)
          have hlt : 0 ≤ k + 1 ∧ k + 1 ≤ 122 := by omega
          have hme2 : (123 - (k + 1)).toNat < n := by omega
          first
          | exact ih _ _ ⟨hlt, hsub _ _ (fun _ _ => rfl) hq0⟩ hme2
          | exact ih _ _ ⟨hlt, hsub _ _ hw26 rfl⟩ hme2
  refine x_iconst B dX8_laysChances_0 ?_
  refine x_ist_2 B dX8_laysChances_1 (by first | rfl | exact x_cr _ _) ?_
  exact lp_2 _ 0 X ⟨⟨by omega, by omega⟩, fun _ _ _ => rfl, fun v v1 v2 => by omega⟩ (Nat.lt_succ_self _)
theorem c_X8_beatBy {l : Launch} {E : x_E} {κ : x_Ka} {X : x_X} {a b v : Int} (hK : t_K κ X) (ha : 0 ≤ a ∧ a < X 64 3) (hb : 0 ≤ b ∧ b < X 64 3) (hv : 0 ≤ v ∧ v ≤ 120) : x_Pu l yX8_beatBy cX8_beatBy 4 (some .int) 1 E κ X [x_rf E 64, vi a, vi b, vi v] (vi (if v = 0 then 0 else 1000000 - X 81 (v + t_li X a b))) := by
  refine x_Met.of [(false, x_rf E 64), (false, vi a), (false, vi b), (false, vi v)] [some (x_rf E 64), some (vi a), some (vi b), some (vi v)] 0 (by decide) rfl rfl ⟨x_cr E (64), rfl, rfl, rfl, trivial⟩ rfl rfl ?_
  intro p e s m args below meth c hargs hin B
  obtain ⟨hT, h8, hn⟩ := id hK
  have hli := t_li_r X a b
  refine x_iload_n B dX8_beatBy_0 rfl ?_
  refine x_if_ne B (tgt := 8) dX8_beatBy_1 (by decide) ⟨by omega, by omega⟩ (fun h_1 => ?_) (fun h_1 => ?_)
  · refine x_ldcw B (1000000) q1733 (by decide) dX8_beatBy_8 ?_
    refine x_aload_n B dX8_beatBy_11 rfl ?_
    refine x_getC0 B (k := 29) hT rfl rfl xc_7 (by decide) h8 (Or.inl q1364) (fun _ h => h) dX8_beatBy_12 (fun k_12 => ?_)
    refine x_iload_n B dX8_beatBy_15 rfl ?_
    refine x_aload_n B dX8_beatBy_16 rfl ?_
    refine x_iload_n B dX8_beatBy_17 rfl ?_
    refine x_iload_n B dX8_beatBy_18 rfl ?_
    refine x_goP (x_rV B h8 (show x_cl[7]? = some _ from rfl) (c_X8_isLighter hK ha hb) (lw_V q1673 q1675 qs74 q122 q1676) hv_X8_isLighter ⟨by decide, by decide⟩ ⟨by decide, by decide⟩ rfl rfl (by simp [x_cr, x_c1, x_c2]) dX8_beatBy_19) ?_
    refine x_goP (x_rS B (c_X8_flag hli) (lw_S q1597 q1598 q122 q1599) hd_X8_flag ⟨by decide, by decide⟩ ⟨by decide, by decide⟩ rfl rfl (by simp [x_cr, x_c1, x_c2]) dX8_beatBy_22) ?_
    refine x_iadd B dX8_beatBy_25 ?_
    refine x_iald B k_12 ⟨by omega, by omega⟩ dX8_beatBy_26 (fun r_26 => ?_)
    refine x_isub B dX8_beatBy_27 ?_
    refine x_iret B (fun _ _ h => h) ?_ dX8_beatBy_28
    first | (rw [if_pos (by omega)]; exact ⟨rfl, rfl⟩) | (rw [if_neg (by omega)]; exact ⟨rfl, rfl⟩)
  · refine x_iconst B dX8_beatBy_4 ?_
    refine x_goto B (tgt := 28) dX8_beatBy_5 (by decide) ?_
    refine x_iret B (fun _ _ h => h) ?_ dX8_beatBy_28
    first | (rw [if_pos (by omega)]; exact ⟨rfl, rfl⟩) | (rw [if_neg (by omega)]; exact ⟨rfl, rfl⟩)
theorem c_X8_aimsBeat {l : Launch} {E : x_E} {κ : x_Ka} {X : x_X} {a b : Int} (hC : t_C κ X) (ha : 0 ≤ a ∧ a < X 64 3) (hb : 0 ≤ b ∧ b < X 64 3) : x_Met l yX8_aimsBeat cX8_aimsBeat 4 none 31 0 0 E κ X [x_rf E 64, vi a, vi b] κ (fun v_ Y_ => v_ = none ∧ w801 X Y_ ∧ ∀ v, 0 ≤ v → v ≤ 120 → Y_ 80 v = q8_bt X a b v) := by
  refine x_Met.of [(false, x_rf E 64), (false, vi a), (false, vi b)] [some (x_rf E 64), some (vi a), some (vi b), none] 1 (by decide) rfl rfl ⟨x_cr E (64), rfl, rfl, trivial⟩ rfl rfl ?_
  intro p e s m args below meth c hargs hin B
  obtain ⟨hK, hP, hO, hW, hLa⟩ := id hC
  obtain ⟨hT, h8, hn⟩ := id hK
  have hli := t_li_r X a b
  have lp_7 : ∀ (n : Nat) (k : Int) (Y : x_X), ((0 ≤ k ∧ k ≤ 121) ∧ w801 X Y ∧ (∀ w, 0 ≤ w → w ≤ 121 → Y 81 w = q8_ch X b w) ∧ ∀ v, 0 ≤ v → v < k → Y 80 v = q8_bt X a b v) → ((122 - k).toNat < n) → x_G p l e (x_rm 31 0 0) s m args below meth c 4 E 0 0 (MQ below (x_Q E κ (fun v_ Y_ => v_ = none ∧ w801 X Y_ ∧ ∀ v, 0 ≤ v → v ≤ 120 → Y_ 80 v = q8_bt X a b v)) args s 0 0 (fun q => E.1 ≤ q)) κ 7 [some (x_rf E 64), some (vi a), some (vi b), some (vi k)] [] Y := by
    intro n
    induction n with
    | zero => intro k Y hinv hme; exfalso; omega
    | succ n ih =>
      intro k Y hinv hme
      obtain ⟨hk, hw, hc, hv⟩ := hinv
      have hh := hw.h
      have CY := hh.C hC
      have y3 : Y 64 3 = X 64 3 := hh.v.1
      have hbr := q8_bt_r (i := a) (v := k) hC hb
      refine x_iload_n B dX8_aimsBeat_7 rfl ?_
      refine x_bipush B dX8_aimsBeat_8 (by decide) ?_
      refine x_icmp_ge B (tgt := 32) dX8_aimsBeat_10 (by decide) ⟨by omega, by omega⟩ ⟨by omega, by omega⟩ (fun h_10 => ?_) (fun h_10 => ?_)
      · refine x_vret B (fun _ _ h => h) ?_ dX8_aimsBeat_32
        exact ⟨rfl, hw, fun v v1 v2 => hv v v1 (by omega)⟩
      · refine x_aload_n B dX8_aimsBeat_13 rfl ?_
        refine x_getC0 B (k := 28) hT rfl rfl xc_7 (by decide) h8 (Or.inl q1363) (fun _ h => h) dX8_aimsBeat_14 (fun k_14 => ?_)
        refine x_iload_n B dX8_aimsBeat_17 rfl ?_
        refine x_aload_n B dX8_aimsBeat_18 rfl ?_
        refine x_iload_n B dX8_aimsBeat_19 rfl ?_
        refine x_iload_n B dX8_aimsBeat_20 rfl ?_
        refine x_iload_n B dX8_aimsBeat_21 rfl ?_
        refine x_goP (x_rV B h8 (show x_cl[7]? = some _ from rfl) (c_X8_beatBy CY.1 (by rw [y3]; exact ha) (by rw [y3]; exact hb) ⟨by omega, by omega⟩) (lw_V q1750 q1752 qs85 q122 q1753) hv_X8_beatBy ⟨by decide, by decide⟩ ⟨by decide, by decide⟩ rfl rfl (by simp [x_cr, x_c1, x_c2]) dX8_aimsBeat_22) ?_
        have eb : (if k = 0 then 0 else 1000000 - Y 81 (k + t_li Y a b)) = q8_bt X a b k := by unfold q8_bt g_bt; rw [hh.v.2.2.2.1, hc _ (by omega) (by omega)]
        rw [eb]
        refine x_iast B k_14 ⟨by omega, by omega⟩ ⟨by omega, by omega⟩ dX8_aimsBeat_25 ?_
        refine x_iinc_3 B dX8_aimsBeat_26 (by first | rfl | exact x_cr _ _) ?_
        refine x_goto B (tgt := 7) dX8_aimsBeat_29 (by decide) ?_
        refine ih _ _ ⟨⟨by omega, by omega⟩, fun c c1 c2 => by rw [x_up_o _ c1]; exact hw c c1 c2, fun w w1 w2 => by rw [x_up_o _ (by omega)]; exact hc w w1 w2, fun v v1 v2 => ?_⟩ (by omega)
        by_cases e : v = k
        · rw [e, x_up_s]
        · rw [x_up_n _ (Or.inr e)]; exact hv v v1 (by omega)
  refine x_aload_n B dX8_aimsBeat_0 rfl ?_
  refine x_iload_n B dX8_aimsBeat_1 rfl ?_
  refine x_go (x_rV B h8 (show x_cl[7]? = some _ from rfl) (c_X8_laysChances hC hb) (lw_V q1738 q1740 qs83 q122 q1741) hv_X8_laysChances ⟨by decide, by decide⟩ ⟨by decide, by decide⟩ rfl rfl (by simp [x_cr, x_c1, x_c2]) dX8_aimsBeat_2) (fun v_2 X_2 p_2 => ?_)
  refine x_iconst B dX8_aimsBeat_5 ?_
  refine x_ist_3 B dX8_aimsBeat_6 (by first | rfl | exact x_cr _ _) ?_
  obtain ⟨rfl, hw, hc⟩ := p_2
  exact lp_7 _ 0 X_2 ⟨⟨by omega, by omega⟩, hw, hc, fun v v1 v2 => by omega⟩ (Nat.lt_succ_self _)
def w802 (X Y : x_X) : Prop := ∀ b, b ≠ 80 → b ≠ 81 → b ≠ 82 → Y b = X b
theorem w802.h {X Y : x_X} (h : w802 X Y) : h_eq X Y := ⟨fun b b1 b2 b3 => h b (by omega) (by omega) (by omega), fun i i1 i2 i3 => by rw [h 64 (by omega) (by omega) (by omega)]⟩
def g_wp (bt : Int → Int → Int → Int) (i v : Int) (k : Nat) : Int := if v = 0 then 0 else g_wf bt i v k
theorem c_X8_aimsWin {l : Launch} {E : x_E} {κ : x_Ka} {X : x_X} {a : Int} (hC : t_C κ X) (ha : 0 ≤ a ∧ a < X 64 3) : x_Met l yX8_aimsWin cX8_aimsWin 4 none 31 0 0 E κ X [x_rf E 64, vi a] κ (fun v_ Y_ => v_ = none ∧ w802 X Y_ ∧ ∀ v, 0 ≤ v → v ≤ 120 → Y_ 80 v = g_wn (q8_bt X) (X 64 3) a v) := by
  refine x_Met.of [(false, x_rf E 64), (false, vi a)] [some (x_rf E 64), some (vi a), none, none] 2 (by decide) rfl rfl ⟨x_cr E (64), rfl, trivial⟩ rfl rfl ?_
  intro p e s m args below meth c hargs hin B
  obtain ⟨hK, hP, hO, hW, hLa⟩ := id hC
  obtain ⟨hT, h8, hn⟩ := id hK
  have hwr : ∀ v (k : Nat), (k : Int) ≤ X 64 3 → 0 ≤ g_wf (q8_bt X) a v k ∧ g_wf (q8_bt X) a v k ≤ 1000000 := fun v k hk => g_wf_r k (fun j j1 j2 => q8_bt_r hC ⟨j1, by omega⟩)
  have hwp : ∀ v (k : Nat), (k : Int) ≤ X 64 3 → 0 ≤ g_wp (q8_bt X) a v k ∧ g_wp (q8_bt X) a v k ≤ 1000000 := fun v k hk => by have := hwr v k hk; unfold g_wp; split <;> omega
  have lp_103 : ∀ (n : Nat) (k : Int) (Y : x_X), ((0 ≤ k ∧ k ≤ 121) ∧ w802 X Y ∧ (∀ v, 0 ≤ v → v ≤ 120 → Y 82 v = g_wp (q8_bt X) a v (X 64 3).toNat) ∧ ∀ v, 0 ≤ v → v < k → Y 80 v = g_wn (q8_bt X) (X 64 3) a v) → ((122 - k).toNat < n) → x_G p l e (x_rm 31 0 0) s m args below meth c 4 E 0 0 (MQ below (x_Q E κ (fun v_ Y_ => v_ = none ∧ w802 X Y_ ∧ ∀ v, 0 ≤ v → v ≤ 120 → Y_ 80 v = g_wn (q8_bt X) (X 64 3) a v)) args s 0 0 (fun q => E.1 ≤ q)) κ 103 [some (x_rf E 64), some (vi a), some (vi k), none] [] Y := by
    intro n
    induction n with
    | zero => intro k Y hinv hme; exfalso; omega
    | succ n ih =>
      intro k Y hinv hme
      obtain ⟨hk, hw, hc, hv⟩ := hinv
      refine x_iload_n B dX8_aimsWin_103 rfl ?_
      refine x_bipush B dX8_aimsWin_104 (by decide) ?_
      refine x_icmp_ge B (tgt := 127) dX8_aimsWin_106 (by decide) ⟨by omega, by omega⟩ ⟨by omega, by omega⟩ (fun h_106 => ?_) (fun h_106 => ?_)
      · refine x_vret B (fun _ _ h => h) ?_ dX8_aimsWin_127
        exact ⟨rfl, hw, fun v v1 v2 => hv v v1 (by omega)⟩
      · refine x_aload_n B dX8_aimsWin_109 rfl ?_
        refine x_getC0 B (k := 28) hT rfl rfl xc_7 (by decide) h8 (Or.inl q1363) (fun _ h => h) dX8_aimsWin_110 (fun k_110 => ?_)
        refine x_iload_n B dX8_aimsWin_113 rfl ?_
        refine x_aload_n B dX8_aimsWin_114 rfl ?_
        refine x_getC0 B (k := 30) hT rfl rfl xc_7 (by decide) h8 (Or.inl q1365) (fun _ h => h) dX8_aimsWin_115 (fun k_115 => ?_)
        refine x_iload_n B dX8_aimsWin_118 rfl ?_
        refine x_iald B k_115 ⟨by omega, by omega⟩ dX8_aimsWin_119 (fun r_119 => ?_)
        rw [hc k (by omega) (by omega)] at r_119 ⊢
        refine x_iast B k_110 ⟨by omega, by omega⟩ ⟨by omega, by omega⟩ dX8_aimsWin_120 ?_
        refine x_iinc_2 B dX8_aimsWin_121 (by first | rfl | exact x_cr _ _) ?_
        refine x_goto B (tgt := 103) dX8_aimsWin_124 (by decide) ?_
        refine ih _ _ ⟨⟨by omega, by omega⟩, fun c c1 c2 c3 => by rw [x_up_o _ c1]; exact hw c c1 c2 c3, fun v v1 v2 => by rw [x_up_o _ (by omega)]; exact hc v v1 v2, fun v v1 v2 => ?_⟩ (by omega)
        by_cases e : v = k
        · rw [e, x_up_s]; rfl
        · rw [x_up_n _ (Or.inr e)]; exact hv v v1 (by omega)
  have lp_33 : ∀ (n : Nat) (k : Int) (Y : x_X), ((0 ≤ k ∧ k ≤ X 64 3) ∧ w802 X Y ∧ ∀ v, 0 ≤ v → v ≤ 120 → Y 82 v = g_wp (q8_bt X) a v k.toNat) → ((7 - k).toNat < n) → x_G p l e (x_rm 31 0 0) s m args below meth c 4 E 0 0 (MQ below (x_Q E κ (fun v_ Y_ => v_ = none ∧ w802 X Y_ ∧ ∀ v, 0 ≤ v → v ≤ 120 → Y_ 80 v = g_wn (q8_bt X) (X 64 3) a v)) args s 0 0 (fun q => E.1 ≤ q)) κ 33 [some (x_rf E 64), some (vi a), some (vi k), none] [] Y := by
    intro n
    induction n with
    | zero => intro k Y hinv hme; exfalso; omega
    | succ n ih =>
      intro k Y hinv hme
      have ih33 := ih
      obtain ⟨hk, hw, hv⟩ := hinv
      have hh := hw.h
      have CY := hh.C hC
      have y3 : Y 64 3 = X 64 3 := hh.v.1
      have lp_56 : ∀ (n : Nat) (j : Int) (Z : x_X), ((0 ≤ j ∧ j ≤ 121) ∧ k < X 64 3 ∧ k ≠ a ∧ w802 X Z ∧ (∀ w, 0 ≤ w → w ≤ 121 → Z 81 w = q8_ch X k w) ∧ (∀ v, 0 ≤ v → v < j → Z 82 v = g_wp (q8_bt X) a v (k + 1).toNat) ∧ ∀ v, j ≤ v → v ≤ 120 → Z 82 v = g_wp (q8_bt X) a v k.toNat) → ((122 - j).toNat < n) → x_G p l e (x_rm 31 0 0) s m args below meth c 4 E 0 0 (MQ below (x_Q E κ (fun v_ Y_ => v_ = none ∧ w802 X Y_ ∧ ∀ v, 0 ≤ v → v ≤ 120 → Y_ 80 v = g_wn (q8_bt X) (X 64 3) a v)) args s 0 0 (fun q => E.1 ≤ q)) κ 56 [some (x_rf E 64), some (vi a), some (vi k), some (vi j)] [] Z := by
        intro n
        induction n with
        | zero => intro j Z hin2 hme; exfalso; omega
        | succ n ih =>
          intro j Z hin2 hme
          obtain ⟨hj, hkn, hka, hwz, hcz, hlo, hhi⟩ := hin2
          have hhz := hwz.h
          have CZ := hhz.C hC
          have z3 : Z 64 3 = X 64 3 := hhz.v.1
          have hbr := q8_bt_r (i := a) (v := j) hC (j := k) ⟨hk.1, hkn⟩
          have hgp := hwp j k.toNat (by omega)
          have hli := t_li_r X a k
          refine x_iload_n B dX8_aimsWin_56 rfl ?_
          refine x_bipush B dX8_aimsWin_57 (by decide) ?_
          refine x_icmp_ge B (tgt := 95) dX8_aimsWin_59 (by decide) ⟨by omega, by omega⟩ ⟨by omega, by omega⟩ (fun h_59 => ?_) (fun h_59 => ?_)
          · refine x_iinc_2 B dX8_aimsWin_95 (by first | rfl | exact x_cr _ _) ?_
            refine x_goto B (tgt := 33) dX8_aimsWin_98 (by decide) ?_
            refine x_fg_3 ?_
            refine ih33 _ _ ⟨⟨by omega, by omega⟩, hwz, fun v v1 v2 => hlo v v1 (by omega)⟩ (by omega)
          · refine x_aload_n B dX8_aimsWin_62 rfl ?_
            refine x_getC0 B (k := 30) hT rfl rfl xc_7 (by decide) h8 (Or.inl q1365) (fun _ h => h) dX8_aimsWin_63 (fun k_63 => ?_)
            refine x_iload_n B dX8_aimsWin_66 rfl ?_
            refine x_aload_n B dX8_aimsWin_67 rfl ?_
            refine x_getC0 B (k := 30) hT rfl rfl xc_7 (by decide) h8 (Or.inl q1365) (fun _ h => h) dX8_aimsWin_68 (fun k_68 => ?_)
            refine x_iload_n B dX8_aimsWin_71 rfl ?_
            refine x_iald B k_68 ⟨by omega, by omega⟩ dX8_aimsWin_72 (fun r_72 => ?_)
            rw [hhi j (by omega) (by omega)] at r_72 ⊢
            refine x_i2l B dX8_aimsWin_73 ⟨by omega, by omega⟩ ?_
            refine x_aload_n B dX8_aimsWin_74 rfl ?_
            refine x_iload_n B dX8_aimsWin_75 rfl ?_
            refine x_iload_n B dX8_aimsWin_76 rfl ?_
            refine x_iload_n B dX8_aimsWin_77 rfl ?_
            refine x_goP (x_rV B h8 (show x_cl[7]? = some _ from rfl) (c_X8_beatBy CZ.1 (by rw [z3]; exact ha) (by rw [z3]; exact ⟨hk.1, hkn⟩) ⟨by omega, by omega⟩) (lw_V q1750 q1752 qs85 q122 q1753) hv_X8_beatBy ⟨by decide, by decide⟩ ⟨by decide, by decide⟩ rfl rfl (by simp [x_cr, x_c1, x_c2]) dX8_aimsWin_78) ?_
            have eb : (if j = 0 then 0 else 1000000 - Z 81 (j + t_li Z a k)) = q8_bt X a k j := by unfold q8_bt g_bt; rw [hhz.v.2.2.2.1, hcz _ (by omega) (by omega)]
            rw [eb]
            have hdv := a_dv hgp hbr
            refine x_i2l B dX8_aimsWin_81 ⟨by omega, by omega⟩ ?_
            refine x_lmul B dX8_aimsWin_82 ?_
            refine x_ldc2 B (1000000) q1766 (by decide) dX8_aimsWin_83 ?_
            refine x_ldiv B dX8_aimsWin_86 ⟨by omega, by omega⟩ ⟨by omega, by omega⟩ ?_
            refine x_l2i B dX8_aimsWin_87 ?_
            refine x_iast B k_63 ⟨by omega, by omega⟩ ⟨by omega, by omega⟩ dX8_aimsWin_88 ?_
            refine x_iinc_3 B dX8_aimsWin_89 (by first | rfl | exact x_cr _ _) ?_
            refine x_goto B (tgt := 56) dX8_aimsWin_92 (by decide) ?_
            refine ih _ _ ⟨⟨by omega, by omega⟩, hkn, hka, fun c c1 c2 c3 => by rw [x_up_o _ c3]; exact hwz c c1 c2 c3, fun w w1 w2 => by rw [x_up_o _ (by omega)]; exact hcz w w1 w2, fun v v1 v2 => ?_, fun v v1 v2 => by rw [x_up_n _ (Or.inr (by omega))]; exact hhi v (by omega) v2⟩ (by omega)
            by_cases e : v = j
            · rw [e, x_up_s]; unfold g_wp; rw [g_wf_s _ _ _ hk.1, if_neg hka]; by_cases z : j = 0
              · rw [if_pos z, if_pos z, Int.zero_mul]; rfl
              · rw [if_neg z, if_neg z]
            · rw [x_up_n _ (Or.inr e)]; exact hlo v v1 (by omega)
      refine x_iload_n B dX8_aimsWin_33 rfl ?_
      refine x_aload_n B dX8_aimsWin_34 rfl ?_
      refine x_getI B (k := 3) 3 rfl rfl xc_7 (by decide) h8 (Or.inl q1338) (fun _ h => h) dX8_aimsWin_35 (fun r_35 => ?_)
      rw [y3] at r_35 ⊢
      refine x_icmp_ge B (tgt := 101) dX8_aimsWin_38 (by decide) ⟨by omega, by omega⟩ ⟨by omega, by omega⟩ (fun h_38 => ?_) (fun h_38 => ?_)
      · refine x_iconst B dX8_aimsWin_101 ?_
        refine x_ist_2 B dX8_aimsWin_102 (by first | rfl | exact x_cr _ _) ?_
        obtain rfl : k = X 64 3 := by omega
        exact lp_103 _ 0 Y ⟨⟨by omega, by omega⟩, hw, hv, fun v v1 v2 => by omega⟩ (Nat.lt_succ_self _)
      · refine x_iload_n B dX8_aimsWin_41 rfl ?_
        refine x_iload_n B dX8_aimsWin_42 rfl ?_
        refine x_icmp_ne B (tgt := 49) dX8_aimsWin_43 (by decide) ⟨by omega, by omega⟩ ⟨by omega, by omega⟩ (fun h_43 => ?_) (fun h_43 => ?_)
        · refine x_aload_n B dX8_aimsWin_49 rfl ?_
          refine x_iload_n B dX8_aimsWin_50 rfl ?_
          refine x_go (x_rV B h8 (show x_cl[7]? = some _ from rfl) (c_X8_laysChances CY (by rw [y3]; exact ⟨hk.1, by omega⟩)) (lw_V q1738 q1740 qs83 q122 q1741) hv_X8_laysChances ⟨by decide, by decide⟩ ⟨by decide, by decide⟩ rfl rfl (by simp [x_cr, x_c1, x_c2]) dX8_aimsWin_51) (fun v_51 X_51 p_51 => ?_)
          refine x_iconst B dX8_aimsWin_54 ?_
          refine x_ist_3 B dX8_aimsWin_55 (by first | rfl | exact x_cr _ _) ?_
          obtain ⟨rfl, hw51, hc51⟩ := p_51
          refine lp_56 _ 0 X_51 ⟨⟨by omega, by omega⟩, by omega, h_43, fun c c1 c2 c3 => (hw51 c c1 c2).trans (hw c c1 c2 c3), fun w w1 w2 => by rw [hc51 w w1 w2, hh.ch], fun v v1 v2 => by omega, fun v v1 v2 => by rw [hw51 82 (by omega) (by omega)]; exact hv v v1 v2⟩ (Nat.lt_succ_self _)
        · refine x_goto B (tgt := 95) dX8_aimsWin_46 (by decide) ?_
          refine x_iinc_2 B dX8_aimsWin_95 (by first | rfl | exact x_cr _ _) ?_
          refine x_goto B (tgt := 33) dX8_aimsWin_98 (by decide) ?_
          first
          | (refine ih33 _ _ ⟨⟨by omega, by omega⟩, hw, fun v v1 v2 => ?_⟩ (by omega); rw [hv v v1 v2]; unfold g_wp; rw [g_wf_s _ _ _ hk.1, if_pos h_43]; done)
          | skip
  have lp_2 : ∀ (n : Nat) (k : Int) (Y : x_X), ((0 ≤ k ∧ k ≤ 121) ∧ w802 X Y ∧ ∀ v, 0 ≤ v → v < k → Y 82 v = g_wp (q8_bt X) a v 0) → ((122 - k).toNat < n) → x_G p l e (x_rm 31 0 0) s m args below meth c 4 E 0 0 (MQ below (x_Q E κ (fun v_ Y_ => v_ = none ∧ w802 X Y_ ∧ ∀ v, 0 ≤ v → v ≤ 120 → Y_ 80 v = g_wn (q8_bt X) (X 64 3) a v)) args s 0 0 (fun q => E.1 ≤ q)) κ 2 [some (x_rf E 64), some (vi a), some (vi k), none] [] Y := by
    intro n
    induction n with
    | zero => intro k Y hinv hme; exfalso; omega
    | succ n ih =>
      intro k Y hinv hme
      obtain ⟨hk, hw, hv⟩ := hinv
      refine x_iload_n B dX8_aimsWin_2 rfl ?_
      refine x_bipush B dX8_aimsWin_3 (by decide) ?_
      refine x_icmp_ge B (tgt := 31) dX8_aimsWin_5 (by decide) ⟨by omega, by omega⟩ ⟨by omega, by omega⟩ (fun h_5 => ?_) (fun h_5 => ?_)
      · refine x_iconst B dX8_aimsWin_31 ?_
        refine x_ist_2 B dX8_aimsWin_32 (by first | rfl | exact x_cr _ _) ?_
        exact lp_33 _ 0 Y ⟨⟨by omega, by omega⟩, hw, fun v v1 v2 => hv v v1 (by omega)⟩ (Nat.lt_succ_self _)
      · refine x_aload_n B dX8_aimsWin_8 rfl ?_
        refine x_getC0 B (k := 30) hT rfl rfl xc_7 (by decide) h8 (Or.inl q1365) (fun _ h => h) dX8_aimsWin_9 (fun k_9 => ?_)
        refine x_iload_n B dX8_aimsWin_12 rfl ?_
        refine x_iload_n B dX8_aimsWin_13 rfl ?_
        refine x_if_ne B (tgt := 21) dX8_aimsWin_14 (by decide) ⟨by omega, by omega⟩ (fun h_14 => ?_) (fun h_14 => ?_)
        · refine x_ldcw B (1000000) q1733 (by decide) dX8_aimsWin_21 ?_
          refine x_iast B k_9 ⟨by omega, by omega⟩ ⟨by omega, by omega⟩ dX8_aimsWin_24 ?_
          refine x_iinc_2 B dX8_aimsWin_25 (by first | rfl | exact x_cr _ _) ?_
          refine x_goto B (tgt := 2) dX8_aimsWin_28 (by decide) ?_
          refine ih _ _ ⟨⟨by omega, by omega⟩, fun c c1 c2 c3 => by rw [x_up_o _ c3]; exact hw c c1 c2 c3, fun v v1 v2 => ?_⟩ (by omega)
          by_cases e : v = k
          · rw [e, x_up_s]; unfold g_wp; first | (rw [if_pos (by omega)]; done) | (rw [if_neg (by omega)]; rfl)
          · rw [x_up_n _ (Or.inr e)]; exact hv v v1 (by omega)
        · refine x_iconst B dX8_aimsWin_17 ?_
          refine x_goto B (tgt := 24) dX8_aimsWin_18 (by decide) ?_
          refine x_iast B k_9 ⟨by omega, by omega⟩ ⟨by omega, by omega⟩ dX8_aimsWin_24 ?_
          refine x_iinc_2 B dX8_aimsWin_25 (by first | rfl | exact x_cr _ _) ?_
          refine x_goto B (tgt := 2) dX8_aimsWin_28 (by decide) ?_
          refine ih _ _ ⟨⟨by omega, by omega⟩, fun c c1 c2 c3 => by rw [x_up_o _ c3]; exact hw c c1 c2 c3, fun v v1 v2 => ?_⟩ (by omega)
          by_cases e : v = k
          · rw [e, x_up_s]; unfold g_wp; first | (rw [if_pos (by omega)]; done) | (rw [if_neg (by omega)]; rfl)
          · rw [x_up_n _ (Or.inr e)]; exact hv v v1 (by omega)
  refine x_iconst B dX8_aimsWin_0 ?_
  refine x_ist_2 B dX8_aimsWin_1 (by first | rfl | exact x_cr _ _) ?_
  exact lp_2 _ 0 X ⟨⟨by omega, by omega⟩, fun _ _ _ _ => rfl, fun v v1 v2 => by omega⟩ (Nat.lt_succ_self _)
