theorem rd_T {κ : x_Ka} {a : Int} (hT : x_T κ) (hn : κ a = none) (h0 : κ 0 = some (.inl (0, 1))) (kd : x_k) : x_T (x_ku (x_ku κ a kd) a (.inl (10, 1))) := by
  obtain ⟨K, hK⟩ : ∃ K, K = x_ku (x_ku κ a kd) a (.inl (10, 1)) := ⟨_, rfl⟩
  have hs : K a = some (.inl (10, 1)) := by rw [hK]; exact x_ku_s _ _ _
  have ho : ∀ b k, κ b = some k → K b = some k := fun b k h => by
    have : b ≠ a := fun e => by rw [e, hn] at h; cases h
    rw [hK, x_ku_ne this, x_ku_ne this]; exact h
  have hb : ∀ b, b ≠ a → K b = κ b := fun b e => by rw [hK, x_ku_ne e, x_ku_ne e]
  rw [← hK]
  clear hK
  constructor
  · intro b ci h j q hq
    by_cases e : b = a
    · rw [e] at h ⊢
      cases hs.symm.trans h
      match j, hq with
      | 0, hq => cases hq
      | 1, hq => cases hq
      | 2, hq => cases hq; exact ho _ _ h0
      | j + 3, hq => cases (show x_fx 10 (j + 3) = none from rfl).symm.trans hq
    · rw [hb b e] at h
      exact ho _ _ (hT.1 b ci h j q hq)
  · intro b t n h q hq j j1 j2
    by_cases e : b = a
    · rw [e] at h
      cases hs.symm.trans h
    · rw [hb b e] at h
      exact ho _ _ (hT.2 b t n h q hq j j1 j2)
/-- nothing but typed has moved, of what was there -/
def e_f (X Y : x_X) : Prop := (∀ b, 1 ≤ b → b < X (-1) 0 → Y b = X b) ∧ (∀ k, k ≠ 5 → Y 0 k = X 0 k) ∧ Y 0 5 = 0 ∧ X (-1) 0 ≤ Y (-1) 0
/-- a lifter F stands behind the others, at X (-1) 0 + 1 -/
def e_z (X Z F : x_X) : Prop := (∀ b, 3 ≤ b → b < X (-1) 0 → Z b = X b) ∧ (∀ k, k ≠ 5 → Z 0 k = X 0 k) ∧ Z 0 5 = 0 ∧ Z (-1) 0 = X (-1) 0 + 15 ∧ (Z 1 0 = X 1 0 + 1 ∧ Z 1 2 = X 1 2 + 1) ∧ (Z 2 (X 1 2) = X (-1) 0 + 1 ∧ ∀ l, l ≠ X 1 2 → Z 2 l = X 2 l) ∧ (Z (X (-1) 0 + 1) 0 = F 0 0 ∧ Z (X (-1) 0 + 1) 1 = F 0 1) ∧ ∀ u, 0 ≤ u → u ≤ 2 → f10 Z (X (-1) 0 + 1) F u
theorem c_X1_enters {l : Launch} {E : x_E} {κ : x_Ka} {X : x_X}  (hI : n_I κ X) (hmc : 0 ≤ X 1 0 ∧ X 1 0 ≤ 100000) (h5 : 0 ≤ X 0 5 ∧ X 0 5 ≤ 240) (hlo : 88 ≤ X (-1) 0) : x_MetH l yX1_enters cX1_enters 4 (some .int) [(10, 23, 26, 131)] 7 94 619 E κ X [x_rf E 0] (fun v_ κ_ Y_ => ((r_lif (r_num (c_T X) (X 0 5)) (c_T X) (X 0 5) (c_lot X) (X 1 2)).1 = 0 → v_ = some (vi (-21 - (r_lif (r_num (c_T X) (X 0 5)) (c_T X) (X 0 5) (c_lot X) (X 1 2)).2.1)) ∧ κ_ = κ ∧ e_f X Y_) ∧ ((r_lif (r_num (c_T X) (X 0 5)) (c_T X) (X 0 5) (c_lot X) (X 1 2)).1 = 1 → X 1 2 = 6 → v_ = some (vi (-2)) ∧ κ_ = κ ∧ e_f X Y_) ∧ ((r_lif (r_num (c_T X) (X 0 5)) (c_T X) (X 0 5) (c_lot X) (X 1 2)).1 = 1 → X 1 2 ≠ 6 → v_ = some (vi (X 1 2)) ∧ ∃ Z_, (x_T κ_ ∧ (∀ b k, κ b = some k → κ_ b = some k) ∧ κ_ (X (-1) 0 + 1) = some (.inl (8, 1))) ∧ e_z X Z_ (r_lif (r_num (c_T X) (X 0 5)) (c_T X) (X 0 5) (c_lot X) (X 1 2)).2.2 ∧ (∀ a, (a < 3 ∨ 17 ≤ a) → a ≠ 0 → Y_ a = Z_ a) ∧ (∀ i, i ≠ 12 → Y_ 0 i = Z_ 0 i) ∧ Y_ 0 12 = 0 ∧ c_M Y_ 3 = m_beg (Z_ 1 2) (c_op Z_) (c_M Z_ 3) ∧ ∀ l, 0 ≤ l → l < Z_ 1 2 → Y_ (3 + 1 + 1 + 2 * l) 1 = 0)) := by
  refine x_MetH.of [(false, x_rf E 0)] [some (x_rf E 0), none, none, none] 3 (by decide) rfl rfl ⟨x_cr E (0), trivial⟩ rfl rfl ?_
  intro p e s m args below meth c hargs hin B htb
  obtain ⟨hT, h0, hn6, hl, hla⟩ := id hI
  refine x_lows (fun hlow => ?_)
  obtain ⟨n0, hn0⟩ : ∃ n0, X (-1) 0 = n0 := ⟨_, rfl⟩
  have hlt : ∀ l, 0 ≤ l → l < X 1 2 → X 2 l < n0 := fun l l1 l2 => by have := hlow _ _ (hl l l1 l2); omega
  refine x_aload_n B dX1_enters_0 rfl ?_
  refine x_getI B (k := 5) 5 rfl rfl xc_0 (by decide) h0 (Or.inl q406) (fun _ h => h) dX1_enters_1 (fun r_1 => ?_)
  refine x_ist_1 B dX1_enters_4 (by first | rfl | exact x_cr _ _) ?_
  refine x_aload_n B dX1_enters_5 rfl ?_
  refine x_iconst B dX1_enters_6 ?_
  refine x_putI B (k := 5) 5 rfl rfl rfl ⟨by decide, by decide⟩ xc_0 (by decide) rfl nn_0_5 (fun _ => rfl) h0 (Or.inl q406) (fun _ h => h) dX1_enters_7 ?_
  have e1 : x_up X 0 5 0 (-1) 0 = n0 := by rw [x_up_o _ (by omega)]; exact hn0
  refine x_new B xc_10 q472 q473 q123 (xd_10 E) xe_10 (by decide) (by decide) dX1_enters_10 (fun z_10 n_10 => ?_)
  rw [e1] at n_10 ⊢
  refine x_dup B dX1_enters_13 (by first | rfl | exact x_cr _ _) ?_
  refine x_aload_n B dX1_enters_14 rfl ?_
  refine x_iload_n B dX1_enters_15 rfl ?_
  refine x_go (x_rI B (by omega) (c_X9_init (by omega) (x_ku_s _ _ _) (x_ku_le n_10 _ _ h0) ⟨by omega, by omega⟩) q474 q475 q123 q476 rfl hd_X9_init ⟨by decide, by decide⟩ ⟨by decide, by decide⟩ rfl rfl (by simp [x_cr, x_c1, x_c2]) dX1_enters_16) (fun v_16 X_16 p_16 => ?_)
  obtain ⟨rfl, rfl⟩ := p_16
  have hT1 : x_T (x_ku (x_ku κ n0 (.inl (10, 0))) n0 (.inl (10, 1))) := rd_T hT n_10 h0 _
  have hup1 : ∀ b k, κ b = some k → (x_ku (x_ku κ n0 (.inl (10, 0))) n0 (.inl (10, 1))) b = some k := fun b k q => by
    have : b ≠ n0 := fun e => by rw [e, n_10] at q; cases q
    rw [x_ku_ne this, x_ku_ne this]; exact q
  have o1 : ∀ b, 1 ≤ b → b < n0 → (x_up (x_up (x_nw (x_up X 0 5 0) (x_df 10)) n0 2 0) n0 0 (X 0 5)) b = X b := fun b b1 b2 => by rw [x_up_o _ (by omega), x_up_o _ (by omega), x_nw_oth _ _ (by omega) (by omega), x_up_o _ (by omega)]
  have o0 : (x_up (x_up (x_nw (x_up X 0 5 0) (x_df 10)) n0 2 0) n0 0 (X 0 5)) 0 = x_up X 0 5 0 0 := by rw [x_up_o _ (by omega), x_up_o _ (by omega), x_nw_oth _ _ (by omega) (by omega)]
  have z1 : (x_up (x_up (x_nw (x_up X 0 5 0) (x_df 10)) n0 2 0) n0 0 (X 0 5)) (-1) 0 = n0 + 1 := by rw [x_up_o _ (by omega), x_up_o _ (by omega), x_nw_sz]; omega
  have r0 : (x_up (x_up (x_nw (x_up X 0 5 0) (x_df 10)) n0 2 0) n0 0 (X 0 5)) n0 0 = X 0 5 := x_up_s _ _ _ _
  have r1 : (x_up (x_up (x_nw (x_up X 0 5 0) (x_df 10)) n0 2 0) n0 0 (X 0 5)) n0 1 = 0 := by
    rw [x_up_n _ (Or.inr (by omega)), x_up_n _ (Or.inr (by omega))]
    have hh := x_nw_at (x_up X 0 5 0) (x_df 10) (by omega)
    rw [e1] at hh; rw [hh]; rfl
  generalize (x_up (x_up (x_nw (x_up X 0 5 0) (x_df 10)) n0 2 0) n0 0 (X 0 5)) = S1 at o1 o0 z1 r0 r1 ⊢
  have hk1 : (x_ku (x_ku κ n0 (.inl (10, 0))) n0 (.inl (10, 1))) n0 = some (.inl (10, 1)) := x_ku_s _ _ _
  generalize (x_ku (x_ku κ n0 (.inl (10, 0))) n0 (.inl (10, 1))) = K1 at hT1 hup1 hk1 ⊢
  have hrd : rd K1 S1 n0 (X 0 5) 0 := ⟨⟨hT1, hup1 _ _ h0, hk1⟩, r0, r1, ⟨by omega, by omega⟩, h5.2⟩
  have hI1 : n_I K1 S1 := by
    refine ⟨hT1, hup1 _ _ h0, ?_, fun l l1 l2 => ?_, fun l l1 l2 => ?_⟩
    · rw [o1 1 (by omega) (by omega)]; exact hn6
    · rw [o1 1 (by omega) (by omega)] at l2; rw [o1 2 (by omega) (by omega)]; exact hup1 _ _ (hl l l1 l2)
    · rw [o1 1 (by omega) (by omega)] at l2; rw [o1 2 (by omega) (by omega)]; exact hla l l1 l2
  have eT : c_T S1 = c_T X := by funext p; unfold c_T; rw [o1 31 (by omega) (by omega)]
  have e12 : S1 1 2 = X 1 2 := congrFun (o1 1 (by omega) (by omega)) 2
  have eL : c_lot S1 = c_lot X := by
    funext l
    unfold c_lot
    rw [e12, o1 2 (by omega) (by omega)]
    by_cases q : 0 ≤ l ∧ l < X 1 2
    · rw [if_pos q, if_pos q, o1 (X 2 l) (by have := hla l q.1 q.2; omega) (hlt l q.1 q.2)]
    · rw [if_neg q, if_neg q]
  refine x_goX (x_rVX B hk1 (show x_cl[10]? = some _ from rfl) (c_X9_lifter (r := n0) (a := n0 + 1) hrd hI1 (by omega) z1) (lw_V q488 q489 q490 q123 q491) hv_X9_lifter ⟨by decide, by decide⟩ ⟨by decide, by decide⟩ rfl rfl (by simp [x_cr, x_c1, x_c2]) dX1_enters_19) (fun z_19 κ_19 X_19 hz_19 p_19 => ?_) (fun v_19 κ_19 X_19 p_19 => ?_)
  · rw [eT, eL, e12] at p_19
    obtain ⟨hR0, kz, x_pl, hupz, hfz, hsz⟩ := p_19
    refine x_catchX B (x := { startPc := 10, endPc := 23, handlerPc := 26, catchType := 131 }) hz_19 htb rfl (by decide) q471 q563 (tgt := 26) rfl ?_
    refine x_ast_3 B dX1_enters_26 (by first | rfl | exact x_cr _ _) ?_
    refine x_bipush B dX1_enters_27 (by decide) ?_
    refine x_aload_n B dX1_enters_29 rfl ?_
    refine x_getI B (k := 6) 6 rfl rfl xc_11 (by decide) kz (Or.inr q609) (fun _ h => h) dX1_enters_30 (fun r_30 => ?_)
    rw [x_pl] at r_30 ⊢
    refine x_isub B dX1_enters_33 ?_
    refine x_wide (cells' := 94) (slots' := 619) (by omega) (by omega) ?_
    refine x_sub (fun b k q => hupz _ _ (hup1 _ _ q)) ?_
    refine x_iretK B ?_ dX1_enters_34
    refine ⟨fun _ => ⟨rfl, rfl, fun b b1 b2 => ?_, fun k k1 => ?_, ?_, ?_⟩, fun q => by omega, fun q => by omega⟩
    · exact (hfz b (by omega) (by omega) (by omega)).trans (o1 b b1 (by omega))
    · rw [hfz 0 (by omega) (by omega) (by omega), o0, x_up_n _ (Or.inr k1)]
    · rw [hfz 0 (by omega) (by omega) (by omega), o0, x_up_s]
    · omega
  rw [eT, eL, e12] at p_19
  obtain ⟨hR1, rfl, hT2, hup2, ka2, hf2, hc2, hu2⟩ := p_19
  have hupA : ∀ b k, κ b = some k → κ_19 b = some k := fun b k q => hup2 _ _ (hup1 _ _ q)
  have h0 := hupA _ _ h0
  have hT := hT2
  have p1 : ∀ b, 1 ≤ b → b < n0 → X_19 b = X b := fun b b1 b2 => (hf2.1 b (by omega) (by omega) (by omega)).trans (o1 b b1 b2)
  have p0 : X_19 0 = x_up X 0 5 0 0 := (hf2.1 0 (by omega) (by omega) (by omega)).trans o0
  have pz : X_19 (-1) 0 = n0 + 15 := by rw [hf2.2.2]; omega
  have p12 : X_19 1 2 = X 1 2 := congrFun (p1 1 (by omega) (by omega)) 2
  have p10 : X_19 1 0 = X 1 0 := congrFun (p1 1 (by omega) (by omega)) 0
  refine x_ast_2 B dX1_enters_22 (by first | rfl | exact x_cr _ _) ?_
  refine x_goto B (tgt := 35) dX1_enters_23 (by decide) ?_
  refine x_aload_n B dX1_enters_35 rfl ?_
  refine x_getC0 B (k := 0) hT rfl rfl xc_0 (by decide) h0 (Or.inl q394) (fun _ h => h) dX1_enters_36 (fun k_36 => ?_)
  refine x_goP (x_rV B k_36 (show x_cl[1]? = some _ from rfl) (c_J2_size hT (by assumption)) (lw_V q643 q364 q365 q113 q366) hv_J2_size ⟨by decide, by decide⟩ ⟨by decide, by decide⟩ rfl rfl (by simp [x_cr, x_c1, x_c2]) dX1_enters_39) ?_
  rw [p12]
  refine x_bipush B dX1_enters_42 (by decide) ?_
  refine x_icmp_ne B (tgt := 50) dX1_enters_44 (by decide) ⟨by omega, by omega⟩ ⟨by omega, by omega⟩ (fun h_44 => ?_) (fun h_44 => ?_)
  · refine x_aload_n B dX1_enters_50 rfl ?_
    refine x_getC0 B (k := 0) hT rfl rfl xc_0 (by decide) h0 (Or.inl q394) (fun _ h => h) dX1_enters_51 (fun k_51 => ?_)
    refine x_aload_n B dX1_enters_54 rfl ?_
    refine x_goP (x_rV B k_51 (show x_cl[1]? = some _ from rfl) (c_J2_add hT k_51 ⟨by omega, by omega⟩ ka2 ⟨by omega, by omega⟩) (lw_V q644 q645 q646 q113 q647) hv_J2_add ⟨by decide, by decide⟩ ⟨by decide, by decide⟩ rfl rfl (by simp [x_cr, x_c1, x_c2]) dX1_enters_55) ?_
    refine x_pop B dX1_enters_58 (by first | rfl | exact x_cr _ _) ?_
    have w12 : (x_up (x_up (x_up X_19 1 0 (X_19 1 0 + 1)) 2 (X_19 1 2) (n0 + 1)) 1 2 (X_19 1 2 + 1)) 1 2 = X 1 2 + 1 := by rw [x_up_s, p12]
    have w2 : ∀ l, l ≠ X 1 2 → (x_up (x_up (x_up X_19 1 0 (X_19 1 0 + 1)) 2 (X_19 1 2) (n0 + 1)) 1 2 (X_19 1 2 + 1)) 2 l = X 2 l := fun l l1 => by rw [x_up_o _ (by omega), x_up_n _ (Or.inr (by rw [p12]; exact l1)), x_up_o _ (by omega), p1 2 (by omega) (by omega)]
    have w2n : (x_up (x_up (x_up X_19 1 0 (X_19 1 0 + 1)) 2 (X_19 1 2) (n0 + 1)) 1 2 (X_19 1 2 + 1)) 2 (X 1 2) = n0 + 1 := by rw [x_up_o _ (by omega), p12, x_up_s]
    have hIW : n_I κ_19 (x_up (x_up (x_up X_19 1 0 (X_19 1 0 + 1)) 2 (X_19 1 2) (n0 + 1)) 1 2 (X_19 1 2 + 1)) := by
      refine ⟨hT, h0, by rw [w12]; omega, fun l l1 l2 => ?_, fun l l1 l2 => ?_⟩
      · rw [w12] at l2
        by_cases e : l = X 1 2
        · rw [e, w2n]; exact ka2
        · rw [w2 l e]; exact hupA _ _ (hl l l1 (by omega))
      · rw [w12] at l2
        by_cases e : l = X 1 2
        · rw [e, w2n]; omega
        · rw [w2 l e]; exact hla l l1 (by omega)
    have hez : e_z X (x_up (x_up (x_up X_19 1 0 (X_19 1 0 + 1)) 2 (X_19 1 2) (n0 + 1)) 1 2 (X_19 1 2 + 1)) (r_lif (r_num (c_T X) (X 0 5)) (c_T X) (X 0 5) (c_lot X) (X 1 2)).2.2 := by
      refine ⟨fun b b1 b2 => ?_, fun k k1 => ?_, ?_, ?_, ⟨?_, w12⟩, ⟨by rw [hn0]; exact w2n, w2⟩, ?_, fun u u1 u2 => ?_⟩
      · rw [x_up_o _ (by omega), x_up_o _ (by omega), x_up_o _ (by omega)]; exact p1 b (by omega) (by omega)
      · rw [x_up_o _ (by omega), x_up_o _ (by omega), x_up_o _ (by omega), p0, x_up_n _ (Or.inr k1)]
      · rw [x_up_o _ (by omega), x_up_o _ (by omega), x_up_o _ (by omega), p0, x_up_s]
      · rw [x_up_o _ (by omega), x_up_o _ (by omega), x_up_o _ (by omega), pz, hn0]
      · rw [x_up_n _ (Or.inr (by omega)), x_up_o _ (by omega), x_up_s, p10]
      · rw [hn0, x_up_o _ (by omega), x_up_o _ (by omega), x_up_o _ (by omega)]; exact hc2
      · rw [hn0]; exact (hu2 u u1 u2).cg ((x_up_o _ (by omega)).trans ((x_up_o _ (by omega)).trans (x_up_o _ (by omega)))) ((x_up_o _ (by omega)).trans ((x_up_o _ (by omega)).trans (x_up_o _ (by omega)))) ((x_up_o _ (by omega)).trans ((x_up_o _ (by omega)).trans (x_up_o _ (by omega)))) (congrFun ((x_up_o _ (by omega)).trans ((x_up_o _ (by omega)).trans (x_up_o _ (by omega)))) u) (congrFun ((x_up_o _ (by omega)).trans ((x_up_o _ (by omega)).trans (x_up_o _ (by omega)))) u) (congrFun ((x_up_o _ (by omega)).trans ((x_up_o _ (by omega)).trans (x_up_o _ (by omega)))) u)
    refine x_aload_n B dX1_enters_59 rfl ?_
    refine x_go (x_rV B h0 (show x_cl[0]? = some _ from rfl) (c_X1_beginsAnew hIW) (lw_V q710 q712 qs11 q110 q713) hv_X1_beginsAnew ⟨by decide, by decide⟩ ⟨by decide, by decide⟩ rfl rfl (by simp [x_cr, x_c1, x_c2]) dX1_enters_60) (fun v_60 X_60 p_60 => ?_)
    obtain ⟨rfl, hbg⟩ := p_60
    refine x_iconst B dX1_enters_63 ?_
    refine x_isub B dX1_enters_64 ?_
    refine x_wide (cells' := 94) (slots' := 619) (by omega) (by omega) ?_
    refine x_iretK B ?_ dX1_enters_65
    refine ⟨fun q => by omega, fun _ q => by omega, fun _ _ => ⟨?_, (x_up (x_up (x_up X_19 1 0 (X_19 1 0 + 1)) 2 (X_19 1 2) (n0 + 1)) 1 2 (X_19 1 2 + 1)), ⟨hT, hupA, by rw [hn0]; exact ka2⟩, hez, hbg⟩⟩
    rw [w12]; exact congrArg (fun z => some (vi z)) (by omega)
  · refine x_bipush B dX1_enters_47 (by decide) ?_
    refine x_wide (cells' := 94) (slots' := 619) (by omega) (by omega) ?_
    refine x_sub hupA ?_
    refine x_iretK B ?_ dX1_enters_49
    refine ⟨fun q => by omega, fun _ _ => ⟨rfl, rfl, fun b b1 b2 => p1 b b1 (by omega), fun k k1 => ?_, ?_, by omega⟩, fun _ q => by omega⟩
    · rw [p0, x_up_n _ (Or.inr k1)]
    · rw [p0, x_up_s]
