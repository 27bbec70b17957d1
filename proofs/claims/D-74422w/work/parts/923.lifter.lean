theorem c_X9_lifter {l : Launch} {E : x_E} {κ : x_Ka} {X : x_X} {r a z0 : Int} (h : rd κ X r z0 0) (hI : n_I κ X) (h88 : 88 ≤ r) (hsz : X (-1) 0 = a) : x_MetX l yX9_lifter cX9_lifter 3 (some (.object "NextLoad$Lifter")) 6 93 616 E κ X [x_rf E r] "NextLoad$Fault" (fun v_ κ_ Y_ => (r_lif (r_num (c_T X) z0) (c_T X) z0 (c_lot X) (X 1 2)).1 = 1 ∧ v_ = some (x_rf E a) ∧ x_T κ_ ∧ (∀ b k, κ b = some k → κ_ b = some k) ∧ κ_ a = some (.inl (8, 1)) ∧ l_f X Y_ r a ∧ (Y_ a 0 = (r_lif (r_num (c_T X) z0) (c_T X) z0 (c_lot X) (X 1 2)).2.2 0 0 ∧ Y_ a 1 = (r_lif (r_num (c_T X) z0) (c_T X) z0 (c_lot X) (X 1 2)).2.2 0 1) ∧ ∀ u, 0 ≤ u → u ≤ 2 → f10 Y_ a (r_lif (r_num (c_T X) z0) (c_T X) z0 (c_lot X) (X 1 2)).2.2 u) (fun z_ κ_ Y_ => (r_lif (r_num (c_T X) z0) (c_T X) z0 (c_lot X) (X 1 2)).1 = 0 ∧ f_thr κ X (fun b => b = r) (r_lif (r_num (c_T X) z0) (c_T X) z0 (c_lot X) (X 1 2)).2.1 z_ κ_ Y_) := by
  refine x_MetX.of [(false, x_rf E r)] [some (x_rf E r), none, none] 2 (by decide) rfl rfl ⟨x_cr E (r), trivial⟩ rfl rfl ?_
  intro p e s m args below meth c hargs hin B hxt
  obtain ⟨⟨hT, h0, hk⟩, en, ea, hq, hn⟩ := id h
  have k31 : κ 31 = some (.inr (3, 240)) := hT.1 0 0 h0 4 (0, 31, .inr (3, 240)) rfl
  have hr31 : r ≠ 31 := by intro e; rw [e, k31] at hk; cases hk
  refine x_lows (fun hlow => ?_)
  have hr0 := hlow r _ hk
  rw [hsz] at hr0
  obtain ⟨-, -, hn6, hl, hla⟩ := id hI
  have hlt : ∀ l, 0 ≤ l → l < X 1 2 → X 2 l < a ∧ X 2 l ≠ r := fun l l1 l2 => ⟨by have := hlow _ _ (hl l l1 l2); omega, fun e => by have q := hl l l1 l2; rw [e, hk] at q; cases q⟩
  have hNr := r_num_r (c_T X) z0
  obtain ⟨A1, hA⟩ : ∃ A_, r_num (c_T X) z0 1 200 0 = A_ := ⟨_, rfl⟩
  have rA := hNr 1 200 0 hq
  rw [hA] at rA
  obtain ⟨B1, hB⟩ : ∃ A_, r_sn (r_num (c_T X) z0) (c_T X) z0 44 0 99 A1.2.1 = A_ := ⟨_, rfl⟩
  have rB := r_sn_r (T := (c_T X)) hNr 44 0 99 A1.2.1 ⟨by omega, by omega⟩
  rw [hB] at rB
  obtain ⟨K, hK⟩ : ∃ K, K = k_lif (x_ku κ a (.inl (8, 0))) a := ⟨_, rfl⟩
  have hT2 : x_T K := by rw [hK]; exact k_lif_T hT (fun b k q => by have := hlow b k q; omega) _
  have hup : ∀ b k, κ b = some k → K b = some k := fun b k q => by have := hlow b k q; rw [hK, k_lif_o _ (by omega), x_ku_ne (by omega)]; exact q
  have hl2 : ∀ l, 0 ≤ l → l < X 1 2 → K (X 2 l) = some (.inl (8, 1)) := fun l l1 l2 => hup _ _ (hl l l1 l2)
  have ka : K a = some (.inl (8, 1)) := by rw [hK]; exact k_lif_0 _ _
  have hk9 := hk
  have hk := hup _ _ hk9
  have h09 := h0
  have h0 := hup _ _ h09
  have hT9 := hT
  have hT := hT2
  have lp_99 : ∀ (n : Nat) (t w1 : Int) (F S : x_X), ((A1.1 = 1 ∧ B1.1 = 1 ∧ r_has (c_lot X) (X 1 2).toNat B1.2.2 ≠ 1) ∧ (0 ≤ t ∧ t ≤ 3) ∧ (0 ≤ w1 ∧ w1 ≤ z0) ∧ (l_j X S r a F t ∧ (t ≤ 2 → S (a + 2 + 3 * t) 2 = 0) ∧ S r 1 = w1) ∧ (r_lft (r_num (c_T X) z0) (c_T X) z0 3 0 B1.2.1 (r_F0 A1.2.2 B1.2.2)) = r_lft (r_num (c_T X) z0) (c_T X) z0 (3 - t).toNat t w1 F) → ((4 - t).toNat < n) → x_G p l e (x_rm 6 93 616) s m args below meth c 3 E (17 + 25 * t.toNat) (84 + 175 * t.toNat) (vq_MQ below (x_QK E (fun v_ κ_ Y_ => (r_lif (r_num (c_T X) z0) (c_T X) z0 (c_lot X) (X 1 2)).1 = 1 ∧ v_ = some (x_rf E a) ∧ x_T κ_ ∧ (∀ b k, κ b = some k → κ_ b = some k) ∧ κ_ a = some (.inl (8, 1)) ∧ l_f X Y_ r a ∧ (Y_ a 0 = (r_lif (r_num (c_T X) z0) (c_T X) z0 (c_lot X) (X 1 2)).2.2 0 0 ∧ Y_ a 1 = (r_lif (r_num (c_T X) z0) (c_T X) z0 (c_lot X) (X 1 2)).2.2 0 1) ∧ ∀ u, 0 ≤ u → u ≤ 2 → f10 Y_ a (r_lif (r_num (c_T X) z0) (c_T X) z0 (c_lot X) (X 1 2)).2.2 u)) (q_XC E "NextLoad$Fault" (fun z_ κ_ Y_ => (r_lif (r_num (c_T X) z0) (c_T X) z0 (c_lot X) (X 1 2)).1 = 0 ∧ f_thr κ X (fun b => b = r) (r_lif (r_num (c_T X) z0) (c_T X) z0 (c_lot X) (X 1 2)).2.1 z_ κ_ Y_)) args s 93 616 (fun q => E.1 ≤ q)) K 99 [some (x_rf E r), some (x_rf E a), some (vi t)] [] S := by
    intro n
    induction n with
    | zero => intro t w1 F S hinv hme; exfalso; omega
    | succ n ih =>
      intro t w1 F S hinv hme
      obtain ⟨⟨hA1, hB1, hhs⟩, ht, hw, ⟨hj, hzt, s1⟩, he⟩ := hinv
      refine x_iload_n B dX9_lifter_99 rfl ?_
      refine x_iconst B dX9_lifter_100 ?_
      refine x_icmp_ge B (tgt := 183) dX9_lifter_101 (by decide) ⟨by omega, by omega⟩ ⟨by omega, by omega⟩ (fun h_101 => ?_) (fun h_101 => ?_)
      · have ht3 : t = 3 := by omega
        have h0t : (3 - t).toNat = 0 := by omega
        have el : (r_lft (r_num (c_T X) z0) (c_T X) z0 3 0 B1.2.1 (r_F0 A1.2.2 B1.2.2)) = (1, w1, F) := by rw [he, h0t]; rfl
        have er := r_lif_4 hA (by omega) hB (by omega) hhs el
        rw [if_neg (show ¬ ((1, w1, F) : Int × Int × x_X).1 = 0 by dsimp only; omega)] at er
        have esz := hj.1.2.2
        refine x_aload_n B dX9_lifter_183 rfl ?_
        refine x_getI B (k := 1) 1 rfl rfl xc_10 (by decide) hk (Or.inl q479) (fun _ h => h) dX9_lifter_184 (fun r_184 => ?_)
        rw [s1] at r_184 ⊢
        refine x_aload_n B dX9_lifter_187 rfl ?_
        refine x_getI B (k := 0) 0 rfl rfl xc_10 (by decide) hk (Or.inl q478) (fun _ h => h) dX9_lifter_188 (fun r_188 => ?_)
        rw [(hj.1.2.1 0 (by omega)).trans en] at r_188 ⊢
        refine x_icmp_ge B (tgt := 206) dX9_lifter_191 (by decide) ⟨by omega, by omega⟩ ⟨by omega, by omega⟩ (fun h_191 => ?_) (fun h_191 => ?_)
        · refine x_aload_n B dX9_lifter_206 rfl ?_
          refine x_wide (cells' := 93) (slots' := 616) (by omega) (by omega) ?_
          refine x_aretX B (Or.inl ⟨_, rfl⟩) ?_ dX9_lifter_207
          rw [if_neg (show ¬ w1 < z0 by omega)] at er
          rw [er]
          exact ⟨rfl, rfl, hT, hup, ka, hj.1, hj.2.1, fun u u1 u2 => hj.2.2.1 u u1 (by omega)⟩
        · refine x_new B xc_11 q561 q562 q128 (xd_11 E) xe_11 (by show _ ≤ 93; omega) (by show _ ≤ 616; omega) dX9_lifter_194 (fun z_194 n_194 => ?_)
          have hk := x_ku_le (kd := .inl (11, 0)) n_194 _ _ hk
          refine x_dup B dX9_lifter_197 (by first | rfl | exact x_cr _ _) ?_
          refine x_aload_n B dX9_lifter_198 rfl ?_
          refine x_getI B (k := 1) 1 rfl rfl xc_10 (by decide) hk (Or.inl q479) (fun _ h => h) dX9_lifter_199 (fun r_199 => ?_)
          rw [x_nw_oth _ _ (by omega) (by omega), s1] at r_199 ⊢
          refine x_go (x_rI B (by omega) (c_X12_init (by omega) (x_ku_s _ _ _) ⟨by omega, by omega⟩) q599 q600 q128 q601 rfl hd_X12_init ⟨by decide, by decide⟩ ⟨by show _ ≤ 93; omega, by show _ ≤ 616; omega⟩ rfl rfl (by simp [x_cr, x_c1, x_c2]) dX9_lifter_202) (fun v_202 X_202 p_202 => ?_)
          obtain ⟨rfl, hp202⟩ := p_202
          refine x_wide (cells' := 93) (slots' := 616) (by omega) (by omega) ?_
          refine x_throwX B (x_ku_s _ _ _) (show x_cl[11]? = some _ from rfl) rfl hxt ?_ dX9_lifter_205
          rw [if_pos (show w1 < z0 by omega)] at er
          rw [er]
          exact ⟨rfl, (f_thr_new (P := (fun b => b = r)) n_194 (by omega) (fun _ _ _ _ => rfl) (Int.le_refl _) hp202).up hup (fun b b1 b2 b3 => hj.1.1 b b1 (by omega) b3) (fun _ _ _ q => q) (by omega)⟩
      · have h3t : (3 - t).toNat = (3 - (t + 1)).toNat + 1 := by omega
        have zt := hzt (by omega)
        have hq1 := h.l ⟨hT, h0, hk⟩ hj.1 s1 hw
        have eT := hj.1.T hr31 (by omega)
        have esz := hj.1.2.2
        refine x_aload_n B dX9_lifter_104 rfl ?_
        refine x_bipush B dX9_lifter_105 (by decide) ?_
        refine x_goX (x_rVX B hk (show x_cl[10]? = some _ from rfl) (c_X9_passes hq1 ⟨by omega, by omega⟩) (lw_V q625 q627 qs5 q123 q628) hv_X9_passes ⟨by decide, by decide⟩ ⟨by show _ ≤ 93; omega, by show _ ≤ 616; omega⟩ rfl rfl (by simp [x_cr, x_c1, x_c2]) dX9_lifter_107) (fun z_107 κ_107 X_107 hz_107 p_107 => ?_) (fun v_107 κ_107 X_107 p_107 => ?_)
        · refine x_GX.wide (cells' := 93) (slots' := 616) (by omega) (by omega) ?_
          refine x_outX B hz_107 hxt ?_
          rw [eT] at p_107
          have el : (r_lft (r_num (c_T X) z0) (c_T X) z0 3 0 B1.2.1 (r_F0 A1.2.2 B1.2.2)) = (0, w1, fun _ _ => 0) := by rw [he, h3t]; exact (r_lft_1 p_107.1)
          have er := r_lif_4 hA (by omega) hB (by omega) hhs el
          rw [if_pos rfl] at er
          rw [er]
          exact ⟨rfl, p_107.2.up hup (fun b b1 b2 b3 => hj.1.1 b b1 (by omega) b3) (fun _ _ _ q => q) (by omega)⟩
        rw [eT] at p_107
        obtain ⟨rfl, rfl, hC107, rfl⟩ := p_107
        have hj1 : l_j X (x_up S r 1 (w1 + 1)) r a F t := hj.at (by omega) (by omega)
        have s11 : (x_up S r 1 (w1 + 1)) r 1 = w1 + 1 := x_up_s _ _ _ _
        have z11 : (x_up S r 1 (w1 + 1)) (a + 2 + 3 * t) 2 = 0 := (congrFun (x_up_o _ (by omega)) 2).trans zt
        generalize (x_up S r 1 (w1 + 1)) = S1 at hj1 s11 z11 ⊢
        have hq2 := h.l ⟨hT, h0, hk⟩ hj1.1 s11 ⟨by omega, by omega⟩
        have eT1 := hj1.1.T hr31 (by omega)
        have esz1 := hj1.1.2.2
        obtain ⟨TB, hTB⟩ : ∃ A_, r_tab (r_num (c_T X) z0) (c_T X) z0 6 0 (w1 + 1) (fun _ => 0) (fun _ => 0) = A_ := ⟨_, rfl⟩
        refine x_aload_n B dX9_lifter_110 rfl ?_
        refine x_aload_n B dX9_lifter_111 rfl ?_
        refine x_getC1 B (k := 2) hT rfl rfl xc_8 (by decide) ka (Or.inr q524) (fun _ h => h) dX9_lifter_112 (fun k_112 => ?_)
        refine x_iload_n B dX9_lifter_115 rfl ?_
        refine x_aaldC B (t := 11) hT k_112 rfl rfl rfl rfl ⟨by omega, by omega⟩ dX9_lifter_116 (fun k_116 => ?_)
        rw [show a + 1 + 1 + 3 * t = a + 2 + 3 * t by omega] at k_116 ⊢
        refine x_goX (x_rVX B hk (show x_cl[10]? = some _ from rfl) (c_X9_points hq2 k_116 (by omega) (by omega) z11) (lw_V q635 q637 qs7 q123 q638) hv_X9_points ⟨by decide, by decide⟩ ⟨by show _ ≤ 93; omega, by show _ ≤ 616; omega⟩ rfl rfl (by simp [x_cr, x_c1, x_c2]) dX9_lifter_117) (fun z_117 κ_117 X_117 hz_117 p_117 => ?_) (fun v_117 κ_117 X_117 p_117 => ?_)
        · refine x_GX.wide (cells' := 93) (slots' := 616) (by omega) (by omega) ?_
          refine x_outX B hz_117 hxt ?_
          rw [eT1, hTB] at p_117
          have el : (r_lft (r_num (c_T X) z0) (c_T X) z0 3 0 B1.2.1 (r_F0 A1.2.2 B1.2.2)) = (0, TB.2.1, fun _ _ => 0) := by rw [he, h3t]; exact (r_lft_2 hC107 hTB p_117.1)
          have er := r_lif_4 hA (by omega) hB (by omega) hhs el
          rw [if_pos rfl] at er
          rw [er]
          exact ⟨rfl, p_117.2.up hup (fun b b1 b2 b3 => hj1.1.1 b b1 (by omega) b3) (fun b b1 b2 b3 q => by rcases q with q | q; exact b3 q; omega) (by omega)⟩
        rw [eT1, hTB] at p_117
        obtain ⟨rfl, rfl, hTB1, hpq, y1, y1r, ym, ymr, yrow⟩ := p_117
        have g_j0 : l_j X X_117 r a F t := hj1.pt hpq rfl (by omega) (by omega) (by omega) ⟨by omega, by omega⟩
        have g_t0 : tbc X_117 (a + 2 + 3 * t) TB := ⟨ym, ymr, yrow⟩
        have g_s0 : X_117 r 1 = TB.2.1 := y1
        obtain ⟨G0, hG0⟩ : ∃ A_, r_sn (r_num (c_T X) z0) (c_T X) z0 47 1 40 TB.2.1 = A_ := ⟨_, rfl⟩
        have rG0 := r_sn_r (T := (c_T X)) hNr 47 1 40 TB.2.1 ⟨by omega, by omega⟩
        rw [hG0] at rG0
        have g_q0 := h.l ⟨hT, h0, hk⟩ g_j0.1 g_s0 ⟨by omega, by omega⟩
        have g_T0 := g_j0.1.T hr31 (by omega)
        have g_z0 := g_j0.1.2.2
        refine x_aload_n B dX9_lifter_120 rfl ?_
        refine x_bipush B dX9_lifter_121 (by decide) ?_
        refine x_goX (x_rVX B hk (show x_cl[10]? = some _ from rfl) (c_X9_passes g_q0 ⟨by omega, by omega⟩) (lw_V q625 q627 qs5 q123 q628) hv_X9_passes ⟨by decide, by decide⟩ ⟨by show _ ≤ 93; omega, by show _ ≤ 616; omega⟩ rfl rfl (by simp [x_cr, x_c1, x_c2]) dX9_lifter_123) (fun z_123 κ_123 X_123 hz_123 p_123 => ?_) (fun v_123 κ_123 X_123 p_123 => ?_)
        · refine x_GX.wide (cells' := 93) (slots' := 616) (by omega) (by omega) ?_
          refine x_outX B hz_123 hxt ?_
          rw [g_T0] at p_123
          have e0 : G0 = (0, TB.2.1, 0) := by rw [← hG0]; unfold r_sn; rw [if_neg p_123.1]
          have hz : G0.1 = 0 := by rw [e0]
          have hpl : r_pln (r_num (c_T X) z0) (c_T X) z0 TB.2.1 = (0, G0.2.1, fun _ => 0) := (r_pln_0 hG0 hz)
          have el : (r_lft (r_num (c_T X) z0) (c_T X) z0 3 0 B1.2.1 (r_F0 A1.2.2 B1.2.2)) = (0, G0.2.1, fun _ _ => 0) := by rw [he, h3t]; exact (r_lft_3 hC107 hTB (by omega) hpl rfl)
          have er := r_lif_4 hA (by omega) hB (by omega) hhs el
          rw [if_pos rfl] at er
          rw [er]
          refine ⟨rfl, ?_⟩
          show f_thr κ X (fun b => b = r) G0.2.1 _ _ _
          rw [e0]
          exact p_123.2.up hup (fun b b1 b2 b3 => g_j0.1.1 b b1 (by omega) b3) (fun _ _ _ q => q) (by omega)
        rw [g_T0] at p_123
        obtain ⟨rfl, rfl, hC123, rfl⟩ := p_123
        have hN0 : r_num (c_T X) z0 1 40 (TB.2.1 + 1) = G0 := by rw [← hG0]; unfold r_sn; rw [if_pos hC123]
        have g_u0 := g_q0.up (p := TB.2.1 + 1) ⟨by omega, by omega⟩
        have g_y0 : (x_up X_117 r 1 (TB.2.1 + 1)) (-1) 0 = a + 14 := (congrFun (x_up_o _ (by omega)) 0).trans g_z0
        refine x_aload_n B dX9_lifter_126 rfl ?_
        refine x_getC1 B (k := 3) hT rfl rfl xc_8 (by decide) ka (Or.inr q528) (fun _ h => h) dX9_lifter_127 (fun k_127 => ?_)
        refine x_iload_n B dX9_lifter_130 rfl ?_
        refine x_aload_n B dX9_lifter_131 rfl ?_
        refine x_iconst B dX9_lifter_132 ?_
        refine x_bipush B dX9_lifter_133 (by decide) ?_
        refine x_goX (x_rVX B hk (show x_cl[10]? = some _ from rfl) (c_X9_number g_u0 ⟨by omega, by omega⟩ ⟨by omega, by omega⟩) (lw_V q550 q552 qs2 q123 q553) hv_X9_number ⟨by decide, by decide⟩ ⟨by show _ ≤ 93; omega, by show _ ≤ 616; omega⟩ rfl rfl (by simp [x_cr, x_c1, x_c2]) dX9_lifter_135) (fun z_135 κ_135 X_135 hz_135 p_135 => ?_) (fun v_135 κ_135 X_135 p_135 => ?_)
        · refine x_GX.wide (cells' := 93) (slots' := 616) (by omega) (by omega) ?_
          refine x_outX B hz_135 hxt ?_
          rw [c_T_up hr31, g_T0, hN0] at p_135
          have hz : G0.1 = 0 := p_135.1
          have hpl : r_pln (r_num (c_T X) z0) (c_T X) z0 TB.2.1 = (0, G0.2.1, fun _ => 0) := (r_pln_0 hG0 hz)
          have el : (r_lft (r_num (c_T X) z0) (c_T X) z0 3 0 B1.2.1 (r_F0 A1.2.2 B1.2.2)) = (0, G0.2.1, fun _ _ => 0) := by rw [he, h3t]; exact (r_lft_3 hC107 hTB (by omega) hpl rfl)
          have er := r_lif_4 hA (by omega) hB (by omega) hhs el
          rw [if_pos rfl] at er
          rw [er]
          exact ⟨rfl, p_135.2.up hup (fun b b1 b2 b3 => (x_up_o _ b3).trans (g_j0.1.1 b b1 (by omega) b3)) (fun _ _ _ q => q) (by omega)⟩
        rw [c_T_up hr31, g_T0, hN0] at p_135
        obtain ⟨h1G0, rfl, rfl, rfl⟩ := p_135
        rw [x_up_t]
        have vG0 := rG0.2.2 h1G0
        refine x_iast B k_127 ⟨by omega, by omega⟩ ⟨by omega, by omega⟩ dX9_lifter_138 ?_
        have g_j1 : l_j X (x_up (x_up X_117 r 1 G0.2.1) (a + 11) t G0.2.2) r a F t := (g_j0.at (by omega) (by omega)).pl (by omega) (by omega) ⟨by omega, by omega⟩ ⟨by omega, by omega⟩
        have g_t1 : tbc (x_up (x_up X_117 r 1 G0.2.1) (a + 11) t G0.2.2) (a + 2 + 3 * t) TB := (g_t0.up (by omega)).up (by omega)
        have g_s1 : (x_up (x_up X_117 r 1 G0.2.1) (a + 11) t G0.2.2) r 1 = G0.2.1 := by rw [x_up_o _ (by omega), x_up_s]
        have g_v0 : (x_up (x_up X_117 r 1 G0.2.1) (a + 11) t G0.2.2) (a + 11) t = G0.2.2 := x_up_s _ _ _ _
        generalize (x_up (x_up X_117 r 1 G0.2.1) (a + 11) t G0.2.2) = S3 at g_j1 g_t1 g_s1 g_v0 ⊢
        obtain ⟨G1, hG1⟩ : ∃ A_, r_sn (r_num (c_T X) z0) (c_T X) z0 43 1 9 G0.2.1 = A_ := ⟨_, rfl⟩
        have rG1 := r_sn_r (T := (c_T X)) hNr 43 1 9 G0.2.1 ⟨by omega, by omega⟩
        rw [hG1] at rG1
        have g_q1 := h.l ⟨hT, h0, hk⟩ g_j1.1 g_s1 ⟨by omega, by omega⟩
        have g_T1 := g_j1.1.T hr31 (by omega)
        have g_z1 := g_j1.1.2.2
        refine x_aload_n B dX9_lifter_139 rfl ?_
        refine x_bipush B dX9_lifter_140 (by decide) ?_
        refine x_goX (x_rVX B hk (show x_cl[10]? = some _ from rfl) (c_X9_passes g_q1 ⟨by omega, by omega⟩) (lw_V q625 q627 qs5 q123 q628) hv_X9_passes ⟨by decide, by decide⟩ ⟨by show _ ≤ 93; omega, by show _ ≤ 616; omega⟩ rfl rfl (by simp [x_cr, x_c1, x_c2]) dX9_lifter_142) (fun z_142 κ_142 X_142 hz_142 p_142 => ?_) (fun v_142 κ_142 X_142 p_142 => ?_)
        · refine x_GX.wide (cells' := 93) (slots' := 616) (by omega) (by omega) ?_
          refine x_outX B hz_142 hxt ?_
          rw [g_T1] at p_142
          have e0 : G1 = (0, G0.2.1, 0) := by rw [← hG1]; unfold r_sn; rw [if_neg p_142.1]
          have hz : G1.1 = 0 := by rw [e0]
          have hpl : r_pln (r_num (c_T X) z0) (c_T X) z0 TB.2.1 = (0, G1.2.1, fun _ => 0) := (r_pln_1 hG0 (by omega) hG1 hz)
          have el : (r_lft (r_num (c_T X) z0) (c_T X) z0 3 0 B1.2.1 (r_F0 A1.2.2 B1.2.2)) = (0, G1.2.1, fun _ _ => 0) := by rw [he, h3t]; exact (r_lft_3 hC107 hTB (by omega) hpl rfl)
          have er := r_lif_4 hA (by omega) hB (by omega) hhs el
          rw [if_pos rfl] at er
          rw [er]
          refine ⟨rfl, ?_⟩
          show f_thr κ X (fun b => b = r) G1.2.1 _ _ _
          rw [e0]
          exact p_142.2.up hup (fun b b1 b2 b3 => g_j1.1.1 b b1 (by omega) b3) (fun _ _ _ q => q) (by omega)
        rw [g_T1] at p_142
        obtain ⟨rfl, rfl, hC142, rfl⟩ := p_142
        have hN1 : r_num (c_T X) z0 1 9 (G0.2.1 + 1) = G1 := by rw [← hG1]; unfold r_sn; rw [if_pos hC142]
        have g_u1 := g_q1.up (p := G0.2.1 + 1) ⟨by omega, by omega⟩
        have g_y1 : (x_up S3 r 1 (G0.2.1 + 1)) (-1) 0 = a + 14 := (congrFun (x_up_o _ (by omega)) 0).trans g_z1
        refine x_aload_n B dX9_lifter_145 rfl ?_
        refine x_getC1 B (k := 4) hT rfl rfl xc_8 (by decide) ka (Or.inr q532) (fun _ h => h) dX9_lifter_146 (fun k_146 => ?_)
        refine x_iload_n B dX9_lifter_149 rfl ?_
        refine x_aload_n B dX9_lifter_150 rfl ?_
        refine x_iconst B dX9_lifter_151 ?_
        refine x_bipush B dX9_lifter_152 (by decide) ?_
        refine x_goX (x_rVX B hk (show x_cl[10]? = some _ from rfl) (c_X9_number g_u1 ⟨by omega, by omega⟩ ⟨by omega, by omega⟩) (lw_V q550 q552 qs2 q123 q553) hv_X9_number ⟨by decide, by decide⟩ ⟨by show _ ≤ 93; omega, by show _ ≤ 616; omega⟩ rfl rfl (by simp [x_cr, x_c1, x_c2]) dX9_lifter_154) (fun z_154 κ_154 X_154 hz_154 p_154 => ?_) (fun v_154 κ_154 X_154 p_154 => ?_)
        · refine x_GX.wide (cells' := 93) (slots' := 616) (by omega) (by omega) ?_
          refine x_outX B hz_154 hxt ?_
          rw [c_T_up hr31, g_T1, hN1] at p_154
          have hz : G1.1 = 0 := p_154.1
          have hpl : r_pln (r_num (c_T X) z0) (c_T X) z0 TB.2.1 = (0, G1.2.1, fun _ => 0) := (r_pln_1 hG0 (by omega) hG1 hz)
          have el : (r_lft (r_num (c_T X) z0) (c_T X) z0 3 0 B1.2.1 (r_F0 A1.2.2 B1.2.2)) = (0, G1.2.1, fun _ _ => 0) := by rw [he, h3t]; exact (r_lft_3 hC107 hTB (by omega) hpl rfl)
          have er := r_lif_4 hA (by omega) hB (by omega) hhs el
          rw [if_pos rfl] at er
          rw [er]
          exact ⟨rfl, p_154.2.up hup (fun b b1 b2 b3 => (x_up_o _ b3).trans (g_j1.1.1 b b1 (by omega) b3)) (fun _ _ _ q => q) (by omega)⟩
        rw [c_T_up hr31, g_T1, hN1] at p_154
        obtain ⟨h1G1, rfl, rfl, rfl⟩ := p_154
        rw [x_up_t]
        have vG1 := rG1.2.2 h1G1
        refine x_iast B k_146 ⟨by omega, by omega⟩ ⟨by omega, by omega⟩ dX9_lifter_157 ?_
        have g_j2 : l_j X (x_up (x_up S3 r 1 G1.2.1) (a + 12) t G1.2.2) r a F t := (g_j1.at (by omega) (by omega)).pl (by omega) (by omega) ⟨by omega, by omega⟩ ⟨by omega, by omega⟩
        have g_t2 : tbc (x_up (x_up S3 r 1 G1.2.1) (a + 12) t G1.2.2) (a + 2 + 3 * t) TB := (g_t1.up (by omega)).up (by omega)
        have g_s2 : (x_up (x_up S3 r 1 G1.2.1) (a + 12) t G1.2.2) r 1 = G1.2.1 := by rw [x_up_o _ (by omega), x_up_s]
        replace g_v0 : (x_up (x_up S3 r 1 G1.2.1) (a + 12) t G1.2.2) (a + 11) t = G0.2.2 := by rw [x_up_o _ (by omega), x_up_o _ (by omega)]; exact g_v0
        have g_v1 : (x_up (x_up S3 r 1 G1.2.1) (a + 12) t G1.2.2) (a + 12) t = G1.2.2 := x_up_s _ _ _ _
        generalize (x_up (x_up S3 r 1 G1.2.1) (a + 12) t G1.2.2) = S4 at g_j2 g_t2 g_s2 g_v0 g_v1 ⊢
        obtain ⟨G2, hG2⟩ : ∃ A_, r_sn (r_num (c_T X) z0) (c_T X) z0 43 0 9 G1.2.1 = A_ := ⟨_, rfl⟩
        have rG2 := r_sn_r (T := (c_T X)) hNr 43 0 9 G1.2.1 ⟨by omega, by omega⟩
        rw [hG2] at rG2
        have g_q2 := h.l ⟨hT, h0, hk⟩ g_j2.1 g_s2 ⟨by omega, by omega⟩
        have g_T2 := g_j2.1.T hr31 (by omega)
        have g_z2 := g_j2.1.2.2
        refine x_aload_n B dX9_lifter_158 rfl ?_
        refine x_bipush B dX9_lifter_159 (by decide) ?_
        refine x_goX (x_rVX B hk (show x_cl[10]? = some _ from rfl) (c_X9_passes g_q2 ⟨by omega, by omega⟩) (lw_V q625 q627 qs5 q123 q628) hv_X9_passes ⟨by decide, by decide⟩ ⟨by show _ ≤ 93; omega, by show _ ≤ 616; omega⟩ rfl rfl (by simp [x_cr, x_c1, x_c2]) dX9_lifter_161) (fun z_161 κ_161 X_161 hz_161 p_161 => ?_) (fun v_161 κ_161 X_161 p_161 => ?_)
        · refine x_GX.wide (cells' := 93) (slots' := 616) (by omega) (by omega) ?_
          refine x_outX B hz_161 hxt ?_
          rw [g_T2] at p_161
          have e0 : G2 = (0, G1.2.1, 0) := by rw [← hG2]; unfold r_sn; rw [if_neg p_161.1]
          have hz : G2.1 = 0 := by rw [e0]
          have hpl : r_pln (r_num (c_T X) z0) (c_T X) z0 TB.2.1 = (0, G2.2.1, fun _ => 0) := (r_pln_2 hG0 (by omega) hG1 (by omega) hG2 hz)
          have el : (r_lft (r_num (c_T X) z0) (c_T X) z0 3 0 B1.2.1 (r_F0 A1.2.2 B1.2.2)) = (0, G2.2.1, fun _ _ => 0) := by rw [he, h3t]; exact (r_lft_3 hC107 hTB (by omega) hpl rfl)
          have er := r_lif_4 hA (by omega) hB (by omega) hhs el
          rw [if_pos rfl] at er
          rw [er]
          refine ⟨rfl, ?_⟩
          show f_thr κ X (fun b => b = r) G2.2.1 _ _ _
          rw [e0]
          exact p_161.2.up hup (fun b b1 b2 b3 => g_j2.1.1 b b1 (by omega) b3) (fun _ _ _ q => q) (by omega)
        rw [g_T2] at p_161
        obtain ⟨rfl, rfl, hC161, rfl⟩ := p_161
        have hN2 : r_num (c_T X) z0 0 9 (G1.2.1 + 1) = G2 := by rw [← hG2]; unfold r_sn; rw [if_pos hC161]
        have g_u2 := g_q2.up (p := G1.2.1 + 1) ⟨by omega, by omega⟩
        have g_y2 : (x_up S4 r 1 (G1.2.1 + 1)) (-1) 0 = a + 14 := (congrFun (x_up_o _ (by omega)) 0).trans g_z2
        refine x_aload_n B dX9_lifter_164 rfl ?_
        refine x_getC1 B (k := 5) hT rfl rfl xc_8 (by decide) ka (Or.inr q535) (fun _ h => h) dX9_lifter_165 (fun k_165 => ?_)
        refine x_iload_n B dX9_lifter_168 rfl ?_
        refine x_aload_n B dX9_lifter_169 rfl ?_
        refine x_iconst B dX9_lifter_170 ?_
        refine x_bipush B dX9_lifter_171 (by decide) ?_
        refine x_goX (x_rVX B hk (show x_cl[10]? = some _ from rfl) (c_X9_number g_u2 ⟨by omega, by omega⟩ ⟨by omega, by omega⟩) (lw_V q550 q552 qs2 q123 q553) hv_X9_number ⟨by decide, by decide⟩ ⟨by show _ ≤ 93; omega, by show _ ≤ 616; omega⟩ rfl rfl (by simp [x_cr, x_c1, x_c2]) dX9_lifter_173) (fun z_173 κ_173 X_173 hz_173 p_173 => ?_) (fun v_173 κ_173 X_173 p_173 => ?_)
        · refine x_GX.wide (cells' := 93) (slots' := 616) (by omega) (by omega) ?_
          refine x_outX B hz_173 hxt ?_
          rw [c_T_up hr31, g_T2, hN2] at p_173
          have hz : G2.1 = 0 := p_173.1
          have hpl : r_pln (r_num (c_T X) z0) (c_T X) z0 TB.2.1 = (0, G2.2.1, fun _ => 0) := (r_pln_2 hG0 (by omega) hG1 (by omega) hG2 hz)
          have el : (r_lft (r_num (c_T X) z0) (c_T X) z0 3 0 B1.2.1 (r_F0 A1.2.2 B1.2.2)) = (0, G2.2.1, fun _ _ => 0) := by rw [he, h3t]; exact (r_lft_3 hC107 hTB (by omega) hpl rfl)
          have er := r_lif_4 hA (by omega) hB (by omega) hhs el
          rw [if_pos rfl] at er
          rw [er]
          exact ⟨rfl, p_173.2.up hup (fun b b1 b2 b3 => (x_up_o _ b3).trans (g_j2.1.1 b b1 (by omega) b3)) (fun _ _ _ q => q) (by omega)⟩
        rw [c_T_up hr31, g_T2, hN2] at p_173
        obtain ⟨h1G2, rfl, rfl, rfl⟩ := p_173
        rw [x_up_t]
        have vG2 := rG2.2.2 h1G2
        refine x_iast B k_165 ⟨by omega, by omega⟩ ⟨by omega, by omega⟩ dX9_lifter_176 ?_
        have g_j3 : l_j X (x_up (x_up S4 r 1 G2.2.1) (a + 13) t G2.2.2) r a F t := (g_j2.at (by omega) (by omega)).pl (by omega) (by omega) ⟨by omega, by omega⟩ ⟨by omega, by omega⟩
        have g_t3 : tbc (x_up (x_up S4 r 1 G2.2.1) (a + 13) t G2.2.2) (a + 2 + 3 * t) TB := (g_t2.up (by omega)).up (by omega)
        have g_s3 : (x_up (x_up S4 r 1 G2.2.1) (a + 13) t G2.2.2) r 1 = G2.2.1 := by rw [x_up_o _ (by omega), x_up_s]
        replace g_v0 : (x_up (x_up S4 r 1 G2.2.1) (a + 13) t G2.2.2) (a + 11) t = G0.2.2 := by rw [x_up_o _ (by omega), x_up_o _ (by omega)]; exact g_v0
        replace g_v1 : (x_up (x_up S4 r 1 G2.2.1) (a + 13) t G2.2.2) (a + 12) t = G1.2.2 := by rw [x_up_o _ (by omega), x_up_o _ (by omega)]; exact g_v1
        have g_v2 : (x_up (x_up S4 r 1 G2.2.1) (a + 13) t G2.2.2) (a + 13) t = G2.2.2 := x_up_s _ _ _ _
        generalize (x_up (x_up S4 r 1 G2.2.1) (a + 13) t G2.2.2) = S5 at g_j3 g_t3 g_s3 g_v0 g_v1 g_v2 ⊢
        refine x_iinc_2 B dX9_lifter_177 (by first | rfl | exact x_cr _ _) ?_
        refine x_goto B (tgt := 99) dX9_lifter_180 (by decide) ?_
        refine x_cs (cells' := 17 + 25 * (t + 1).toNat) (slots' := 84 + 175 * (t + 1).toNat) (by omega) (by omega) ?_
        have hpl : r_pln (r_num (c_T X) z0) (c_T X) z0 TB.2.1 = (1, G2.2.1, (fun w => if w = 0 then G0.2.2 else if w = 1 then G1.2.2 else G2.2.2)) := r_pln_3 hG0 (by omega) hG1 (by omega) hG2 (by omega)
        refine ih (t + 1) G2.2.1 (r_put F t TB.2.2.1 TB.2.2.2.1 TB.2.2.2.2 (fun w => if w = 0 then G0.2.2 else if w = 1 then G1.2.2 else G2.2.2)) S5 ⟨⟨hA1, hB1, hhs⟩, ⟨by omega, by omega⟩, ⟨by omega, by omega⟩, ⟨g_j3.nx ⟨by omega, by omega⟩ g_t3 (by rw [if_pos rfl]; exact g_v0) (by rw [if_neg (by omega), if_pos rfl]; exact g_v1) (by rw [if_neg (by omega), if_neg (by omega)]; exact g_v2), fun q => g_j3.2.2.2 (t + 1) (by omega) (by omega) q, g_s3⟩, ?_⟩ (by omega)
        rw [he, h3t]; exact r_lft_4 hC107 hTB (by omega) hpl (by dsimp only; omega)
  have lp_39 : ∀ (n : Nat) (k : Int) (S : x_X), ((A1.1 = 1 ∧ B1.1 = 1) ∧ (0 ≤ k ∧ k ≤ X 1 2) ∧ (l_f X S r a ∧ S r 1 = B1.2.1 ∧ S a 0 = A1.2.2 ∧ S a 1 = B1.2.2 ∧ ∀ u, 0 ≤ u → u ≤ 2 → S (a + 2 + 3 * u) 2 = 0) ∧ ∀ j, 0 ≤ j → j < k → c_lot X j ≠ B1.2.2) → ((7 - k).toNat < n) → x_G p l e (x_rm 6 93 616) s m args below meth c 3 E 17 84 (vq_MQ below (x_QK E (fun v_ κ_ Y_ => (r_lif (r_num (c_T X) z0) (c_T X) z0 (c_lot X) (X 1 2)).1 = 1 ∧ v_ = some (x_rf E a) ∧ x_T κ_ ∧ (∀ b k, κ b = some k → κ_ b = some k) ∧ κ_ a = some (.inl (8, 1)) ∧ l_f X Y_ r a ∧ (Y_ a 0 = (r_lif (r_num (c_T X) z0) (c_T X) z0 (c_lot X) (X 1 2)).2.2 0 0 ∧ Y_ a 1 = (r_lif (r_num (c_T X) z0) (c_T X) z0 (c_lot X) (X 1 2)).2.2 0 1) ∧ ∀ u, 0 ≤ u → u ≤ 2 → f10 Y_ a (r_lif (r_num (c_T X) z0) (c_T X) z0 (c_lot X) (X 1 2)).2.2 u)) (q_XC E "NextLoad$Fault" (fun z_ κ_ Y_ => (r_lif (r_num (c_T X) z0) (c_T X) z0 (c_lot X) (X 1 2)).1 = 0 ∧ f_thr κ X (fun b => b = r) (r_lif (r_num (c_T X) z0) (c_T X) z0 (c_lot X) (X 1 2)).2.1 z_ κ_ Y_)) args s 93 616 (fun q => E.1 ≤ q)) K 39 [some (x_rf E r), some (x_rf E a), some (vi k)] [] S := by
    intro n
    induction n with
    | zero => intro k S hinv hme; exfalso; omega
    | succ n ih =>
      intro k S hinv hme
      obtain ⟨⟨hA1, hB1⟩, hk1, ⟨hf, s1, sa0, sa1, hz⟩, hjj⟩ := hinv
      have esz := hf.2.2
      have s12 : S 1 2 = X 1 2 := congrFun (hf.1 1 (by omega) (by omega) (by omega)) 2
      have s2 : S 2 = X 2 := hf.1 2 (by omega) (by omega) (by omega)
      refine x_iload_n B dX9_lifter_39 rfl ?_
      refine x_aload_n B dX9_lifter_40 rfl ?_
      refine x_getC0 B (k := 2) hT rfl rfl xc_10 (by decide) hk (Or.inl q480) (fun _ h => h) dX9_lifter_41 (fun k_41 => ?_)
      refine x_getC0 B (k := 0) hT rfl rfl xc_0 (by decide) k_41 (Or.inr q397) (fun _ h => h) dX9_lifter_44 (fun k_44 => ?_)
      refine x_goP (x_rV B k_44 (show x_cl[1]? = some _ from rfl) (c_J2_size hT (by assumption)) (lw_V q633 q364 q365 q113 q366) hv_J2_size ⟨by decide, by decide⟩ ⟨by decide, by decide⟩ rfl rfl (by simp [x_cr, x_c1, x_c2]) dX9_lifter_47) ?_
      rw [s12]
      refine x_icmp_ge B (tgt := 97) dX9_lifter_50 (by decide) ⟨by omega, by omega⟩ ⟨by omega, by omega⟩ (fun h_50 => ?_) (fun h_50 => ?_)
      · refine x_iconst B dX9_lifter_97 ?_
        refine x_ist_2 B dX9_lifter_98 (by first | rfl | exact x_cr _ _) ?_
        have hhs : r_has (c_lot X) (X 1 2).toNat B1.2.2 ≠ 1 := by rw [r_has_0 _ (fun j j1 j2 => hjj j j1 (by omega))]; omega
        refine x_cs (cells' := 17 + 25 * (0 : Int).toNat) (slots' := 84 + 175 * (0 : Int).toNat) (by omega) (by omega) ?_
        exact lp_99 _ 0 B1.2.1 (r_F0 A1.2.2 B1.2.2) S ⟨⟨hA1, hB1, hhs⟩, ⟨by omega, by omega⟩, ⟨by omega, by omega⟩, ⟨⟨hf, ⟨sa0, sa1⟩, fun u u1 u2 => by omega, fun u u0 u1 u2 => hz u u0 u2⟩, fun _ => hz 0 (by omega) (by omega), s1⟩, rfl⟩ (Nat.lt_succ_self _)
      · have hkl := hlt k hk1.1 (by omega)
        have hk88 := hla k hk1.1 (by omega)
        refine x_aload_n B dX9_lifter_53 rfl ?_
        refine x_getC0 B (k := 2) hT rfl rfl xc_10 (by decide) hk (Or.inl q480) (fun _ h => h) dX9_lifter_54 (fun k_54 => ?_)
        refine x_getC0 B (k := 0) hT rfl rfl xc_0 (by decide) k_54 (Or.inr q397) (fun _ h => h) dX9_lifter_57 (fun k_57 => ?_)
        refine x_iload_n B dX9_lifter_60 rfl ?_
        refine x_goP (x_rV B k_57 (show x_cl[1]? = some _ from rfl) (c_J2_get hT (by assumption) (by omega) ⟨by omega, by omega⟩) (lw_V q634 q372 q373 q113 q374) hv_J2_get ⟨by decide, by decide⟩ ⟨by decide, by decide⟩ rfl rfl (by simp [x_cr, x_c1, x_c2]) dX9_lifter_61) ?_
        rw [s2]
        refine x_cast B (hl2 _ (by omega) (by omega)) (show x_cl[8]? = some _ from rfl) q492 dX9_lifter_64 ?_
        refine x_getI B (k := 1) 1 rfl rfl xc_8 (by decide) (hl2 _ (by omega) (by omega)) (Or.inr q520) (fun _ h => h) dX9_lifter_67 (fun r_67 => ?_)
        have elot : S (X 2 k) 1 = c_lot X k := by rw [hf.1 _ (by omega) hkl.1 hkl.2]; unfold c_lot; rw [if_pos ⟨hk1.1, by omega⟩]
        rw [elot] at r_67 ⊢
        refine x_aload_n B dX9_lifter_70 rfl ?_
        refine x_getI B (k := 1) 1 rfl rfl xc_8 (by decide) ka (Or.inr q520) (fun _ h => h) dX9_lifter_71 (fun r_71 => ?_)
        rw [sa1] at r_71 ⊢
        refine x_icmp_ne B (tgt := 91) dX9_lifter_74 (by decide) r_67 r_71 (fun h_74 => ?_) (fun h_74 => ?_)
        · refine x_iinc_2 B dX9_lifter_91 (by first | rfl | exact x_cr _ _) ?_
          refine x_goto B (tgt := 39) dX9_lifter_94 (by decide) ?_
          refine ih (k + 1) S ⟨⟨hA1, hB1⟩, ⟨by omega, by omega⟩, ⟨hf, s1, sa0, sa1, hz⟩, fun j j1 j2 => ?_⟩ (by omega)
          by_cases e : j = k
          · rw [e]; exact h_74
          · exact hjj j j1 (by omega)
        · refine x_new B xc_11 q561 q562 q128 (xd_11 E) xe_11 (by decide) (by decide) dX9_lifter_77 (fun z_77 n_77 => ?_)
          have hk := x_ku_le (kd := .inl (11, 0)) n_77 _ _ hk
          refine x_dup B dX9_lifter_80 (by first | rfl | exact x_cr _ _) ?_
          refine x_aload_n B dX9_lifter_81 rfl ?_
          refine x_getI B (k := 1) 1 rfl rfl xc_10 (by decide) hk (Or.inl q479) (fun _ h => h) dX9_lifter_82 (fun r_82 => ?_)
          rw [x_nw_oth _ _ (by omega) (by omega), s1] at r_82 ⊢
          refine x_iconst B dX9_lifter_85 ?_
          refine x_isub B dX9_lifter_86 ?_
          refine x_go (x_rI B (by omega) (c_X12_init (by omega) (x_ku_s _ _ _) ⟨by omega, by omega⟩) q599 q600 q128 q601 rfl hd_X12_init ⟨by decide, by decide⟩ ⟨by decide, by decide⟩ rfl rfl (by simp [x_cr, x_c1, x_c2]) dX9_lifter_87) (fun v_87 X_87 p_87 => ?_)
          obtain ⟨rfl, hp87⟩ := p_87
          refine x_wide (cells' := 93) (slots' := 616) (by omega) (by omega) ?_
          refine x_throwX B (x_ku_s _ _ _) (show x_cl[11]? = some _ from rfl) rfl hxt ?_ dX9_lifter_90
          rw [r_lif_3 hA (by omega) hB (by omega) (r_has_1 (j := k) hk1.1 (by omega) _ (by omega))]
          exact ⟨rfl, (f_thr_new (P := (fun b => b = r)) n_77 (by omega) (fun _ _ _ _ => rfl) (Int.le_refl _) hp87).up hup (fun b b1 b2 b3 => hf.1 b b1 (by omega) b3) (fun _ _ _ q => q) (by omega)⟩
  refine x_new B xc_8 q492 q493 q124 (xd_8 E) xe_8 (by decide) (by decide) dX9_lifter_0 (fun z_0 n_0 => ?_)
  rw [hsz] at n_0 ⊢
  refine x_dup B dX9_lifter_3 (by first | rfl | exact x_cr _ _) ?_
  refine x_go (x_rIN B (by omega) (c_X10_init (a := a) (by omega) (by rw [x_nw_sz, hsz]) (x_ku_s _ _ _)) q494 q495 q124 q496 rfl hd_X10_init ⟨by decide, by decide⟩ ⟨by decide, by decide⟩ rfl rfl (by simp [x_cr, x_c1, x_c2]) dX9_lifter_4) (fun v_4 X_4 p_4 => ?_)
  rw [← hK]
  obtain ⟨rfl, fr4, sz4, zr4⟩ := p_4
  have o4 : X_4 r = X r := (fr4 r (by omega) (by omega)).trans (x_nw_oth _ _ (by omega) (by omega))
  have hf4 : l_f X X_4 r a := ⟨fun b b1 b2 b3 => (fr4 b (by omega) (by omega)).trans (x_nw_oth _ _ (by omega) (by omega)), fun k k1 => congrFun o4 k, sz4⟩
  have s14 : X_4 r 1 = 0 := (congrFun o4 1).trans ea
  have hq14 := h.l ⟨hT, h0, hk⟩ hf4 s14 ⟨by omega, by omega⟩
  have eT4 := hf4.T hr31 (by omega)
  refine x_ast_1 B dX9_lifter_7 (by first | rfl | exact x_cr _ _) ?_
  refine x_aload_n B dX9_lifter_8 rfl ?_
  refine x_aload_n B dX9_lifter_9 rfl ?_
  refine x_iconst B dX9_lifter_10 ?_
  refine x_sipush B dX9_lifter_11 (by decide) ?_
  refine x_goX (x_rVX B hk (show x_cl[10]? = some _ from rfl) (c_X9_number hq14 ⟨by omega, by omega⟩ ⟨by omega, by omega⟩) (lw_V q550 q552 qs2 q123 q553) hv_X9_number ⟨by decide, by decide⟩ ⟨by decide, by decide⟩ rfl rfl (by simp [x_cr, x_c1, x_c2]) dX9_lifter_14) (fun z_14 κ_14 X_14 hz_14 p_14 => ?_) (fun v_14 κ_14 X_14 p_14 => ?_)
  · refine x_GX.wide (cells' := 93) (slots' := 616) (by omega) (by omega) ?_
    refine x_outX B hz_14 hxt ?_
    rw [eT4, hA] at p_14
    rw [r_lif_1 hA p_14.1]
    exact ⟨rfl, p_14.2.up hup (fun b b1 b2 b3 => hf4.1 b b1 (by omega) b3) (fun _ _ _ q => q) (by omega)⟩
  rw [eT4, hA] at p_14
  obtain ⟨hA1, rfl, rfl, rfl⟩ := p_14
  have vA := rA.2.2 hA1
  refine x_putI B (k := 0) 0 rfl rfl rfl ⟨by omega, by omega⟩ xc_8 (by decide) rfl nn_8_0 (fun _ => rfl) ka (Or.inr q516) (fun _ h => h) dX9_lifter_17 ?_
  have hf1 : l_f X (x_up (x_up X_4 r 1 A1.2.1) a 0 A1.2.2) r a := (hf4.at (by omega)).hi (by omega) (by omega) (by omega)
  have s11 : (x_up (x_up X_4 r 1 A1.2.1) a 0 A1.2.2) r 1 = A1.2.1 := by rw [x_up_o _ (by omega), x_up_s]
  have sa01 : (x_up (x_up X_4 r 1 A1.2.1) a 0 A1.2.2) a 0 = A1.2.2 := x_up_s _ _ _ _
  have hz1 : ∀ u, 0 ≤ u → u ≤ 2 → (x_up (x_up X_4 r 1 A1.2.1) a 0 A1.2.2) (a + 2 + 3 * u) 2 = 0 := fun u u1 u2 => by rw [x_up_o _ (by omega), x_up_o _ (by omega)]; exact zr4 u u1 u2
  generalize (x_up (x_up X_4 r 1 A1.2.1) a 0 A1.2.2) = S1 at hf1 s11 sa01 hz1 ⊢
  have hq23 := h.l ⟨hT, h0, hk⟩ hf1 s11 ⟨by omega, by omega⟩
  have eT1 := hf1.T hr31 (by omega)
  have esz1 := hf1.2.2
  refine x_aload_n B dX9_lifter_20 rfl ?_
  refine x_bipush B dX9_lifter_21 (by decide) ?_
  refine x_goX (x_rVX B hk (show x_cl[10]? = some _ from rfl) (c_X9_passes hq23 ⟨by omega, by omega⟩) (lw_V q625 q627 qs5 q123 q628) hv_X9_passes ⟨by decide, by decide⟩ ⟨by decide, by decide⟩ rfl rfl (by simp [x_cr, x_c1, x_c2]) dX9_lifter_23) (fun z_23 κ_23 X_23 hz_23 p_23 => ?_) (fun v_23 κ_23 X_23 p_23 => ?_)
  · refine x_GX.wide (cells' := 93) (slots' := 616) (by omega) (by omega) ?_
    refine x_outX B hz_23 hxt ?_
    rw [eT1] at p_23
    have e0 : B1 = (0, A1.2.1, 0) := by rw [← hB]; unfold r_sn; rw [if_neg p_23.1]
    rw [r_lif_2 hA (by omega) hB (by rw [e0])]
    refine ⟨rfl, ?_⟩
    show f_thr κ X (fun b => b = r) B1.2.1 _ _ _
    rw [e0]
    exact p_23.2.up hup (fun b b1 b2 b3 => hf1.1 b b1 (by omega) b3) (fun _ _ _ q => q) (by omega)
  rw [eT1] at p_23
  obtain ⟨rfl, rfl, hC23, rfl⟩ := p_23
  have hB2 : r_num (c_T X) z0 0 99 (A1.2.1 + 1) = B1 := by rw [← hB]; unfold r_sn; rw [if_pos hC23]
  have eszu : (x_up S1 r 1 (A1.2.1 + 1)) (-1) 0 = a + 14 := (congrFun (x_up_o _ (by omega)) 0).trans esz1
  refine x_aload_n B dX9_lifter_26 rfl ?_
  refine x_aload_n B dX9_lifter_27 rfl ?_
  refine x_iconst B dX9_lifter_28 ?_
  refine x_bipush B dX9_lifter_29 (by decide) ?_
  refine x_goX (x_rVX B hk (show x_cl[10]? = some _ from rfl) (c_X9_number (hq23.up (p := A1.2.1 + 1) ⟨by omega, by omega⟩) ⟨by omega, by omega⟩ ⟨by omega, by omega⟩) (lw_V q550 q552 qs2 q123 q553) hv_X9_number ⟨by decide, by decide⟩ ⟨by decide, by decide⟩ rfl rfl (by simp [x_cr, x_c1, x_c2]) dX9_lifter_31) (fun z_31 κ_31 X_31 hz_31 p_31 => ?_) (fun v_31 κ_31 X_31 p_31 => ?_)
  · refine x_GX.wide (cells' := 93) (slots' := 616) (by omega) (by omega) ?_
    refine x_outX B hz_31 hxt ?_
    rw [c_T_up hr31, eT1, hB2] at p_31
    rw [r_lif_2 hA (by omega) hB p_31.1]
    exact ⟨rfl, p_31.2.up hup (fun b b1 b2 b3 => (x_up_o _ b3).trans (hf1.1 b b1 (by omega) b3)) (fun _ _ _ q => q) (by omega)⟩
  rw [c_T_up hr31, eT1, hB2] at p_31
  obtain ⟨hB1, rfl, rfl, rfl⟩ := p_31
  rw [x_up_t]
  have vB := rB.2.2 hB1
  refine x_putI B (k := 1) 1 rfl rfl rfl ⟨by omega, by omega⟩ xc_8 (by decide) rfl nn_8_1 (fun _ => rfl) ka (Or.inr q520) (fun _ h => h) dX9_lifter_34 ?_
  have hf2 : l_f X (x_up (x_up S1 r 1 B1.2.1) a 1 B1.2.2) r a := (hf1.at (by omega)).hi (by omega) (by omega) (by omega)
  have s12 : (x_up (x_up S1 r 1 B1.2.1) a 1 B1.2.2) r 1 = B1.2.1 := by rw [x_up_o _ (by omega), x_up_s]
  have sa02 : (x_up (x_up S1 r 1 B1.2.1) a 1 B1.2.2) a 0 = A1.2.2 := by rw [x_up_n _ (Or.inr (by omega)), x_up_o _ (by omega)]; exact sa01
  have sa12 : (x_up (x_up S1 r 1 B1.2.1) a 1 B1.2.2) a 1 = B1.2.2 := x_up_s _ _ _ _
  have hz2 : ∀ u, 0 ≤ u → u ≤ 2 → (x_up (x_up S1 r 1 B1.2.1) a 1 B1.2.2) (a + 2 + 3 * u) 2 = 0 := fun u u1 u2 => by rw [x_up_o _ (by omega), x_up_o _ (by omega)]; exact hz1 u u1 u2
  generalize (x_up (x_up S1 r 1 B1.2.1) a 1 B1.2.2) = S2 at hf2 s12 sa02 sa12 hz2 ⊢
  refine x_iconst B dX9_lifter_37 ?_
  refine x_ist_2 B dX9_lifter_38 (by first | rfl | exact x_cr _ _) ?_
  refine x_cs (cells' := 17) (slots' := 84) (by omega) (by omega) ?_
  exact lp_39 _ 0 S2 ⟨⟨hA1, hB1⟩, ⟨by omega, by omega⟩, ⟨hf2, s12, sa02, sa12, hz2⟩, fun j j1 j2 => by omega⟩ (Nat.lt_succ_self _)
