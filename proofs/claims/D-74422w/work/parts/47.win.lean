def q_wf (X : x_X) (i v : Int) : Nat → Int
  | 0 => 1000000
  | k + 1 => if (k : Int) = i then q_wf X i v k else (q_wf X i v k * q_bt X i k v).tdiv 1000000
def q_wn (X : x_X) (i v : Int) : Int := if v = 0 then 0 else q_wf X i v (X 1 2).toNat
theorem q_wf_s (X : x_X) (i v : Int) {k : Int} (hk : 0 ≤ k) : q_wf X i v (k + 1).toNat = if k = i then q_wf X i v k.toNat else (q_wf X i v k.toNat * q_bt X i k v).tdiv 1000000 := by
  rw [show (k + 1).toNat = k.toNat + 1 by omega]
  conv => lhs; unfold q_wf
  rw [show ((k.toNat : Nat) : Int) = k by omega]
theorem w_old {Y Y4 : x_X} {n0 v m : Int} (h : ∀ k, 0 ≤ k → k < m → Y4 n0 k = Y n0 k ∧ Y4 (Y n0 k) = Y (Y n0 k) ∧ Y4 (Y (Y n0 k) 0) = Y (Y (Y n0 k) 0)) : ∀ n : Nat, (n : Int) ≤ m → a_win Y4 n0 v n = a_win Y n0 v n
  | 0, _ => rfl
  | n + 1, hn => by
    obtain ⟨h1, h2, h3⟩ := h n (by omega) (by omega)
    unfold a_win
    rw [w_old h n (by omega), h1]
    unfold a_beat
    rw [h2, h3]
theorem n_C.up {κ κ2 : x_Ka} {X : x_X} (h : n_C κ X) (hup : ∀ b k, κ b = some k → κ2 b = some k) (hT2 : x_T κ2) : n_C κ2 X := by
  obtain ⟨⟨hT, h0, hn2, hl, hla⟩, hP, hO, hW, hJ⟩ := h
  exact ⟨⟨hT2, hup _ _ h0, hn2, fun l l1 l2 => hup _ _ (hl l l1 l2), hla⟩, hP, hO, hW, hJ⟩
theorem v_eq.ch {X Y : x_X} (h : v_eq X Y) (hn : X 1 2 ≤ 6) : q_ch Y = q_ch X := by funext i w; exact h.q hn _ _
theorem b_ok.old {X Y Z : x_X} {i j a : Int} (h : b_ok Y Z i j a) (hv : v_eq X Y) (hn : X 1 2 ≤ 6) : b_ok X Z i j a := by
  unfold b_ok at *
  rw [hv.li, hv.ch hn] at h
  exact h
def w_I (κ κ2 : x_Ka) (X Y : x_X) (n0 i o m : Int) : Prop := ((0 ≤ o ∧ o ≤ X 1 2) ∧ (0 ≤ m ∧ m ≤ o) ∧ (i < o → m < o)) ∧ (∀ b k, κ b = some k → κ2 b = some k) ∧ κ2 n0 = some (.inr (7, 6)) ∧ x_T κ2 ∧ k_eq X Y ∧ r_eq X Y ∧ f_eq X Y ∧
  (∀ k, 0 ≤ k → k < m → (64 ≤ Y n0 k ∧ Y n0 k < Y (-1) 0 ∧ Y n0 k ≠ n0) ∧ a_bok κ2 Y (Y n0 k) ∧ ∃ j, (0 ≤ j ∧ j < o) ∧ Y (Y n0 k) 0 = 53 + 1 + 1 * j) ∧ (∀ v, 0 ≤ v → v ≤ 120 → v ≠ 0 → a_win Y n0 v m.toNat = q_wf X i v o.toNat)
theorem w_skip {κ κ2 : x_Ka} {X Y : x_X} {n0 i o m : Int} (h : w_I κ κ2 X Y n0 i o m) (ho : o < X 1 2) (e : o = i) : w_I κ κ2 X Y n0 i (o + 1) m := by
  obtain ⟨⟨h1, h2, h3⟩, h4, h5, h6, h7, h8, h9, h10, h11⟩ := h
  refine ⟨⟨⟨by omega, by omega⟩, ⟨by omega, by omega⟩, fun q => by omega⟩, h4, h5, h6, h7, h8, h9, fun k k1 k2 => ?_, fun v v1 v2 v3 => ?_⟩
  · obtain ⟨a1, a2, j, a3, a4⟩ := h10 k k1 k2
    exact ⟨a1, a2, j, ⟨by omega, by omega⟩, a4⟩
  · rw [q_wf_s X i v h1.1, if_pos e]
    exact h11 v v1 v2 v3
theorem w_take {κ κ2 : x_Ka} {X Y Y3 : x_X} {n0 i o m : Int} (h : w_I κ κ2 X Y n0 i o m) (hC : n_C κ X) (hlo : n_low X) (hn0 : n0 = X (-1) 0) (hz : n0 < Y (-1) 0) (ho : o < X 1 2) (e : o ≠ i) (hnone : κ2 (Y (-1) 0 + 122) = none) (k3 : k_eq Y Y3) (r3 : r_eq Y Y3) (f3 : f_eq Y Y3)
    (o3 : ∀ a, 53 ≤ a → a ≤ 59 → a ≠ 53 + 1 + 1 * o → Y3 a = Y a) (z3 : Y3 (-1) 0 = Y (-1) 0 + 123) (b3 : b_ok Y Y3 i o (Y (-1) 0 + 122)) : w_I κ (x_ku κ2 (Y (-1) 0 + 122) (.inl (14, 0))) X (x_up Y3 n0 m (Y (-1) 0 + 122)) n0 i (o + 1) (m + 1) := by
  obtain ⟨⟨h1, h2, h3⟩, h4, h5, h6, h7, h8, h9, h10, h11⟩ := h
  have hlo0 := hlo.1
  have hn := hC.1.2.2.1
  have hvY := h7.v hC.1 hlo
  have hb := b3.old hvY hn.2
  have hup : ∀ b k, κ2 b = some k → x_ku κ2 (Y (-1) 0 + 122) (.inl (14, 0)) b = some k := x_ku_le hnone
  have old : ∀ a, 64 ≤ a → a < Y (-1) 0 → a ≠ n0 → x_up Y3 n0 m (Y (-1) 0 + 122) a = Y a := fun a a1 a2 a3 => by rw [x_up_o _ a3]; exact k3.2.1 a a1 a2
  have row : ∀ j, 0 ≤ j → j < o → x_up Y3 n0 m (Y (-1) 0 + 122) (53 + 1 + 1 * j) = Y (53 + 1 + 1 * j) := fun j j1 j2 => by rw [x_up_o _ (by omega)]; exact o3 _ (by omega) (by omega) (by omega)
  have el : ∀ k, k < m → x_up Y3 n0 m (Y (-1) 0 + 122) n0 k = Y n0 k := fun k k2 => by rw [x_up_n _ (Or.inr (by omega))]; rw [k3.2.1 n0 (by omega) hz]
  have hb4 : b_ok X (x_up Y3 n0 m (Y (-1) 0 + 122)) i o (Y (-1) 0 + 122) := by
    unfold b_ok
    rw [x_up_o _ (by omega), x_up_o _ (by omega)]
    exact hb
  have hbk := hb4.bok hC (by omega) (fun b k q => hup b k (h4 b k q)) (x_ku_s _ _ _)
  refine ⟨⟨⟨by omega, by omega⟩, ⟨by omega, by omega⟩, fun q => by omega⟩, fun b k q => hup b k (h4 b k q), hup _ _ h5, h6.ku hnone (Or.inl ⟨_, rfl⟩), (h7.trans k3).up (by omega) hlo0, (h8.trans r3).up (by omega), (h9.trans f3).up (by omega), fun k k1 k2 => ?_, fun v v1 v2 v3 => ?_⟩
  · by_cases q : k = m
    · subst q
      rw [x_up_s]
      refine ⟨⟨by omega, by rw [x_up_o _ (by omega), z3]; omega, by omega⟩, hbk, o, ⟨by omega, by omega⟩, hb4.1⟩
    · obtain ⟨a1, a2, j, a3, a4⟩ := h10 k k1 (by omega)
      have e1 := el k (by omega)
      have e2 := old _ a1.1 a1.2.1 a1.2.2
      rw [e1]
      refine ⟨⟨a1.1, by rw [x_up_o _ (by omega), z3]; omega, a1.2.2⟩, ⟨hup _ _ a2.1, ?_, ?_, ?_⟩, j, ⟨by omega, by omega⟩, by rw [e2]; exact a4⟩
      · rw [e2]; exact hup _ _ a2.2.1
      · rw [e2]; exact a2.2.2.1
      · rw [e2, a4, row j a3.1 a3.2, ← a4]; exact a2.2.2.2
  · rw [q_wf_s X i v h1.1, if_neg e, a_win_s _ _ _ h2.1, x_up_s, hb4.beat ⟨v1, v2⟩, ← h11 v v1 v2 v3]
    rw [w_old (Y := Y) (m := m) (fun k k1 k2 => ?_) m.toNat (by omega)]
    obtain ⟨a1, a2, j, a3, a4⟩ := h10 k k1 k2
    exact ⟨el k k2, old _ a1.1 a1.2.1 a1.2.2, by rw [a4]; exact row j a3.1 a3.2⟩
theorem w_end {κ κ2 : x_Ka} {X Y : x_X} {n0 i m : Int} (h : w_I κ κ2 X Y n0 i (X 1 2) m) (hn6 : X 1 2 ≤ 6) (hm : m ≤ 6) (hn0 : n0 ≠ Y (-1) 0) (hz : n0 < Y (-1) 0 ∧ 64 ≤ n0) (hs : 88 ≤ Y (-1) 0) (hnone : κ2 (Y (-1) 0) = none) : x_Aim (x_ku κ2 (Y (-1) 0) (.inl (15, 0))) (x_up (x_up (x_nw Y (x_df 15)) (Y (-1) 0) 0 n0) (Y (-1) 0) 1 m) (Y (-1) 0) (q_wn X i) := by
  obtain ⟨⟨h1, h2, h3⟩, h4, h5, h6, h7, h8, h9, h10, h11⟩ := h
  have hup : ∀ b k, κ2 b = some k → x_ku κ2 (Y (-1) 0) (.inl (15, 0)) b = some k := x_ku_le hnone
  have e0 : x_up (x_up (x_nw Y (x_df 15)) (Y (-1) 0) 0 n0) (Y (-1) 0) 1 m (Y (-1) 0) 0 = n0 := by rw [x_up_n _ (Or.inr (by omega)), x_up_s]
  have e1 : x_up (x_up (x_nw Y (x_df 15)) (Y (-1) 0) 0 n0) (Y (-1) 0) 1 m (Y (-1) 0) 1 = m := x_up_s _ _ _ _
  have old : ∀ a, a ≠ -1 → a ≠ Y (-1) 0 → x_up (x_up (x_nw Y (x_df 15)) (Y (-1) 0) 0 n0) (Y (-1) 0) 1 m a = Y a := fun a a1 a2 => by rw [x_up2_o a2, x_nw_o ⟨a1, a2⟩]
  have en := old n0 (by omega) hn0
  refine Or.inr (Or.inr (Or.inr ⟨x_ku_s _ _ _, by rw [e0]; exact hup _ _ h5, by rw [e1]; omega, fun k k1 k2 => ?_, fun v v1 v2 => ?_⟩))
  · rw [e1] at k2
    obtain ⟨a1, a2, j, a3, a4⟩ := h10 k k1 k2
    rw [e0, en]
    have eb := old (Y n0 k) (by omega) (by omega)
    exact ⟨hup _ _ a2.1, by rw [eb]; exact hup _ _ a2.2.1, by rw [eb]; exact a2.2.2.1, by rw [eb, a4, old _ (by omega) (by omega), ← a4]; exact a2.2.2.2⟩
  · unfold q_wn
    by_cases q : v = 0
    · rw [if_pos q, if_pos q]
    · rw [if_neg q, if_neg q, e0, e1, ← h11 v v1 v2 q]
      refine (w_old (m := m) (fun k k1 k2 => ?_) m.toNat (by omega)).symm
      obtain ⟨a1, a2, j, a3, a4⟩ := h10 k k1 k2
      exact ⟨by rw [en], old _ (by omega) (by omega), by rw [a4]; exact old _ (by omega) (by omega)⟩
theorem c_X1_win {l : Launch} {E : x_E} {κ : x_Ka} {X : x_X} {i : Int} (hC : n_C κ X) (k87 : κ 87 = some (.inr (1, 1))) (hi : 0 ≤ i ∧ i < X 1 2) : x_MetK l yX1_win cX1_win 5 (some (.object "NextLoad$Win")) 60 617 628 E κ X [x_rf E 0, vi i] (fun v_ κ2 Y => ∃ ma, v_ = some (x_rf E ma) ∧ x_Aim κ2 Y ma (q_wn X i) ∧ (∀ b k, κ b = some k → κ2 b = some k) ∧ x_T κ2 ∧ k_eq X Y ∧ r_eq X Y ∧ f_eq X Y) := by
  refine x_MetK.of [(false, x_rf E 0), (false, vi i)] [some (x_rf E 0), some (vi i), none, none, none] 3 (by decide) rfl rfl ⟨x_cr E (0), rfl, trivial⟩ rfl rfl ?_
  intro p e s m args below meth c hargs hin B
  obtain ⟨hI, hP, hO, hW, hJ⟩ := id hC
  obtain ⟨hT, h0, hn, hl, hla⟩ := id hI
  refine x_lows (fun hlow => ?_)
  have hlo := hI.lo k87 hlow
  have hlo0 := hlo.1
  have lp_11 : ∀ (n : Nat) (o m0 : Int) (κ2 : x_Ka) (Y : x_X), (w_I κ κ2 X Y (X (-1) 0) i o m0 ∧ (X (-1) 0) < Y (-1) 0) → ((7 - o).toNat < n) → x_G p l e (x_rm 60 617 628) s m args below meth c 5 E (1 + 123 * m0.toNat) (6 + 124 * m0.toNat) (MQ below (x_QK E (fun v_ κ2 Y => ∃ ma, v_ = some (x_rf E ma) ∧ x_Aim κ2 Y ma (q_wn X i) ∧ (∀ b k, κ b = some k → κ2 b = some k) ∧ x_T κ2 ∧ k_eq X Y ∧ r_eq X Y ∧ f_eq X Y)) args s 617 628 (fun q => E.1 ≤ q)) κ2 11 [some (x_rf E 0), some (vi i), some (x_rf E (X (-1) 0)), some (vi m0), some (vi o)] [] Y := by
    intro n
    induction n with
    | zero => intro o m0 κ2 Y hinv hme; exfalso; omega
    | succ n ih =>
      intro o m0 κ2 Y hinv hme
      obtain ⟨hw, hz⟩ := hinv
      have hT := hw.2.2.2.1
      have hke := hw.2.2.2.2.1
      have hvY := hke.v hI hlo
      have h0 := hw.2.1 _ _ h0
      have hCY := (hvY.C hC).up hw.2.1 hT
      have k87Y := hw.2.1 _ _ k87
      have eY : Y 1 2 = X 1 2 := congrFun (hvY.1 1 (by omega) (by omega)) 2
      have hwb := hw.1
      have hloY := hke.low hlo
      refine x_iload B dX1_win_11 rfl ?_
      refine x_aload_n B dX1_win_13 rfl ?_
      refine x_getC0 B (k := 0) hT rfl rfl xc_0 (by decide) h0 (Or.inl q394) (fun _ h => h) dX1_win_14 (fun k_14 => ?_)
      refine x_goP (x_rV B k_14 (show x_cl[1]? = some _ from rfl) (c_J2_size hT (by assumption)) (lw_V q643 q364 q365 q113 q366) hv_J2_size ⟨by decide, by decide⟩ ⟨by show _ ≤ 617; omega, by show _ ≤ 628; omega⟩ rfl rfl (by simp [x_cr, x_c1, x_c2]) dX1_win_17) ?_
      refine x_icmp_ge B (tgt := 51) dX1_win_20 (by decide) ⟨by omega, by omega⟩ ⟨by omega, by omega⟩ (fun h_20 => ?_) (fun h_20 => ?_)
      · obtain rfl : o = X 1 2 := by omega
        refine x_new B xc_15 q1128 q1129 q139 (xd_15 E) xe_15 (by show _ ≤ 617; omega) (by show _ ≤ 628; omega) dX1_win_51 (fun z_51 n_51 => ?_)
        have hT2 := hT.ku n_51 (Or.inl ⟨15, rfl⟩)
        refine x_dup B dX1_win_54 (by first | rfl | exact x_cr _ _) ?_
        refine x_aload_n B dX1_win_55 rfl ?_
        refine x_iload_n B dX1_win_56 rfl ?_
        refine x_goV (x_rI B (by omega) (c_X17_init (by omega) (x_ku_s _ _ _) ⟨by omega, by omega⟩) q1130 q1131 q139 q1132 rfl hd_X17_init ⟨by decide, by decide⟩ ⟨by show _ ≤ 617; omega, by show _ ≤ 628; omega⟩ rfl rfl (by simp [x_cr, x_c1, x_c2]) dX1_win_57) ?_
        refine x_wide (cells' := 617) (slots' := 628) (by omega) (by omega) ?_
        refine x_aretK B (Or.inl ⟨_, rfl⟩) ?_ dX1_win_60
        have hnw := hke.nw (x_df 15) hlo0
        refine ⟨Y (-1) 0, rfl, w_end hw hn.2 (by omega) (by omega) (by omega) hloY.1 n_51, fun b k q => x_ku_le n_51 b k (hw.2.1 b k q), hT2, (hnw.up (by omega) hlo0).up (by omega) hlo0, ((hw.2.2.2.2.2.1.nw _ hloY.1).up (by omega)).up (by omega), ((hw.2.2.2.2.2.2.1.nw _ hloY.1).up (by omega)).up (by omega)⟩
      · refine x_iload B dX1_win_23 rfl ?_
        refine x_iload_n B dX1_win_25 rfl ?_
        refine x_icmp_ne B (tgt := 32) dX1_win_26 (by decide) ⟨by omega, by omega⟩ ⟨by omega, by omega⟩ (fun h_26 => ?_) (fun h_26 => ?_)
        · refine x_aload_n B dX1_win_32 rfl ?_
          refine x_iload_n B dX1_win_33 rfl ?_
          refine x_aload_n B dX1_win_34 rfl ?_
          refine x_iload_n B dX1_win_35 rfl ?_
          refine x_iload B dX1_win_36 rfl ?_
          refine x_goK (x_rVK B h0 (show x_cl[0]? = some _ from rfl) (c_X1_beat hCY k87Y ⟨by omega, by omega⟩ ⟨by omega, by omega⟩) (lw_V q1102 q1104 qs24 q110 q1105) hv_X1_beat ⟨by decide, by decide⟩ ⟨by show _ ≤ 617; omega, by show _ ≤ 628; omega⟩ rfl rfl (by simp [x_cr, x_c1, x_c2]) dX1_win_38) (fun v_38 κ_38 X_38 p_38 => ?_)
          obtain ⟨rfl, rfl, hnone, k3, r3, f3, o3, z3, b3⟩ := p_38
          have hwa := x_ku_le (kd := .inl (14, 0)) hnone _ _ hw.2.2.1
          refine x_aast B (t := 7) hwa rfl rfl rfl (x_ku_s _ _ _) (show x_cl[14]? = some _ from rfl) ⟨by omega, by omega⟩ dX1_win_41 ?_
          refine x_iinc_3 B dX1_win_42 (by first | rfl | exact x_cr _ _) ?_
          refine x_iinc_4 B dX1_win_45 (by first | rfl | exact x_cr _ _) ?_
          refine x_goto B (tgt := 11) dX1_win_48 (by decide) ?_
          first
          | (refine ih _ _ _ _ ⟨w_skip hw (by omega) (by omega), hz⟩ (by omega); done)
          | (refine x_cs (cells' := 1 + 123 * (m0 + 1).toNat) (slots' := 6 + 124 * (m0 + 1).toNat) (by omega) (by omega) ?_; exact ih _ _ _ _ ⟨w_take hw hC hlo rfl hz (by omega) (by omega) hnone k3 r3 f3 o3 z3 b3, by rw [x_up_o _ (by omega), z3]; omega⟩ (by omega))
        · refine x_goto B (tgt := 45) dX1_win_29 (by decide) ?_
          refine x_iinc_4 B dX1_win_45 (by first | rfl | exact x_cr _ _) ?_
          refine x_goto B (tgt := 11) dX1_win_48 (by decide) ?_
          first
          | (refine ih _ _ _ _ ⟨w_skip hw (by omega) (by omega), hz⟩ (by omega); done)
          | (refine x_cs (cells' := 1 + 123 * (m0 + 1).toNat) (slots' := 6 + 124 * (m0 + 1).toNat) (by omega) (by omega) ?_; exact ih _ _ _ _ ⟨w_take hw hC hlo rfl hz (by omega) (by omega) hnone k3 r3 f3 o3 z3 b3, by rw [x_up_o _ (by omega), z3]; omega⟩ (by omega))
  refine x_bipush B dX1_win_0 (by decide) ?_
  refine x_newq B (t := 7) q1106 q1127 rfl rfl rfl ⟨by omega, by omega⟩ (by decide) (by decide) dX1_win_2 (fun z_2 n_2 => ?_)
  have hr2 : x_raw (.inr (7, 6)) := Or.inr ⟨7, 6, rfl, rfl⟩
  have hk1 := (k_eq.rf X).nw (fun _ => -1) hlo0
  refine x_ast_2 B dX1_win_5 (by first | rfl | exact x_cr _ _) ?_
  refine x_iconst B dX1_win_6 ?_
  refine x_ist_3 B dX1_win_7 (by first | rfl | exact x_cr _ _) ?_
  refine x_iconst B dX1_win_8 ?_
  refine x_istw_4 B dX1_win_9 (by first | rfl | exact x_cr _ _) ?_
  refine lp_11 _ 0 0 _ _ ⟨⟨⟨⟨by omega, by omega⟩, ⟨by omega, by omega⟩, fun q => by omega⟩, x_ku_le n_2, x_ku_s _ _ _, hT.ku n_2 hr2, hk1, (r_eq.nw ⟨rfl, rfl⟩ _ hlo0), (f_eq.nw (fun _ _ _ => rfl) _ hlo0), fun k k1 k2 => by omega, fun v v1 v2 v3 => rfl⟩, by rw [x_nw_z]; omega⟩ (Nat.lt_succ_self _)
