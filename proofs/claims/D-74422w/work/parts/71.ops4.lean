theorem k_eq.fr17 {X Y Z : x_X} (h : k_eq X Y) (hf : c_fr 17 Y Z) : k_eq X Z := by
  refine ⟨fun a a1 a2 a3 a4 => (hf a (by omega)).trans (h.1 a a1 a2 a3 a4), fun a a1 a2 => (hf a (by omega)).trans (h.2.1 a a1 a2), ?_, ?_⟩
  · rw [hf 0 (by omega)]; exact h.2.2.1
  · rw [hf (-1) (by omega)]; exact h.2.2.2
theorem c_M_tl17 {X Y : x_X} {z : Int} (hn : X 1 2 ≤ 6) (y1 : Y 1 2 = X 1 2) : c_M (x_tl Y z) 17 = c_M Y 17 := by
  have e : ∀ a, a ≠ 0 → a ≠ 32 → x_tl Y z a = Y a := fun a a1 a2 => by unfold x_tl; rw [x_up_o _ a1, x_up_o _ a2]
  funext l f
  unfold c_M
  rw [e 1 (by omega) (by omega), e 17 (by omega) (by omega), y1]
  by_cases q : l = -1
  · rw [if_pos q, if_pos q]
  · rw [if_neg q, if_neg q]
    by_cases q2 : 0 ≤ l ∧ l < X 1 2
    · rw [if_pos q2, if_pos q2, e (17 + 1 + 1 + 2 * l) (by omega) (by omega), e (17 + 1 + 1 + 2 * l + 1) (by omega) (by omega)]
    · rw [if_neg q2, if_neg q2]
theorem c_M_m17 {X Y : x_X} (h : k_eq X Y) (l0 : Int) (hl : 0 ≤ l0 ∧ l0 < X 1 2) (hn : X 1 2 ≤ 6) : c_M (x_up Y (17 + 1 + 1 + 2 * l0) 6 1) 17 = x_up (c_M Y 17) l0 6 1 := c_M_us (by omega) (by rw [h.1 1 (by omega) (by omega) (by omega) (by omega)]; exact hl) (by omega)
theorem g_sm_m {M : x_X} {l0 : Int} (hl : 0 ≤ l0) (h6 : M l0 6 = 0) (n : Nat) (hn : l0 < n) : g_sm (fun l => x_up M l0 6 1 l 6) n = g_sm (fun l => M l 6) n + 1 := by
  rw [g_sm_up (M := M) (N := x_up M l0 6 1) hl h6 (x_up_s _ _ _ _) (fun a a1 a2 => x_up_n _ (Or.inl a2)), if_pos hn]
theorem c_X1_order {l : Launch} {E : x_E} {κ : x_Ka} {X : x_X}  (hC : n_C κ X) (k87 : κ 87 = some (.inr (1, 1))) : x_Met l yX1_order cX1_order 2 (some .int) 5 0 0 E κ X [x_rf E 0] κ (fun v_ Y_ => v_ = some (vi (m_oc (X 1 2) (c_lot X) 7 (c_M X 3) 0 (fun _ => 0)).1) ∧ k_eq X Y_ ∧ f_eq X Y_ ∧ Y_ 0 7 = (m_oc (X 1 2) (c_lot X) 7 (c_M X 3) 0 (fun _ => 0)).1 ∧ ∀ j, 0 ≤ j → j < (m_oc (X 1 2) (c_lot X) 7 (c_M X 3) 0 (fun _ => 0)).1 → Y_ 32 j = (m_oc (X 1 2) (c_lot X) 7 (c_M X 3) 0 (fun _ => 0)).2 j) := by
  refine x_Met.of [(false, x_rf E 0)] [some (x_rf E 0), none] 1 (by decide) rfl rfl ⟨x_cr E (0), trivial⟩ rfl rfl ?_
  intro p e s m args below meth c hargs hin B
  obtain ⟨hI, hP, hO, hW, hJ⟩ := id hC
  obtain ⟨hT, h0, hn, hl, hla⟩ := id hI
  refine x_lows (fun hlow => ?_)
  have hlo := hI.lo k87 hlow
  have hlo0 := hlo.1
  have lp_24 : ∀ (n : Nat) (k : Int) (f : Nat) (R : Int → Int) (Y : x_X) (l0 : Int), ((0 ≤ k ∧ k + f = 7) ∧ (k_eq X Y ∧ f_eq X Y ∧ Y 0 7 = k ∧ ∀ j, 0 ≤ j → j < k → Y 32 j = R j) ∧ (m_oc (X 1 2) (c_lot X) 7 (c_M X 3) 0 (fun _ => 0)) = m_oc (X 1 2) (c_lot X) f (c_M Y 17) k R ∧ l0 = m_cal (X 1 2) (c_lot X) (c_M Y 17) ∧ k ≤ g_sm (fun l => c_M Y 17 l 6) (X 1 2).toNat ∧ ∀ l, 0 ≤ l → l < X 1 2 → 0 ≤ c_M Y 17 l 6 ∧ c_M Y 17 l 6 ≤ 1) → ((8 - k).toNat < n) → x_G p l e (x_rm 5 0 0) s m args below meth c 2 E 0 0 (MQ below (x_Q E κ (fun v_ Y_ => v_ = some (vi (m_oc (X 1 2) (c_lot X) 7 (c_M X 3) 0 (fun _ => 0)).1) ∧ k_eq X Y_ ∧ f_eq X Y_ ∧ Y_ 0 7 = (m_oc (X 1 2) (c_lot X) 7 (c_M X 3) 0 (fun _ => 0)).1 ∧ ∀ j, 0 ≤ j → j < (m_oc (X 1 2) (c_lot X) 7 (c_M X 3) 0 (fun _ => 0)).1 → Y_ 32 j = (m_oc (X 1 2) (c_lot X) 7 (c_M X 3) 0 (fun _ => 0)).2 j)) args s 0 0 (fun q => E.1 ≤ q)) κ 24 [some (x_rf E 0), some (vi l0)] [] Y := by
    intro n
    induction n with
    | zero => intro k f R Y l0 hinv hme; exfalso; omega
    | succ n ih =>
      intro k f R Y l0 hinv hme
      obtain ⟨hk, ⟨hke, hfe, h7, hr⟩, hoc, hl0, hgk, hr6⟩ := hinv
      have hv := hke.v hI hlo
      have hCY := hv.C hC
      have y1 : Y 1 2 = X 1 2 := congrFun (hv.1 1 (by omega) (by omega)) 2
      have hcr := m_cb_r (c_lot X) (c_M Y 17) (X 1 2).toNat
      have hcr2 : -1 ≤ l0 ∧ l0 < X 1 2 := by rw [hl0]; unfold m_cal; omega
      refine x_iload_n B dX1_order_24 rfl ?_
      refine x_iconst B dX1_order_25 ?_
      refine x_icmp_eq B (tgt := 59) dX1_order_26 (by decide) ⟨by omega, by omega⟩ ⟨by omega, by omega⟩ (fun h_26 => ?_) (fun h_26 => ?_)
      · refine x_aload_n B dX1_order_59 rfl ?_
        refine x_getI B (k := 7) 7 rfl rfl xc_0 (by decide) h0 (Or.inl q408) (fun _ h => h) dX1_order_60 (fun r_60 => ?_)
        refine x_iret B (fun _ _ h => h) ?_ dX1_order_63
        have hse := m_oc_e (n := X 1 2) (lot := c_lot X) (f := f) (M := c_M Y 17) (k := k) (R := R) (by rw [← hl0]; exact h_26)
        rw [hoc, hse]
        exact ⟨by rw [h7], hke, hfe, h7, hr⟩
      · have hco := m_cb_ok (c_lot X) (c_M Y 17) (X 1 2).toNat (by intro q; apply h_26; rw [hl0]; exact q)
        have h6 : c_M Y 17 l0 6 = 0 := by rw [hl0]; exact hco.2
        have hg1 := g_sm_one (f := fun l => c_M Y 17 l 6) (l := l0) (X 1 2).toNat (fun j j1 j2 => (hr6 j j1 (by omega)).2) (by omega) (by omega) h6
        have et := x_tl1 Y l0 h7
        have hk1 := hke.tl (z := l0) hlo0
        have hf1 := hfe.tl (z := l0)
        refine x_aload_n B dX1_order_29 rfl ?_
        refine x_iload_n B dX1_order_30 rfl ?_
        refine x_i2l B dX1_order_31 ⟨by omega, by omega⟩ ?_
        refine x_goV (x_rV B h0 (show x_cl[0]? = some _ from rfl) (c_X1_tell hT h0 ⟨by omega, by omega⟩ ⟨by omega, by omega⟩) (lw_V q806 q808 qs16 q110 q809) hv_X1_tell ⟨by decide, by decide⟩ ⟨by decide, by decide⟩ rfl rfl (by simp [x_cr, x_c1, x_c2]) dX1_order_32) ?_
        change x_G _ _ _ _ _ _ _ _ _ _ _ _ _ _ _ _ _ _ _ (x_tl Y l0)
        refine x_aload_n B dX1_order_35 rfl ?_
        refine x_getC0 B (k := 3) hT rfl rfl xc_0 (by decide) h0 (Or.inl q403) (fun _ h => h) dX1_order_36 (fun k_36 => ?_)
        refine x_getC1 B (k := 0) hT rfl rfl xc_2 (by decide) k_36 (Or.inr q244) (fun _ h => h) dX1_order_39 (fun k_39 => ?_)
        refine x_iload_n B dX1_order_42 rfl ?_
        refine x_aaldC B (t := 10) hT k_39 rfl rfl rfl rfl ⟨by omega, by omega⟩ dX1_order_43 (fun k_43 => ?_)
        refine x_iconst B dX1_order_44 ?_
        refine x_putZ B (k := 6) 6 rfl rfl rfl ⟨by omega, by omega⟩ xc_3 (by decide) rfl nn_3_6 (fun _ => rfl) k_43 (Or.inr q218) (fun _ h => h) dX1_order_45 ?_
        have hk2 : k_eq X (x_up (x_tl Y l0) (17 + 1 + 1 + 2 * l0) 6 1) := hk1.up (Or.inl (by omega)) hlo0
        have hf2 : f_eq X (x_up (x_tl Y l0) (17 + 1 + 1 + 2 * l0) 6 1) := hf1.up (by omega)
        have hv2 := hk2.v hI hlo
        have hI2 := (hv2.C hC).1
        have y2 : x_up (x_tl Y l0) (17 + 1 + 1 + 2 * l0) 6 1 1 2 = X 1 2 := congrFun (hv2.1 1 (by omega) (by omega)) 2
        have eM : c_M (x_up (x_tl Y l0) (17 + 1 + 1 + 2 * l0) 6 1) 17 = x_up (c_M Y 17) l0 6 1 := by
          rw [c_M_m17 hk1 l0 ⟨by omega, by omega⟩ hn.2]
          congr 1
          exact c_M_tl17 hn.2 y1
        refine x_aload_n B dX1_order_48 rfl ?_
        refine x_getC0 B (k := 3) hT rfl rfl xc_0 (by decide) h0 (Or.inl q403) (fun _ h => h) dX1_order_49 (fun k_49 => ?_)
        refine x_goP (x_rV B k_49 (show x_cl[2]? = some _ from rfl) (c_X2_called hI2 (show κ 17 = some (.inl (2, 1)) from hT.1 0 0 h0 3 (0, 17, .inl (2, 1)) rfl) (by omega)) (lw_V q797 q798 q799 q114 q800) hv_X2_called ⟨by decide, by decide⟩ ⟨by decide, by decide⟩ rfl rfl (by simp [x_cr, x_c1, x_c2]) dX1_order_52) ?_
        rw [y2, hv2.lot]
        refine x_ist_1 B dX1_order_55 (by first | rfl | exact x_cr _ _) ?_
        refine x_goto B (tgt := 24) dX1_order_56 (by decide) ?_
        have hst := m_oc_s (n := X 1 2) (lot := c_lot X) (f := f - 1) (M := c_M Y 17) (k := k) (R := R) (by rw [← hl0]; exact h_26)
        rw [show f - 1 + 1 = f by omega, ← hl0] at hst
        refine ih (k + 1) (f - 1) (fun j => if j = k then l0 else R j) _ _ ⟨⟨by omega, by omega⟩, ⟨hk2, hf2, ?_, fun j j1 j2 => ?_⟩, ?_, rfl, ?_, fun l l1 l2 => ?_⟩ (by omega)
        · rw [x_up_o _ (by omega)]; exact et.1
        · rw [x_up_o _ (by omega)]; by_cases e : j = k
          · rw [if_pos e, e]; exact et.2.1
          · rw [if_neg e]; exact (et.2.2 j e).trans (hr j j1 (by omega))
        · rw [hoc, hst, eM]
        · rw [eM, g_sm_m (by omega) h6 _ (by omega)]; omega
        · rw [eM]; by_cases e : l = l0
          · rw [e, x_up_s]; omega
          · rw [x_up_n _ (Or.inl e)]; exact hr6 l l1 l2
  refine x_aload_n B dX1_order_0 rfl ?_
  refine x_iconst B dX1_order_1 ?_
  refine x_putI B (k := 7) 7 rfl rfl rfl ⟨by omega, by omega⟩ xc_0 (by decide) rfl nn_0_7 (fun _ => rfl) h0 (Or.inl q408) (fun _ h => h) dX1_order_2 ?_
  refine x_aload_n B dX1_order_5 rfl ?_
  refine x_getC0 B (k := 3) hT rfl rfl xc_0 (by decide) h0 (Or.inl q403) (fun _ h => h) dX1_order_6 (fun k_6 => ?_)
  refine x_aload_n B dX1_order_9 rfl ?_
  refine x_getC0 B (k := 2) hT rfl rfl xc_0 (by decide) h0 (Or.inl q400) (fun _ h => h) dX1_order_10 (fun k_10 => ?_)
  refine x_goV (x_rV B k_6 (show x_cl[2]? = some _ from rfl) (c_X2_takes hT (show κ 17 = some (.inl (2, 1)) from hT.1 0 0 h0 3 (0, 17, .inl (2, 1)) rfl) (show κ 3 = some (.inl (2, 1)) from hT.1 0 0 h0 2 (0, 3, .inl (2, 1)) rfl) (by omega)) (lw_V q819 q820 q821 q114 q822) hv_X2_takes ⟨by decide, by decide⟩ ⟨by decide, by decide⟩ rfl rfl (by simp [x_cr, x_c1, x_c2]) dX1_order_13) ?_
  have hk00 : k_eq X (c_tk (x_up X 0 7 0) 17 3 6) := ((k_eq.rf X).z7).fr17 (c_fr_tk)
  have hv0 := hk00.v hI hlo
  have hI0 := (hv0.C hC).1
  have y01 : c_tk (x_up X 0 7 0) 17 3 6 1 2 = X 1 2 := congrFun (hv0.1 1 (by omega) (by omega)) 2
  refine x_aload_n B dX1_order_16 rfl ?_
  refine x_getC0 B (k := 3) hT rfl rfl xc_0 (by decide) h0 (Or.inl q403) (fun _ h => h) dX1_order_17 (fun k_17 => ?_)
  refine x_goP (x_rV B k_17 (show x_cl[2]? = some _ from rfl) (c_X2_called hI0 (show κ 17 = some (.inl (2, 1)) from hT.1 0 0 h0 3 (0, 17, .inl (2, 1)) rfl) (by omega)) (lw_V q797 q798 q799 q114 q800) hv_X2_called ⟨by decide, by decide⟩ ⟨by decide, by decide⟩ rfl rfl (by simp [x_cr, x_c1, x_c2]) dX1_order_20) ?_
  refine x_ist_1 B dX1_order_23 (by first | rfl | exact x_cr _ _) ?_
  have hk0 : k_eq X (c_tk (x_up X 0 7 0) 17 3 6) := ((k_eq.rf X).z7).fr17 (c_fr_tk)
  have hf0 : f_eq X (c_tk (x_up X 0 7 0) 17 3 6) := fun a a1 a2 => by rw [c_fr_tk a (by omega), x_up_o X (by omega)]
  have eM0 : c_M (c_tk (x_up X 0 7 0) 17 3 6) 17 = c_M X 3 := by rw [c_M_tk (by omega) (by omega) (by rw [x_up_o X (by omega)]; exact hn), ((k_eq.rf X).z7.v hI hlo).M hn.2]
  rw [hv0.lot, y01]
  rw [eM0]
  refine lp_24 _ 0 7 (fun _ => 0) _ _ ⟨⟨by omega, by omega⟩, ⟨hk0, hf0, ?_, fun j j1 j2 => by omega⟩, by rw [eM0], by rw [eM0], ?_, ?_⟩ (Nat.lt_succ_self _)
  · rw [c_fr_tk 0 (by omega), x_up_s]
  · rw [eM0]; exact (g_sm_b _ (fun j j1 j2 => (hW.2.1 j j1 (by omega)).2.2.2.2.1)).1
  · rw [eM0]; exact fun l l1 l2 => (hW.2.1 l l1 l2).2.2.2.2.1
theorem c_X1_slot {l : Launch} {E : x_E} {κ : x_Ka} {X : x_X} {i k : Int} (hC : n_C κ X) (hi0 : xR i) (hk0 : xR k) : x_Pu l yX1_slot cX1_slot 7 (some .int) 4 E κ X [x_rf E 0, vi i, vi k] (vi (u_slot (X 1 2) (c_lot X) (c_M X 3) i k)) := by
  refine x_Met.of [(false, x_rf E 0), (false, vi i), (false, vi k)] [some (x_rf E 0), some (vi i), some (vi k), none, none, none, none] 4 (by decide) rfl rfl ⟨x_cr E (0), rfl, rfl, trivial⟩ rfl rfl ?_
  intro p e s m args below meth c hargs hin B
  obtain ⟨hI, hP, hO, hW, hJ⟩ := id hC
  obtain ⟨hT, h0, hn, hl, hla⟩ := id hI
  have z1 := x_in_01 i 0 (X 1 2 - 1)
  have lp_47 : ∀ (n : Nat) (x : Int) (f : Nat), ((0 ≤ i ∧ i < X 1 2) ∧ (1 ≤ x ∧ x ≤ 41 ∧ (f : Int) = 41 - x) ∧ u_slot (X 1 2) (c_lot X) (c_M X 3) i k = m_fl (fun x => decide (m_sc (c_lot X) (c_M X 3) i x (X 1 2).toNat = k)) f x) → ((42 - x).toNat < n) → x_G p l e (x_rm 4 0 0) s m args below meth c 7 E 0 0 (MQ below (x_Q E κ (fun v_ X_ => v_ = some (vi (u_slot (X 1 2) (c_lot X) (c_M X 3) i k)) ∧ X_ = X)) args s 0 0 (fun q => E.1 ≤ q)) κ 47 [some (x_rf E 0), some (vi i), some (vi k), some (x_rf E (3 + 1 + 1 + 2 * i)), some (vi x), none, none] [] X := by
    intro n
    induction n with
    | zero => intro x f hinv hme; exfalso; omega
    | succ n ih =>
      intro x f hinv hme
      have ih47 := ih
      obtain ⟨hi, ⟨hx1, hx2, hx3⟩, hu⟩ := hinv
      have lp_60 : ∀ (n : Nat) (o : Int), ((0 ≤ o ∧ o ≤ X 1 2) ∧ x ≤ 40) → ((7 - o).toNat < n) → x_G p l e (x_rm 4 0 0) s m args below meth c 7 E 0 0 (MQ below (x_Q E κ (fun v_ X_ => v_ = some (vi (u_slot (X 1 2) (c_lot X) (c_M X 3) i k)) ∧ X_ = X)) args s 0 0 (fun q => E.1 ≤ q)) κ 60 [some (x_rf E 0), some (vi i), some (vi k), some (x_rf E (3 + 1 + 1 + 2 * i)), some (vi x), some (vi (m_sc (c_lot X) (c_M X 3) i x o.toNat)), some (vi o)] [] X := by
        intro n
        induction n with
        | zero => intro o ho hme; exfalso; omega
        | succ n ih =>
          intro o ho hme
          obtain ⟨ho, hx40⟩ := ho
          have hss := m_sc_s (c_lot X) (c_M X 3) i x ho.1
          have hsr := m_sc_r (c_lot X) (c_M X 3) i x o.toNat
          refine x_iload B dX1_slot_60 rfl ?_
          refine x_aload_n B dX1_slot_62 rfl ?_
          refine x_getC0 B (k := 0) hT rfl rfl xc_0 (by decide) h0 (Or.inl q394) (fun _ h => h) dX1_slot_63 (fun k_63 => ?_)
          refine x_goP (x_rV B k_63 (show x_cl[1]? = some _ from rfl) (c_J2_size hT (by assumption)) (lw_V q643 q364 q365 q113 q366) hv_J2_size ⟨by decide, by decide⟩ ⟨by decide, by decide⟩ rfl rfl (by simp [x_cr, x_c1, x_c2]) dX1_slot_66) ?_
          refine x_icmp_ge B (tgt := 141) dX1_slot_69 (by decide) ⟨by omega, by omega⟩ ⟨by omega, by omega⟩ (fun h_69 => ?_) (fun h_69 => ?_)
          · obtain rfl : o = X 1 2 := by omega
            refine x_iload B dX1_slot_141 rfl ?_
            refine x_iload_n B dX1_slot_143 rfl ?_
            refine x_icmp_ne B (tgt := 150) dX1_slot_144 (by decide) ⟨by omega, by omega⟩ ⟨by omega, by omega⟩ (fun h_144 => ?_) (fun h_144 => ?_)
            · refine x_iinc_4 B dX1_slot_150 (by first | rfl | exact x_cr _ _) ?_
              refine x_goto B (tgt := 47) dX1_slot_153 (by decide) ?_
              refine x_fg_5 ?_
              refine x_fg_6 ?_
              refine ih47 _ (f - 1) ⟨hi, ⟨by omega, by omega, by omega⟩, ?_⟩ (by omega)
              have hs := m_fl_s (P := (fun x => decide (m_sc (c_lot X) (c_M X 3) i x (X 1 2).toNat = k))) (f := f - 1) (x := x) (by simpa using h_144)
              rw [show f - 1 + 1 = f by omega] at hs
              rw [hu, hs]
            · refine x_iload B dX1_slot_147 rfl ?_
              refine x_iret B (fun _ _ h => h) ?_ dX1_slot_149
              have hs := m_fl_e (P := (fun x => decide (m_sc (c_lot X) (c_M X 3) i x (X 1 2).toNat = k))) (f := f - 1) (x := x) (by simpa using h_144)
              rw [show f - 1 + 1 = f by omega] at hs
              exact ⟨congrArg (fun z => some (vi z)) (by rw [hu, hs]), rfl⟩
          · refine x_iload B dX1_slot_72 rfl ?_
            refine x_iload B dX1_slot_74 rfl ?_
            refine x_iload_n B dX1_slot_76 rfl ?_
            refine x_icmp_eq B (tgt := 128) dX1_slot_77 (by decide) ⟨by omega, by omega⟩ ⟨by omega, by omega⟩ (fun h_77 => ?_) (fun h_77 => ?_)
            · have hno : ¬ (o ≠ i ∧ (X (3 + 1 + 1 + 2 * o) 3 > 0 ∧ X (3 + 1 + 1 + 2 * o) 6 = 0) ∧ (X (3 + 1 + 1 + 2 * o) 3 < x ∨ (X (3 + 1 + 1 + 2 * o) 3 = x ∧ c_lot X o < c_lot X i))) := by
                intro q
                first
                | exact q.1 h_77
                | (unfold s_toTry at h_93; rw [if_pos q.2.1] at h_93; omega)
                | (rw [if_pos q.2.2] at h_121; omega)
              refine x_iconst B dX1_slot_128 ?_
              refine x_goP (x_rS B (c_X1_bit ⟨by omega, by omega⟩) (lw_S q786 q787 q110 q788) hd_X1_bit ⟨by decide, by decide⟩ ⟨by decide, by decide⟩ rfl rfl (by simp [x_cr, x_c1, x_c2]) dX1_slot_129) ?_
              refine x_iadd B dX1_slot_132 ?_
              refine x_istw_5 B dX1_slot_133 (by first | rfl | exact x_cr _ _) ?_
              refine x_iinc_6 B dX1_slot_135 (by first | rfl | exact x_cr _ _) ?_
              refine x_goto B (tgt := 60) dX1_slot_138 (by decide) ?_
              have o3 : c_M X 3 o 3 = X (3 + 1 + 1 + 2 * o) 3 := c_M_s (by omega) (by omega)
              have o6 : c_M X 3 o 6 = X (3 + 1 + 1 + 2 * o) 6 := c_M_s (by omega) (by omega)
              rw [o3, o6] at hss
              first
              | rw [show m_sc (c_lot X) (c_M X 3) i x o.toNat + 1 = m_sc (c_lot X) (c_M X 3) i x (o + 1).toNat by rw [hss, if_pos ⟨by omega, ht93, ht121⟩]]; exact ih _ ⟨⟨by omega, by omega⟩, hx40⟩ (by omega)
              | rw [show m_sc (c_lot X) (c_M X 3) i x o.toNat + 0 = m_sc (c_lot X) (c_M X 3) i x (o + 1).toNat by rw [hss, if_neg (fun q => hno q)]]; exact ih _ ⟨⟨by omega, by omega⟩, hx40⟩ (by omega)
            · refine x_aload_n B dX1_slot_80 rfl ?_
              refine x_getC0 B (k := 2) hT rfl rfl xc_0 (by decide) h0 (Or.inl q400) (fun _ h => h) dX1_slot_81 (fun k_81 => ?_)
              refine x_getC1 B (k := 0) hT rfl rfl xc_2 (by decide) k_81 (Or.inr q244) (fun _ h => h) dX1_slot_84 (fun k_84 => ?_)
              refine x_iload B dX1_slot_87 rfl ?_
              refine x_aaldC B (t := 10) hT k_84 rfl rfl rfl rfl ⟨by omega, by omega⟩ dX1_slot_89 (fun k_89 => ?_)
              refine x_goP (x_rV B k_89 (show x_cl[3]? = some _ from rfl) (c_X3_isToTry hT (by assumption)) (lw_V q782 q783 q784 q115 q785) hv_X3_isToTry ⟨by decide, by decide⟩ ⟨by decide, by decide⟩ rfl rfl (by simp [x_cr, x_c1, x_c2]) dX1_slot_90) ?_
              have tr2 : 0 ≤ s_toTry X (3 + 1 + 1 + 2 * o) ∧ s_toTry X (3 + 1 + 1 + 2 * o) ≤ 1 := by unfold s_toTry; split <;> omega
              refine x_if_eq B (tgt := 128) dX1_slot_93 (by decide) ⟨by omega, by omega⟩ (fun h_93 => ?_) (fun h_93 => ?_)
              · have hno : ¬ (o ≠ i ∧ (X (3 + 1 + 1 + 2 * o) 3 > 0 ∧ X (3 + 1 + 1 + 2 * o) 6 = 0) ∧ (X (3 + 1 + 1 + 2 * o) 3 < x ∨ (X (3 + 1 + 1 + 2 * o) 3 = x ∧ c_lot X o < c_lot X i))) := by
                  intro q
                  first
                  | exact q.1 h_77
                  | (unfold s_toTry at h_93; rw [if_pos q.2.1] at h_93; omega)
                  | (rw [if_pos q.2.2] at h_121; omega)
                refine x_iconst B dX1_slot_128 ?_
                refine x_goP (x_rS B (c_X1_bit ⟨by omega, by omega⟩) (lw_S q786 q787 q110 q788) hd_X1_bit ⟨by decide, by decide⟩ ⟨by decide, by decide⟩ rfl rfl (by simp [x_cr, x_c1, x_c2]) dX1_slot_129) ?_
                refine x_iadd B dX1_slot_132 ?_
                refine x_istw_5 B dX1_slot_133 (by first | rfl | exact x_cr _ _) ?_
                refine x_iinc_6 B dX1_slot_135 (by first | rfl | exact x_cr _ _) ?_
                refine x_goto B (tgt := 60) dX1_slot_138 (by decide) ?_
                have o3 : c_M X 3 o 3 = X (3 + 1 + 1 + 2 * o) 3 := c_M_s (by omega) (by omega)
                have o6 : c_M X 3 o 6 = X (3 + 1 + 1 + 2 * o) 6 := c_M_s (by omega) (by omega)
                rw [o3, o6] at hss
                first
                | rw [show m_sc (c_lot X) (c_M X 3) i x o.toNat + 1 = m_sc (c_lot X) (c_M X 3) i x (o + 1).toNat by rw [hss, if_pos ⟨by omega, ht93, ht121⟩]]; exact ih _ ⟨⟨by omega, by omega⟩, hx40⟩ (by omega)
                | rw [show m_sc (c_lot X) (c_M X 3) i x o.toNat + 0 = m_sc (c_lot X) (c_M X 3) i x (o + 1).toNat by rw [hss, if_neg (fun q => hno q)]]; exact ih _ ⟨⟨by omega, by omega⟩, hx40⟩ (by omega)
              · have ht93 : X (3 + 1 + 1 + 2 * o) 3 > 0 ∧ X (3 + 1 + 1 + 2 * o) 6 = 0 := by by_cases q : X (3 + 1 + 1 + 2 * o) 3 > 0 ∧ X (3 + 1 + 1 + 2 * o) 6 = 0; exact q; unfold s_toTry at h_93; rw [if_neg q] at h_93; omega
                refine x_aload_n B dX1_slot_96 rfl ?_
                refine x_getC0 B (k := 2) hT rfl rfl xc_0 (by decide) h0 (Or.inl q400) (fun _ h => h) dX1_slot_97 (fun k_97 => ?_)
                refine x_iload B dX1_slot_100 rfl ?_
                refine x_aload_n B dX1_slot_102 rfl ?_
                refine x_getC0 B (k := 2) hT rfl rfl xc_0 (by decide) h0 (Or.inl q400) (fun _ h => h) dX1_slot_103 (fun k_103 => ?_)
                refine x_getC1 B (k := 0) hT rfl rfl xc_2 (by decide) k_103 (Or.inr q244) (fun _ h => h) dX1_slot_106 (fun k_106 => ?_)
                refine x_iload B dX1_slot_109 rfl ?_
                refine x_aaldC B (t := 10) hT k_106 rfl rfl rfl rfl ⟨by omega, by omega⟩ dX1_slot_111 (fun k_111 => ?_)
                refine x_getI B (k := 3) 3 rfl rfl xc_3 (by decide) k_111 (Or.inr q211) (fun _ h => h) dX1_slot_112 (fun r_112 => ?_)
                refine x_iload_n B dX1_slot_115 rfl ?_
                refine x_iload B dX1_slot_116 rfl ?_
                refine x_goP (x_rVN B k_97 (show x_cl[2]? = some _ from rfl) (c_X2_isAheadAt hI (show κ 3 = some (.inl (2, 1)) from hT.1 0 0 h0 2 (0, 3, .inl (2, 1)) rfl) ⟨by omega, by omega⟩ ⟨by omega, by omega⟩ ⟨by omega, by omega⟩ ⟨by omega, by omega⟩) q936 q804 qs15 q114 q805 hd_X2_isAheadAt ⟨by decide, by decide⟩ ⟨by decide, by decide⟩ rfl rfl (by simp [x_cr, x_c1, x_c2]) dX1_slot_118) ?_
                refine x_if_eq B (tgt := 128) dX1_slot_121 (by decide) ⟨by split <;> omega, by split <;> omega⟩ (fun h_121 => ?_) (fun h_121 => ?_)
                · have hno : ¬ (o ≠ i ∧ (X (3 + 1 + 1 + 2 * o) 3 > 0 ∧ X (3 + 1 + 1 + 2 * o) 6 = 0) ∧ (X (3 + 1 + 1 + 2 * o) 3 < x ∨ (X (3 + 1 + 1 + 2 * o) 3 = x ∧ c_lot X o < c_lot X i))) := by
                    intro q
                    first
                    | exact q.1 h_77
                    | (unfold s_toTry at h_93; rw [if_pos q.2.1] at h_93; omega)
                    | (rw [if_pos q.2.2] at h_121; omega)
                  refine x_iconst B dX1_slot_128 ?_
                  refine x_goP (x_rS B (c_X1_bit ⟨by omega, by omega⟩) (lw_S q786 q787 q110 q788) hd_X1_bit ⟨by decide, by decide⟩ ⟨by decide, by decide⟩ rfl rfl (by simp [x_cr, x_c1, x_c2]) dX1_slot_129) ?_
                  refine x_iadd B dX1_slot_132 ?_
                  refine x_istw_5 B dX1_slot_133 (by first | rfl | exact x_cr _ _) ?_
                  refine x_iinc_6 B dX1_slot_135 (by first | rfl | exact x_cr _ _) ?_
                  refine x_goto B (tgt := 60) dX1_slot_138 (by decide) ?_
                  have o3 : c_M X 3 o 3 = X (3 + 1 + 1 + 2 * o) 3 := c_M_s (by omega) (by omega)
                  have o6 : c_M X 3 o 6 = X (3 + 1 + 1 + 2 * o) 6 := c_M_s (by omega) (by omega)
                  rw [o3, o6] at hss
                  first
                  | rw [show m_sc (c_lot X) (c_M X 3) i x o.toNat + 1 = m_sc (c_lot X) (c_M X 3) i x (o + 1).toNat by rw [hss, if_pos ⟨by omega, ht93, ht121⟩]]; exact ih _ ⟨⟨by omega, by omega⟩, hx40⟩ (by omega)
                  | rw [show m_sc (c_lot X) (c_M X 3) i x o.toNat + 0 = m_sc (c_lot X) (c_M X 3) i x (o + 1).toNat by rw [hss, if_neg (fun q => hno q)]]; exact ih _ ⟨⟨by omega, by omega⟩, hx40⟩ (by omega)
                · have ht121 : X (3 + 1 + 1 + 2 * o) 3 < x ∨ (X (3 + 1 + 1 + 2 * o) 3 = x ∧ c_lot X o < c_lot X i) := by by_cases q : X (3 + 1 + 1 + 2 * o) 3 < x ∨ (X (3 + 1 + 1 + 2 * o) 3 = x ∧ c_lot X o < c_lot X i); exact q; rw [if_neg q] at h_121; omega
                  refine x_iconst B dX1_slot_124 ?_
                  refine x_goto B (tgt := 129) dX1_slot_125 (by decide) ?_
                  refine x_goP (x_rS B (c_X1_bit ⟨by omega, by omega⟩) (lw_S q786 q787 q110 q788) hd_X1_bit ⟨by decide, by decide⟩ ⟨by decide, by decide⟩ rfl rfl (by simp [x_cr, x_c1, x_c2]) dX1_slot_129) ?_
                  refine x_iadd B dX1_slot_132 ?_
                  refine x_istw_5 B dX1_slot_133 (by first | rfl | exact x_cr _ _) ?_
                  refine x_iinc_6 B dX1_slot_135 (by first | rfl | exact x_cr _ _) ?_
                  refine x_goto B (tgt := 60) dX1_slot_138 (by decide) ?_
                  have o3 : c_M X 3 o 3 = X (3 + 1 + 1 + 2 * o) 3 := c_M_s (by omega) (by omega)
                  have o6 : c_M X 3 o 6 = X (3 + 1 + 1 + 2 * o) 6 := c_M_s (by omega) (by omega)
                  rw [o3, o6] at hss
                  first
                  | rw [show m_sc (c_lot X) (c_M X 3) i x o.toNat + 1 = m_sc (c_lot X) (c_M X 3) i x (o + 1).toNat by rw [hss, if_pos ⟨by omega, ht93, ht121⟩]]; exact ih _ ⟨⟨by omega, by omega⟩, hx40⟩ (by omega)
                  | rw [show m_sc (c_lot X) (c_M X 3) i x o.toNat + 0 = m_sc (c_lot X) (c_M X 3) i x (o + 1).toNat by rw [hss, if_neg (fun q => hno q)]]; exact ih _ ⟨⟨by omega, by omega⟩, hx40⟩ (by omega)
      refine x_iload B dX1_slot_47 rfl ?_
      refine x_bipush B dX1_slot_49 (by decide) ?_
      refine x_icmp_gt B (tgt := 156) dX1_slot_51 (by decide) ⟨by omega, by omega⟩ ⟨by omega, by omega⟩ (fun h_51 => ?_) (fun h_51 => ?_)
      · refine x_bipush B dX1_slot_156 (by decide) ?_
        refine x_iret B (fun _ _ h => h) ?_ dX1_slot_158
        have f0 : f = 0 := by omega
        exact ⟨congrArg (fun z => some (vi z)) (by rw [hu, f0]; rfl), rfl⟩
      · refine x_iconst B dX1_slot_54 ?_
        refine x_istw_5 B dX1_slot_55 (by first | rfl | exact x_cr _ _) ?_
        refine x_iconst B dX1_slot_57 ?_
        refine x_istw_6 B dX1_slot_58 (by first | rfl | exact x_cr _ _) ?_
        exact lp_60 _ 0 ⟨⟨by omega, by omega⟩, by omega⟩ (Nat.lt_succ_self _)
  refine x_aload_n B dX1_slot_0 rfl ?_
  refine x_iload_n B dX1_slot_1 rfl ?_
  refine x_goP (x_rV B h0 (show x_cl[0]? = some _ from rfl) (c_X1_isLifter hI ⟨by omega, by omega⟩) (lw_V q735 q737 qs13 q110 q738) hv_X1_isLifter ⟨by decide, by decide⟩ ⟨by decide, by decide⟩ rfl rfl (by simp [x_cr, x_c1, x_c2]) dX1_slot_2) ?_
  refine x_if_eq B (tgt := 12) dX1_slot_5 (by decide) ⟨by omega, by omega⟩ (fun h_5 => ?_) (fun h_5 => ?_)
  · refine x_iconst B dX1_slot_12 ?_
    refine x_iret B (fun _ _ h => h) ?_ dX1_slot_13
    exact ⟨congrArg (fun z => some (vi z)) (by unfold u_slot; rw [if_neg (by omega)]), rfl⟩
  · refine x_iload_n B dX1_slot_8 rfl ?_
    refine x_if_ge B (tgt := 14) dX1_slot_9 (by decide) ⟨by omega, by omega⟩ (fun h_9 => ?_) (fun h_9 => ?_)
    · have hi : 0 ≤ i ∧ i < X 1 2 := by unfold x_in at h_5; split at h_5 <;> omega
      have wi := hW.2.1 i hi.1 hi.2
      have g3 : c_M X 3 (-1) 3 = X 3 3 := c_M_g (by omega)
      have s3 : c_M X 3 i 3 = X (3 + 1 + 1 + 2 * i) 3 := c_M_s hi (by omega)
      have s4 : c_M X 3 i 4 = X (3 + 1 + 1 + 2 * i) 4 := c_M_s hi (by omega)
      have s5 : c_M X 3 i 5 = X (3 + 1 + 1 + 2 * i) 5 := c_M_s hi (by omega)
      have s6 : c_M X 3 i 6 = X (3 + 1 + 1 + 2 * i) 6 := c_M_s hi (by omega)
      have s7 : c_M X 3 i 7 = X (3 + 1 + 1 + 2 * i) 7 := c_M_s hi (by omega)
      have el : m_least (c_M X 3) i = s_least X (3 + 1 + 1 + 2 * i) (X 3 3) := by unfold m_least s_least; rw [s3, s6, s4, g3]
      have mlr := m_least_r hW hi.1 hi.2
      have et : s_toTry X (3 + 1 + 1 + 2 * i) = if c_M X 3 i 3 > 0 ∧ c_M X 3 i 6 = 0 then 1 else 0 := by unfold s_toTry; rw [s3, s6]
      have tr1 : 0 ≤ s_toTry X (3 + 1 + 1 + 2 * i) ∧ s_toTry X (3 + 1 + 1 + 2 * i) ≤ 1 := by unfold s_toTry; split <;> omega
      refine x_aload_n B dX1_slot_14 rfl ?_
      refine x_getC0 B (k := 2) hT rfl rfl xc_0 (by decide) h0 (Or.inl q400) (fun _ h => h) dX1_slot_15 (fun k_15 => ?_)
      refine x_getC1 B (k := 0) hT rfl rfl xc_2 (by decide) k_15 (Or.inr q244) (fun _ h => h) dX1_slot_18 (fun k_18 => ?_)
      refine x_iload_n B dX1_slot_21 rfl ?_
      refine x_aaldC B (t := 10) hT k_18 rfl rfl rfl rfl ⟨by omega, by omega⟩ dX1_slot_22 (fun k_22 => ?_)
      refine x_ast_3 B dX1_slot_23 (by first | rfl | exact x_cr _ _) ?_
      refine x_aload_n B dX1_slot_24 rfl ?_
      refine x_goP (x_rV B k_22 (show x_cl[3]? = some _ from rfl) (c_X3_isToTry hT (by assumption)) (lw_V q782 q783 q784 q115 q785) hv_X3_isToTry ⟨by decide, by decide⟩ ⟨by decide, by decide⟩ rfl rfl (by simp [x_cr, x_c1, x_c2]) dX1_slot_25) ?_
      refine x_if_ne B (tgt := 34) dX1_slot_28 (by decide) ⟨by omega, by omega⟩ (fun h_28 => ?_) (fun h_28 => ?_)
      · have hst : c_M X 3 i 3 > 0 ∧ c_M X 3 i 6 = 0 := by by_cases q : c_M X 3 i 3 > 0 ∧ c_M X 3 i 6 = 0; exact q; rw [et, if_neg q] at h_28; omega
        refine x_aload_n B dX1_slot_34 rfl ?_
        refine x_aload_n B dX1_slot_35 rfl ?_
        refine x_getC0 B (k := 2) hT rfl rfl xc_0 (by decide) h0 (Or.inl q400) (fun _ h => h) dX1_slot_36 (fun k_36 => ?_)
        refine x_getI B (k := 3) 3 rfl rfl xc_2 (by decide) k_36 (Or.inr q253) (fun _ h => h) dX1_slot_39 (fun r_39 => ?_)
        refine x_goP (x_rV B k_22 (show x_cl[3]? = some _ from rfl) (c_X3_least hT (by assumption) ⟨by omega, by omega⟩) (lw_V q777 q778 q779 q115 q780) hv_X3_least ⟨by decide, by decide⟩ ⟨by decide, by decide⟩ rfl rfl (by simp [x_cr, x_c1, x_c2]) dX1_slot_42) ?_
        refine x_istw_4 B dX1_slot_45 (by first | rfl | exact x_cr _ _) ?_
        have hlr : 1 ≤ s_least X (3 + 1 + 1 + 2 * i) (X 3 3) ∧ s_least X (3 + 1 + 1 + 2 * i) (X 3 3) ≤ 40 := by rw [← el]; exact ⟨mlr.2.2 (by omega), mlr.2.1⟩
        refine lp_47 _ _ (41 - s_least X (3 + 1 + 1 + 2 * i) (X 3 3)).toNat ⟨hi, ⟨by omega, by omega, by omega⟩, ?_⟩ (Nat.lt_succ_self _)
        unfold u_slot
        rw [if_pos ⟨by omega, by omega⟩, if_pos hst, el]
      · refine x_bipush B dX1_slot_31 (by decide) ?_
        refine x_iret B (fun _ _ h => h) ?_ dX1_slot_33
        exact ⟨congrArg (fun z => some (vi z)) (by unfold u_slot; rw [if_pos ⟨by omega, by omega⟩, if_neg (fun q => by rw [et, if_pos q] at h_28; omega)]), rfl⟩
    · refine x_iconst B dX1_slot_12 ?_
      refine x_iret B (fun _ _ h => h) ?_ dX1_slot_13
      exact ⟨congrArg (fun z => some (vi z)) (by unfold u_slot; rw [if_neg (by omega)]), rfl⟩
theorem c_X1_needs {l : Launch} {E : x_E} {κ : x_Ka} {X : x_X} {i j : Int} (hC : n_C κ X) (hi0 : xR i) (hj0 : xR j) : x_Pu l yX1_needs cX1_needs 7 (some .int) 5 E κ X [x_rf E 0, vi i, vi j] (vi (u_needs (X 1 2) (c_li X) (c_M X 3) i j)) := by
  refine x_Met.of [(false, x_rf E 0), (false, vi i), (false, vi j)] [some (x_rf E 0), some (vi i), some (vi j), none, none, none, none] 4 (by decide) rfl rfl ⟨x_cr E (0), rfl, rfl, trivial⟩ rfl rfl ?_
  intro p e s m args below meth c hargs hin B
  obtain ⟨hI, hP, hO, hW, hJ⟩ := id hC
  obtain ⟨hT, h0, hn, hl, hla⟩ := id hI
  have z1 := x_in_01 i 0 (X 1 2 - 1)
  have z2 := x_in_01 j 0 (X 1 2 - 1)
  have lp_100 : ∀ (n : Nat) (x : Int) (f : Nat) (rs : Int), ((0 ≤ i ∧ i < X 1 2) ∧ (0 ≤ j ∧ j < X 1 2) ∧ (1 ≤ x ∧ x ≤ 41 ∧ (f : Int) = 41 - x) ∧ (0 ≤ rs ∧ rs ≤ 120) ∧ rs = m_sum (c_M X 3) i - c_M X 3 i (10 + c_M X 3 (-1) 1) ∧ u_needs (X 1 2) (c_li X) (c_M X 3) i j = m_fl (fun x => decide (m_ah (c_li X i j) (m_sum (c_M X 3) i - c_M X 3 i (10 + c_M X 3 (-1) 1) + x) 0 (m_sum (c_M X 3) j) (c_M X 3 j 7) ≠ 0)) f x) → ((42 - x).toNat < n) → x_G p l e (x_rm 5 0 0) s m args below meth c 7 E 0 0 (MQ below (x_Q E κ (fun v_ X_ => v_ = some (vi (u_needs (X 1 2) (c_li X) (c_M X 3) i j)) ∧ X_ = X)) args s 0 0 (fun q => E.1 ≤ q)) κ 100 [some (x_rf E 0), some (vi i), some (vi j), some (x_rf E (3 + 1 + 1 + 2 * i)), some (x_rf E (3 + 1 + 1 + 2 * j)), some (vi rs), some (vi x)] [] X := by
    intro n
    induction n with
    | zero => intro x f rs hinv hme; exfalso; omega
    | succ n ih =>
      intro x f rs hinv hme
      obtain ⟨hi, hj, hx, hrr, hrs, hu⟩ := hinv
      have sj := c_sum (mo := 3) hj
      have j7 : c_M X 3 j 7 = X (3 + 1 + 1 + 2 * j) 7 := c_M_s hj (by omega)
      have sjr := m_sum_r hW hj.1 hj.2
      have hmr : 0 ≤ m_ah (c_li X i j) (rs + x) 0 (m_sum (c_M X 3) j) (c_M X 3 j 7) ∧ m_ah (c_li X i j) (rs + x) 0 (m_sum (c_M X 3) j) (c_M X 3 j 7) ≤ 1 := m_ah_r (m_li_r _ _ _ _) ((hW.2.1 j hj.1 hj.2).2.2.2.2.2.1)
      refine x_iload B dX1_needs_100 rfl ?_
      refine x_bipush B dX1_needs_102 (by decide) ?_
      refine x_icmp_gt B (tgt := 144) dX1_needs_104 (by decide) ⟨by omega, by omega⟩ ⟨by omega, by omega⟩ (fun h_104 => ?_) (fun h_104 => ?_)
      · refine x_bipush B dX1_needs_144 (by decide) ?_
        refine x_iret B (fun _ _ h => h) ?_ dX1_needs_146
        have f0 : f = 0 := by omega
        exact ⟨congrArg (fun z => some (vi z)) (by rw [hu, f0]; rfl), rfl⟩
      · refine x_aload_n B dX1_needs_107 rfl ?_
        refine x_getC0 B (k := 2) hT rfl rfl xc_0 (by decide) h0 (Or.inl q400) (fun _ h => h) dX1_needs_108 (fun k_108 => ?_)
        refine x_iload_n B dX1_needs_111 rfl ?_
        refine x_iload B dX1_needs_112 rfl ?_
        refine x_iload B dX1_needs_114 rfl ?_
        refine x_iadd B dX1_needs_116 ?_
        refine x_iconst B dX1_needs_117 ?_
        refine x_iload_n B dX1_needs_118 rfl ?_
        refine x_aload B dX1_needs_119 rfl ?_
        refine x_goP (x_rV B (x_std hT (show κ 3 = some (.inl (2, 1)) from hT.1 0 0 h0 2 (0, 3, .inl (2, 1)) rfl) (by omega) (by omega)) (show x_cl[3]? = some _ from rfl) (c_X3_sum hT (x_std hT (show κ 3 = some (.inl (2, 1)) from hT.1 0 0 h0 2 (0, 3, .inl (2, 1)) rfl) (by omega) (by omega))) (lw_V q789 q790 q791 q115 q792) hv_X3_sum ⟨by decide, by decide⟩ ⟨by decide, by decide⟩ rfl rfl (by simp [x_cr, x_c1, x_c2]) dX1_needs_121) ?_
        refine x_aload B dX1_needs_124 rfl ?_
        refine x_getZ B (k := 7) 7 rfl rfl xc_3 (by decide) (x_std hT (show κ 3 = some (.inl (2, 1)) from hT.1 0 0 h0 2 (0, 3, .inl (2, 1)) rfl) (by omega) (by omega)) (Or.inr q223) (fun _ h => h) dX1_needs_126 (fun r_126 => ?_)
        refine x_goP (x_rV B k_108 (show x_cl[2]? = some _ from rfl) (c_X2_isAhead_2 hI (show κ 3 = some (.inl (2, 1)) from hT.1 0 0 h0 2 (0, 3, .inl (2, 1)) rfl) hi hj ⟨by omega, by omega⟩ ⟨by rw [sj]; omega, by rw [sj]; omega⟩ ⟨by omega, by omega⟩ r_126) (lw_V q942 q927 q928 q114 q929) hv_X2_isAhead_2 ⟨by decide, by decide⟩ ⟨by decide, by decide⟩ rfl rfl (by simp [x_cr, x_c1, x_c2]) dX1_needs_129) ?_
        rw [sj, ← j7]
        refine x_if_eq B (tgt := 138) dX1_needs_132 (by decide) ⟨by omega, by omega⟩ (fun h_132 => ?_) (fun h_132 => ?_)
        · refine x_iinc_6 B dX1_needs_138 (by first | rfl | exact x_cr _ _) ?_
          refine x_goto B (tgt := 100) dX1_needs_141 (by decide) ?_
          refine ih _ (f - 1) _ ⟨hi, hj, ⟨by omega, by omega, by omega⟩, hrr, hrs, ?_⟩ (by omega)
          have hs := m_fl_s (P := (fun x => decide (m_ah (c_li X i j) (m_sum (c_M X 3) i - c_M X 3 i (10 + c_M X 3 (-1) 1) + x) 0 (m_sum (c_M X 3) j) (c_M X 3 j 7) ≠ 0))) (f := f - 1) (x := x) (by rw [← hrs]; simpa using h_132)
          rw [show f - 1 + 1 = f by omega] at hs
          rw [hu, hs]
        · refine x_iload B dX1_needs_135 rfl ?_
          refine x_iret B (fun _ _ h => h) ?_ dX1_needs_137
          have hs := m_fl_e (P := (fun x => decide (m_ah (c_li X i j) (m_sum (c_M X 3) i - c_M X 3 i (10 + c_M X 3 (-1) 1) + x) 0 (m_sum (c_M X 3) j) (c_M X 3 j 7) ≠ 0))) (f := f - 1) (x := x) (by rw [← hrs]; simpa using h_132)
          rw [show f - 1 + 1 = f by omega] at hs
          exact ⟨congrArg (fun z => some (vi z)) (by rw [hu, hs]), rfl⟩
  refine x_aload_n B dX1_needs_0 rfl ?_
  refine x_iload_n B dX1_needs_1 rfl ?_
  refine x_goP (x_rV B h0 (show x_cl[0]? = some _ from rfl) (c_X1_isLifter hI ⟨by omega, by omega⟩) (lw_V q735 q737 qs13 q110 q738) hv_X1_isLifter ⟨by decide, by decide⟩ ⟨by decide, by decide⟩ rfl rfl (by simp [x_cr, x_c1, x_c2]) dX1_needs_2) ?_
  refine x_if_eq B (tgt := 21) dX1_needs_5 (by decide) ⟨by omega, by omega⟩ (fun h_5 => ?_) (fun h_5 => ?_)
  · refine x_iconst B dX1_needs_21 ?_
    refine x_iret B (fun _ _ h => h) ?_ dX1_needs_22
    exact ⟨congrArg (fun z => some (vi z)) (by unfold u_needs; rw [if_neg (by omega)]), rfl⟩
  · refine x_aload_n B dX1_needs_8 rfl ?_
    refine x_iload_n B dX1_needs_9 rfl ?_
    refine x_goP (x_rV B h0 (show x_cl[0]? = some _ from rfl) (c_X1_isLifter hI ⟨by omega, by omega⟩) (lw_V q735 q737 qs13 q110 q738) hv_X1_isLifter ⟨by decide, by decide⟩ ⟨by decide, by decide⟩ rfl rfl (by simp [x_cr, x_c1, x_c2]) dX1_needs_10) ?_
    refine x_if_eq B (tgt := 21) dX1_needs_13 (by decide) ⟨by omega, by omega⟩ (fun h_13 => ?_) (fun h_13 => ?_)
    · refine x_iconst B dX1_needs_21 ?_
      refine x_iret B (fun _ _ h => h) ?_ dX1_needs_22
      exact ⟨congrArg (fun z => some (vi z)) (by unfold u_needs; rw [if_neg (by omega)]), rfl⟩
    · refine x_iload_n B dX1_needs_16 rfl ?_
      refine x_iload_n B dX1_needs_17 rfl ?_
      refine x_icmp_ne B (tgt := 23) dX1_needs_18 (by decide) ⟨by omega, by omega⟩ ⟨by omega, by omega⟩ (fun h_18 => ?_) (fun h_18 => ?_)
      · have hi : 0 ≤ i ∧ i < X 1 2 := by unfold x_in at h_5; split at h_5 <;> omega
        have hj : 0 ≤ j ∧ j < X 1 2 := by unfold x_in at h_13; split at h_13 <;> omega
        have z1 : x_in i 0 (X 1 2 - 1) = 1 := by omega
        have z2 : x_in j 0 (X 1 2 - 1) = 1 := by omega
        have r29 : 0 ≤ m_ahd (c_li X) (c_M X 3) i j ∧ m_ahd (c_li X) (c_M X 3) i j ≤ 1 := by unfold m_ahd; exact m_ah_r (m_li_r _ _ _ _) ((hW.2.1 j hj.1 hj.2).2.2.2.2.2.1)
        have wi := hW.2.1 i hi.1 hi.2
        have g3 : c_M X 3 (-1) 3 = X 3 3 := c_M_g (by omega)
        have s3 : c_M X 3 i 3 = X (3 + 1 + 1 + 2 * i) 3 := c_M_s hi (by omega)
        have s4 : c_M X 3 i 4 = X (3 + 1 + 1 + 2 * i) 4 := c_M_s hi (by omega)
        have s5 : c_M X 3 i 5 = X (3 + 1 + 1 + 2 * i) 5 := c_M_s hi (by omega)
        have s6 : c_M X 3 i 6 = X (3 + 1 + 1 + 2 * i) 6 := c_M_s hi (by omega)
        have s7 : c_M X 3 i 7 = X (3 + 1 + 1 + 2 * i) 7 := c_M_s hi (by omega)
        have g1 : c_M X 3 (-1) 1 = X 3 1 := c_M_g (by omega)
        have el : m_least (c_M X 3) i = s_least X (3 + 1 + 1 + 2 * i) (X 3 3) := by unfold m_least s_least; rw [s3, s6, s4, g3]
        have mlr := m_least_r hW hi.1 hi.2
        have si := c_sum (mo := 3) hi
        refine x_aload_n B dX1_needs_23 rfl ?_
        refine x_getC0 B (k := 2) hT rfl rfl xc_0 (by decide) h0 (Or.inl q400) (fun _ h => h) dX1_needs_24 (fun k_24 => ?_)
        refine x_iload_n B dX1_needs_27 rfl ?_
        refine x_iload_n B dX1_needs_28 rfl ?_
        refine x_goP (x_rV B k_24 (show x_cl[2]? = some _ from rfl) (c_X2_isAhead hI (show κ 3 = some (.inl (2, 1)) from hT.1 0 0 h0 2 (0, 3, .inl (2, 1)) rfl) hW hi hj) (lw_V q941 q922 q923 q114 q924) hv_X2_isAhead ⟨by decide, by decide⟩ ⟨by decide, by decide⟩ rfl rfl (by simp [x_cr, x_c1, x_c2]) dX1_needs_29) ?_
        refine x_if_eq B (tgt := 37) dX1_needs_32 (by decide) ⟨by omega, by omega⟩ (fun h_32 => ?_) (fun h_32 => ?_)
        · refine x_aload_n B dX1_needs_37 rfl ?_
          refine x_getC0 B (k := 2) hT rfl rfl xc_0 (by decide) h0 (Or.inl q400) (fun _ h => h) dX1_needs_38 (fun k_38 => ?_)
          refine x_getC1 B (k := 0) hT rfl rfl xc_2 (by decide) k_38 (Or.inr q244) (fun _ h => h) dX1_needs_41 (fun k_41 => ?_)
          refine x_iload_n B dX1_needs_44 rfl ?_
          refine x_aaldC B (t := 10) hT k_41 rfl rfl rfl rfl ⟨by omega, by omega⟩ dX1_needs_45 (fun k_45 => ?_)
          refine x_ast_3 B dX1_needs_46 (by first | rfl | exact x_cr _ _) ?_
          refine x_aload_n B dX1_needs_47 rfl ?_
          refine x_getC0 B (k := 2) hT rfl rfl xc_0 (by decide) h0 (Or.inl q400) (fun _ h => h) dX1_needs_48 (fun k_48 => ?_)
          refine x_getC1 B (k := 0) hT rfl rfl xc_2 (by decide) k_48 (Or.inr q244) (fun _ h => h) dX1_needs_51 (fun k_51 => ?_)
          refine x_iload_n B dX1_needs_54 rfl ?_
          refine x_aaldC B (t := 10) hT k_51 rfl rfl rfl rfl ⟨by omega, by omega⟩ dX1_needs_55 (fun k_55 => ?_)
          refine x_astw_4 B dX1_needs_56 (by first | rfl | exact x_cr _ _) ?_
          refine x_aload_n B dX1_needs_58 rfl ?_
          refine x_getI B (k := 3) 3 rfl rfl xc_3 (by decide) k_45 (Or.inr q211) (fun _ h => h) dX1_needs_59 (fun r_59 => ?_)
          refine x_if_ne B (tgt := 68) dX1_needs_62 (by decide) ⟨by omega, by omega⟩ (fun h_62 => ?_) (fun h_62 => ?_)
          · have w3 := hW.2.2 i hi.1 hi.2
            have w1 := hW.1
            have h7 : c_M X 3 i 7 = 0 := by rcases (show c_M X 3 i 7 = 0 ∨ c_M X 3 i 7 = 1 by omega) with q | q; exact q; exfalso; have := w3.1 q; omega
            have hl3 : c_M X 3 (-1) 1 ≠ 3 := fun q => by have := w3.2.1 q; omega
            have hrest := m_rest hW hi.1 hi.2 h7 hl3
            have sb : c_M X 3 i (10 + c_M X 3 (-1) 1) = X (3 + 1 + 1 + 2 * i + 1) (X 3 1) := by rw [c_M_b hi (by omega), g1]; congr 1; omega
            refine x_aload_n B dX1_needs_68 rfl ?_
            refine x_goP (x_rV B k_45 (show x_cl[3]? = some _ from rfl) (c_X3_sum hT (by assumption)) (lw_V q789 q790 q791 q115 q792) hv_X3_sum ⟨by decide, by decide⟩ ⟨by decide, by decide⟩ rfl rfl (by simp [x_cr, x_c1, x_c2]) dX1_needs_69) ?_
            refine x_aload_n B dX1_needs_72 rfl ?_
            refine x_getC1 B (k := 0) hT rfl rfl xc_3 (by decide) k_45 (Or.inr q196) (fun _ h => h) dX1_needs_73 (fun k_73 => ?_)
            refine x_aload_n B dX1_needs_76 rfl ?_
            refine x_getC0 B (k := 2) hT rfl rfl xc_0 (by decide) h0 (Or.inl q400) (fun _ h => h) dX1_needs_77 (fun k_77 => ?_)
            refine x_getI B (k := 1) 1 rfl rfl xc_2 (by decide) k_77 (Or.inr q248) (fun _ h => h) dX1_needs_80 (fun r_80 => ?_)
            refine x_iald B k_73 ⟨by omega, by omega⟩ dX1_needs_83 (fun r_83 => ?_)
            refine x_isub B dX1_needs_84 ?_
            refine x_istw_5 B dX1_needs_85 (by first | rfl | exact x_cr _ _) ?_
            refine x_aload_n B dX1_needs_87 rfl ?_
            refine x_aload_n B dX1_needs_88 rfl ?_
            refine x_getC0 B (k := 2) hT rfl rfl xc_0 (by decide) h0 (Or.inl q400) (fun _ h => h) dX1_needs_89 (fun k_89 => ?_)
            refine x_getI B (k := 3) 3 rfl rfl xc_2 (by decide) k_89 (Or.inr q253) (fun _ h => h) dX1_needs_92 (fun r_92 => ?_)
            refine x_goP (x_rV B k_45 (show x_cl[3]? = some _ from rfl) (c_X3_least hT (by assumption) ⟨by omega, by omega⟩) (lw_V q777 q778 q779 q115 q780) hv_X3_least ⟨by decide, by decide⟩ ⟨by decide, by decide⟩ rfl rfl (by simp [x_cr, x_c1, x_c2]) dX1_needs_95) ?_
            refine x_istw_6 B dX1_needs_98 (by first | rfl | exact x_cr _ _) ?_
            have hlr : 1 ≤ s_least X (3 + 1 + 1 + 2 * i) (X 3 3) ∧ s_least X (3 + 1 + 1 + 2 * i) (X 3 3) ≤ 40 := by rw [← el]; exact ⟨mlr.2.2 (by omega), mlr.2.1⟩
            refine lp_100 _ _ (41 - s_least X (3 + 1 + 1 + 2 * i) (X 3 3)).toNat _ ⟨hi, hj, ⟨by omega, by omega, by omega⟩, by rw [si, ← sb]; omega, by rw [si, sb], ?_⟩ (Nat.lt_succ_self _)
            unfold u_needs
            rw [if_pos ⟨z1, z2, by omega⟩, if_neg (by omega), if_neg (by omega), el]
          · refine x_bipush B dX1_needs_65 (by decide) ?_
            refine x_iret B (fun _ _ h => h) ?_ dX1_needs_67
            exact ⟨congrArg (fun z => some (vi z)) (by unfold u_needs; rw [if_pos ⟨z1, z2, by omega⟩, if_neg (by omega), if_pos (by omega)]), rfl⟩
        · refine x_iconst B dX1_needs_35 ?_
          refine x_iret B (fun _ _ h => h) ?_ dX1_needs_36
          exact ⟨congrArg (fun z => some (vi z)) (by unfold u_needs; rw [if_pos ⟨z1, z2, by omega⟩, if_pos (by omega)]), rfl⟩
      · refine x_iconst B dX1_needs_21 ?_
        refine x_iret B (fun _ _ h => h) ?_ dX1_needs_22
        exact ⟨congrArg (fun z => some (vi z)) (by unfold u_needs; rw [if_neg (by omega)]), rfl⟩
