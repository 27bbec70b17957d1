def hr8 (X Y : x_X) : Prop := Y 65 = X 65 ∧ Y 64 1 = X 64 1
theorem w80.r {X Y : x_X} (h : w80 X Y) : hr8 X Y := ⟨h 65 (by omega), by rw [h 64 (by omega)]⟩
theorem w801.r {X Y : x_X} (h : w801 X Y) : hr8 X Y := ⟨h 65 (by omega) (by omega), by rw [h 64 (by omega) (by omega)]⟩
theorem w802.r {X Y : x_X} (h : w802 X Y) : hr8 X Y := ⟨h 65 (by omega) (by omega) (by omega), by rw [h 64 (by omega) (by omega) (by omega)]⟩
theorem hr8.trans {X Y Z : x_X} (h : hr8 X Y) (h2 : hr8 Y Z) : hr8 X Z := ⟨h2.1.trans h.1, h2.2.trans h.2⟩
theorem hr8.z {X : x_X} : hr8 X (x_up X 64 0 0) := ⟨x_up_o _ (by omega), x_up_n _ (Or.inr (by omega))⟩
theorem h_eq.z {X : x_X} : h_eq X (x_up X 64 0 0) := (h_eq.rf X).u64 (Or.inl rfl)
theorem c_X8_mass {l : Launch} {E : x_E} {κ : x_Ka} {X : x_X} {i : Int} (hC : t_C κ X) (hx : xR i) : x_Met l yX8_mass cX8_mass 2 (some .int) 29 0 0 E κ X [x_rf E 64, vi i] κ (fun v_ Y_ => v_ = some (vi (if x_in i 0 (X 64 3 - 1) = 1 then q8_pl X (fun v => 1000 * v) i else -1)) ∧ h_eq X Y_ ∧ hr8 X Y_) := by
  refine x_Met.of [(false, x_rf E 64), (false, vi i)] [some (x_rf E 64), some (vi i)] 0 (by decide) rfl rfl ⟨x_cr E (64), rfl, trivial⟩ rfl rfl ?_
  intro p e s m args below meth c hargs hin B
  obtain ⟨hK, hP, hO, hW, hLa⟩ := id hC
  obtain ⟨hT, h8, hn⟩ := id hK
  have z1 := x_in_01 i 0 (X 64 3 - 1)
  refine x_aload_n B dX8_mass_0 rfl ?_
  refine x_iconst B dX8_mass_1 ?_
  refine x_putI B (k := 0) 0 rfl rfl rfl ⟨by omega, by omega⟩ xc_7 (by decide) rfl nn_7_0 (fun _ => rfl) h8 (Or.inl q1335) (fun _ h => h) dX8_mass_2 ?_
  have hz : h_eq X (x_up X 64 0 0) := h_eq.z
  have hrz : hr8 X (x_up X 64 0 0) := hr8.z
  have C0 := hz.C hC
  obtain ⟨e3, eM, el, eli, ep, eO, eG⟩ := hz.v
  generalize hX0 : x_up X 64 0 0 = X0 at hz hrz C0 e3 eM el eli ep eO eG ⊢
  obtain ⟨hK0, hP0, hO0, hW0, hL0⟩ := id C0
  refine x_aload_n B dX8_mass_5 rfl ?_
  refine x_iload_n B dX8_mass_6 rfl ?_
  refine x_goP (x_rV B h8 (show x_cl[7]? = some _ from rfl) (c_X8_isLifter hK0 hx) (lw_V q1553 q1555 qs57 q122 q1556) hv_X8_isLifter ⟨by decide, by decide⟩ ⟨by decide, by decide⟩ rfl rfl (by simp [x_cr, x_c1, x_c2]) dX8_mass_7) ?_
  rw [e3]
  refine x_if_ne B (tgt := 15) dX8_mass_10 (by decide) ⟨by omega, by omega⟩ (fun h_10 => ?_) (fun h_10 => ?_)
  · have hi : 0 ≤ i ∧ i < X 64 3 := by unfold x_in at h_10; split at h_10 <;> omega
    refine x_aload_n B dX8_mass_15 rfl ?_
    refine x_go (x_rV B h8 (show x_cl[7]? = some _ from rfl) (c_X8_aimsMass hT h8) (lw_V q1689 q1691 qs75 q122 q1692) hv_X8_aimsMass ⟨by decide, by decide⟩ ⟨by decide, by decide⟩ rfl rfl (by simp [x_cr, x_c1, x_c2]) dX8_mass_16) (fun v_16 X_16 p_16 => ?_)
    obtain ⟨rfl, hw, hv⟩ := p_16
    have hh := hz.trans hw.h
    have C2 := hh.C hC
    have y3 : X_16 64 3 = X 64 3 := hh.v.1
    refine x_aload_n B dX8_mass_19 rfl ?_
    refine x_iload_n B dX8_mass_20 rfl ?_
    refine x_goP (x_rV B h8 (show x_cl[7]? = some _ from rfl) (c_X8_planNow C2 (by rw [y3]; exact hi) (fun v v1 v2 => by rw [hv v v1 v2]; omega)) (lw_V q1693 q1695 qs76 q122 q1696) hv_X8_planNow ⟨by decide, by decide⟩ ⟨by decide, by decide⟩ rfl rfl (by simp [x_cr, x_c1, x_c2]) dX8_mass_21) ?_
    rw [q8_c C2 (by rw [y3]; exact hi) hv, hh.q]
    refine x_iret B (fun _ _ h => h) ?_ dX8_mass_24
    exact ⟨by rw [if_pos (by omega)], hh, hrz.trans hw.r⟩
  · refine x_iconst B dX8_mass_13 ?_
    refine x_iret B (fun _ _ h => h) ?_ dX8_mass_14
    exact ⟨by rw [if_neg (by omega)], hz, hrz⟩
theorem c_X8_chance {l : Launch} {E : x_E} {κ : x_Ka} {X : x_X} {i w : Int} (hC : t_C κ X) (hx : xR i) (hy : xR w) : x_Met l yX8_chance cX8_chance 3 (some .int) 30 0 0 E κ X [x_rf E 64, vi i, vi w] κ (fun v_ Y_ => v_ = some (vi (if x_in i 0 (X 64 3 - 1) = 1 ∧ x_in w 0 121 = 1 then q8_ch X i w else -1)) ∧ h_eq X Y_ ∧ hr8 X Y_) := by
  refine x_Met.of [(false, x_rf E 64), (false, vi i), (false, vi w)] [some (x_rf E 64), some (vi i), some (vi w)] 0 (by decide) rfl rfl ⟨x_cr E (64), rfl, rfl, trivial⟩ rfl rfl ?_
  intro p e s m args below meth c hargs hin B
  obtain ⟨hK, hP, hO, hW, hLa⟩ := id hC
  obtain ⟨hT, h8, hn⟩ := id hK
  have z1 := x_in_01 i 0 (X 64 3 - 1)
  have z2 := x_in_01 w 0 121
  refine x_aload_n B dX8_chance_0 rfl ?_
  refine x_iconst B dX8_chance_1 ?_
  refine x_putI B (k := 0) 0 rfl rfl rfl ⟨by omega, by omega⟩ xc_7 (by decide) rfl nn_7_0 (fun _ => rfl) h8 (Or.inl q1335) (fun _ h => h) dX8_chance_2 ?_
  have hz : h_eq X (x_up X 64 0 0) := h_eq.z
  have hrz : hr8 X (x_up X 64 0 0) := hr8.z
  have C0 := hz.C hC
  obtain ⟨e3, eM, el, eli, ep, eO, eG⟩ := hz.v
  generalize hX0 : x_up X 64 0 0 = X0 at hz hrz C0 e3 eM el eli ep eO eG ⊢
  obtain ⟨hK0, hP0, hO0, hW0, hL0⟩ := id C0
  refine x_aload_n B dX8_chance_5 rfl ?_
  refine x_iload_n B dX8_chance_6 rfl ?_
  refine x_goP (x_rV B h8 (show x_cl[7]? = some _ from rfl) (c_X8_isLifter hK0 hx) (lw_V q1553 q1555 qs57 q122 q1556) hv_X8_isLifter ⟨by decide, by decide⟩ ⟨by decide, by decide⟩ rfl rfl (by simp [x_cr, x_c1, x_c2]) dX8_chance_7) ?_
  rw [e3]
  refine x_if_eq B (tgt := 29) dX8_chance_10 (by decide) ⟨by omega, by omega⟩ (fun h_10 => ?_) (fun h_10 => ?_)
  · refine x_iconst B dX8_chance_29 ?_
    refine x_iret B (fun _ _ h => h) ?_ dX8_chance_30
    first
    | (rw [if_neg (by omega)]; exact ⟨rfl, hz, hrz⟩)
    | (rw [if_pos ⟨by omega, by omega⟩]; exact ⟨rfl, hz.trans hw.h, hrz.trans hw.r⟩)
  · refine x_iload_n B dX8_chance_13 rfl ?_
    refine x_goP (x_rS B (c_X8_isTotal ⟨by omega, by omega⟩) (lw_S q1721 q1722 q122 q1723) hd_X8_isTotal ⟨by decide, by decide⟩ ⟨by decide, by decide⟩ rfl rfl (by simp [x_cr, x_c1, x_c2]) dX8_chance_14) ?_
    refine x_if_eq B (tgt := 29) dX8_chance_17 (by decide) ⟨by omega, by omega⟩ (fun h_17 => ?_) (fun h_17 => ?_)
    · refine x_iconst B dX8_chance_29 ?_
      refine x_iret B (fun _ _ h => h) ?_ dX8_chance_30
      first
      | (rw [if_neg (by omega)]; exact ⟨rfl, hz, hrz⟩)
      | (rw [if_pos ⟨by omega, by omega⟩]; exact ⟨rfl, hz.trans hw.h, hrz.trans hw.r⟩)
    · have hi : 0 ≤ i ∧ i < X 64 3 := by unfold x_in at h_10; split at h_10 <;> omega
      refine x_aload_n B dX8_chance_20 rfl ?_
      refine x_iload_n B dX8_chance_21 rfl ?_
      refine x_iload_n B dX8_chance_22 rfl ?_
      refine x_go (x_rV B h8 (show x_cl[7]? = some _ from rfl) (c_X8_chanceOf C0 (by rw [e3]; exact hi) hy) (lw_V q1725 q1727 qs81 q122 q1728) hv_X8_chanceOf ⟨by decide, by decide⟩ ⟨by decide, by decide⟩ rfl rfl (by simp [x_cr, x_c1, x_c2]) dX8_chance_23) (fun v_23 X_23 p_23 => ?_)
      obtain ⟨rfl, hw⟩ := p_23
      rw [hz.ch]
      refine x_goto B (tgt := 30) dX8_chance_26 (by decide) ?_
      refine x_iret B (fun _ _ h => h) ?_ dX8_chance_30
      first
      | (rw [if_neg (by omega)]; exact ⟨rfl, hz, hrz⟩)
      | (rw [if_pos ⟨by omega, by omega⟩]; exact ⟨rfl, hz.trans hw.h, hrz.trans hw.r⟩)
theorem c_X8_beats {l : Launch} {E : x_E} {κ : x_Ka} {X : x_X} {i j : Int} (hC : t_C κ X) (hx : xR i) (hy : xR j) : x_Met l yX8_beats cX8_beats 3 (some .int) 32 0 0 E κ X [x_rf E 64, vi i, vi j] κ (fun v_ Y_ => v_ = some (vi (if x_in i 0 (X 64 3 - 1) = 1 ∧ x_in j 0 (X 64 3 - 1) = 1 ∧ i ≠ j then q8_pl X (q8_bt X i j) i else -1)) ∧ h_eq X Y_ ∧ hr8 X Y_) := by
  refine x_Met.of [(false, x_rf E 64), (false, vi i), (false, vi j)] [some (x_rf E 64), some (vi i), some (vi j)] 0 (by decide) rfl rfl ⟨x_cr E (64), rfl, rfl, trivial⟩ rfl rfl ?_
  intro p e s m args below meth c hargs hin B
  obtain ⟨hK, hP, hO, hW, hLa⟩ := id hC
  obtain ⟨hT, h8, hn⟩ := id hK
  have z1 := x_in_01 i 0 (X 64 3 - 1)
  have z2 := x_in_01 j 0 (X 64 3 - 1)
  refine x_aload_n B dX8_beats_0 rfl ?_
  refine x_iconst B dX8_beats_1 ?_
  refine x_putI B (k := 0) 0 rfl rfl rfl ⟨by omega, by omega⟩ xc_7 (by decide) rfl nn_7_0 (fun _ => rfl) h8 (Or.inl q1335) (fun _ h => h) dX8_beats_2 ?_
  have hz : h_eq X (x_up X 64 0 0) := h_eq.z
  have hrz : hr8 X (x_up X 64 0 0) := hr8.z
  have C0 := hz.C hC
  obtain ⟨e3, eM, el, eli, ep, eO, eG⟩ := hz.v
  generalize hX0 : x_up X 64 0 0 = X0 at hz hrz C0 e3 eM el eli ep eO eG ⊢
  obtain ⟨hK0, hP0, hO0, hW0, hL0⟩ := id C0
  refine x_aload_n B dX8_beats_5 rfl ?_
  refine x_iload_n B dX8_beats_6 rfl ?_
  refine x_goP (x_rV B h8 (show x_cl[7]? = some _ from rfl) (c_X8_isLifter hK0 hx) (lw_V q1553 q1555 qs57 q122 q1556) hv_X8_isLifter ⟨by decide, by decide⟩ ⟨by decide, by decide⟩ rfl rfl (by simp [x_cr, x_c1, x_c2]) dX8_beats_7) ?_
  rw [e3]
  refine x_if_eq B (tgt := 26) dX8_beats_10 (by decide) ⟨by omega, by omega⟩ (fun h_10 => ?_) (fun h_10 => ?_)
  · refine x_iconst B dX8_beats_26 ?_
    refine x_iret B (fun _ _ h => h) ?_ dX8_beats_27
    exact ⟨by rw [if_neg (by omega)], hz, hrz⟩
  · refine x_aload_n B dX8_beats_13 rfl ?_
    refine x_iload_n B dX8_beats_14 rfl ?_
    refine x_goP (x_rV B h8 (show x_cl[7]? = some _ from rfl) (c_X8_isLifter hK0 hy) (lw_V q1553 q1555 qs57 q122 q1556) hv_X8_isLifter ⟨by decide, by decide⟩ ⟨by decide, by decide⟩ rfl rfl (by simp [x_cr, x_c1, x_c2]) dX8_beats_15) ?_
    rw [e3]
    refine x_if_eq B (tgt := 26) dX8_beats_18 (by decide) ⟨by omega, by omega⟩ (fun h_18 => ?_) (fun h_18 => ?_)
    · refine x_iconst B dX8_beats_26 ?_
      refine x_iret B (fun _ _ h => h) ?_ dX8_beats_27
      exact ⟨by rw [if_neg (by omega)], hz, hrz⟩
    · refine x_iload_n B dX8_beats_21 rfl ?_
      refine x_iload_n B dX8_beats_22 rfl ?_
      refine x_icmp_ne B (tgt := 28) dX8_beats_23 (by decide) ⟨by omega, by omega⟩ ⟨by omega, by omega⟩ (fun h_23 => ?_) (fun h_23 => ?_)
      · have hi : 0 ≤ i ∧ i < X 64 3 := by unfold x_in at h_10; split at h_10 <;> omega
        have hj : 0 ≤ j ∧ j < X 64 3 := by unfold x_in at h_18; split at h_18 <;> omega
        refine x_aload_n B dX8_beats_28 rfl ?_
        refine x_iload_n B dX8_beats_29 rfl ?_
        refine x_iload_n B dX8_beats_30 rfl ?_
        refine x_go (x_rV B h8 (show x_cl[7]? = some _ from rfl) (c_X8_aimsBeat C0 (by rw [e3]; exact hi) (by rw [e3]; exact hj)) (lw_V q1746 q1748 qs84 q122 q1749) hv_X8_aimsBeat ⟨by decide, by decide⟩ ⟨by decide, by decide⟩ rfl rfl (by simp [x_cr, x_c1, x_c2]) dX8_beats_31) (fun v_31 X_31 p_31 => ?_)
        obtain ⟨rfl, hw, hv⟩ := p_31
        have hh := hz.trans hw.h
        have C2 := hh.C hC
        have y3 : X_31 64 3 = X 64 3 := hh.v.1
        rw [hz.bt] at hv
        refine x_aload_n B dX8_beats_34 rfl ?_
        refine x_iload_n B dX8_beats_35 rfl ?_
        refine x_goP (x_rV B h8 (show x_cl[7]? = some _ from rfl) (c_X8_planNow C2 (by rw [y3]; exact hi) (fun v v1 v2 => by rw [hv v v1 v2]; exact q8_bt_r hC hj)) (lw_V q1693 q1695 qs76 q122 q1696) hv_X8_planNow ⟨by decide, by decide⟩ ⟨by decide, by decide⟩ rfl rfl (by simp [x_cr, x_c1, x_c2]) dX8_beats_36) ?_
        rw [q8_c C2 (by rw [y3]; exact hi) hv, hh.q]
        refine x_iret B (fun _ _ h => h) ?_ dX8_beats_39
        exact ⟨by rw [if_pos ⟨by omega, by omega, by omega⟩], hh, hrz.trans hw.r⟩
      · refine x_iconst B dX8_beats_26 ?_
        refine x_iret B (fun _ _ h => h) ?_ dX8_beats_27
        exact ⟨by rw [if_neg (by omega)], hz, hrz⟩
theorem g_wn_r {κ : x_Ka} {X : x_X} {a : Int} (hC : t_C κ X) : ∀ v, 0 ≤ v → v ≤ 120 → 0 ≤ g_wn (q8_bt X) (X 64 3) a v ∧ g_wn (q8_bt X) (X 64 3) a v ≤ 1000000 := fun v v1 v2 => by
  have hn := hC.1.2.2
  have := g_wf_r (bt := q8_bt X) (i := a) (v := v) (X 64 3).toNat (fun j j1 j2 => q8_bt_r hC ⟨j1, by omega⟩)
  unfold g_wn
  split <;> omega
theorem h_eq.wn {X Y : x_X} (h : h_eq X Y) : g_wn (q8_bt Y) (Y 64 3) = g_wn (q8_bt X) (X 64 3) := by rw [h.bt, h.v.1]
theorem c_X8_winOf {l : Launch} {E : x_E} {κ : x_Ka} {X : x_X} {a : Int} (hC : t_C κ X) (ha : 0 ≤ a ∧ a < X 64 3) : x_Met l yX8_winOf cX8_winOf 2 (some .int) 32 0 0 E κ X [x_rf E 64, vi a] κ (fun v_ Y_ => v_ = some (vi (q8_pl X (g_wn (q8_bt X) (X 64 3) a) a)) ∧ w802 X Y_) := by
  refine x_Met.of [(false, x_rf E 64), (false, vi a)] [some (x_rf E 64), some (vi a)] 0 (by decide) rfl rfl ⟨x_cr E (64), rfl, trivial⟩ rfl rfl ?_
  intro p e s m args below meth c hargs hin B
  obtain ⟨hK, hP, hO, hW, hLa⟩ := id hC
  obtain ⟨hT, h8, hn⟩ := id hK
  refine x_aload_n B dX8_winOf_0 rfl ?_
  refine x_iload_n B dX8_winOf_1 rfl ?_
  refine x_go (x_rV B h8 (show x_cl[7]? = some _ from rfl) (c_X8_aimsWin hC ha) (lw_V q1762 q1764 qs87 q122 q1765) hv_X8_aimsWin ⟨by decide, by decide⟩ ⟨by decide, by decide⟩ rfl rfl (by simp [x_cr, x_c1, x_c2]) dX8_winOf_2) (fun v_2 X_2 p_2 => ?_)
  obtain ⟨rfl, hw, hv⟩ := p_2
  have hh := hw.h
  have C2 := hh.C hC
  have y3 : X_2 64 3 = X 64 3 := hh.v.1
  refine x_aload_n B dX8_winOf_5 rfl ?_
  refine x_iload_n B dX8_winOf_6 rfl ?_
  refine x_goP (x_rV B h8 (show x_cl[7]? = some _ from rfl) (c_X8_planNow C2 (by rw [y3]; exact ha) (fun v v1 v2 => by rw [hv v v1 v2]; exact g_wn_r hC v v1 v2)) (lw_V q1693 q1695 qs76 q122 q1696) hv_X8_planNow ⟨by decide, by decide⟩ ⟨by decide, by decide⟩ rfl rfl (by simp [x_cr, x_c1, x_c2]) dX8_winOf_7) ?_
  rw [q8_c C2 (by rw [y3]; exact ha) hv, hh.q]
  refine x_iret B (fun _ _ h => h) ?_ dX8_winOf_10
  exact ⟨rfl, hw⟩
theorem c_X8_wins {l : Launch} {E : x_E} {κ : x_Ka} {X : x_X} {i : Int} (hC : t_C κ X) (hx : xR i) : x_Met l yX8_wins cX8_wins 3 (some .int) 33 0 0 E κ X [x_rf E 64, vi i] κ (fun v_ Y_ => h_eq X Y_ ∧ (if x_in i 0 (X 64 3 - 1) = 1 then (v_ = some (vi (q8_pl X (g_wn (q8_bt X) (X 64 3) i) i)) ∧ Y_ 64 1 = X 64 3 ∧ ∀ j, 0 ≤ j → j < X 64 3 → Y_ 65 j = q8_pl X (g_wn (q8_bt X) (X 64 3) j) j) else (v_ = some (vi (-1)) ∧ hr8 X Y_))) := by
  refine x_Met.of [(false, x_rf E 64), (false, vi i)] [some (x_rf E 64), some (vi i), none] 1 (by decide) rfl rfl ⟨x_cr E (64), rfl, trivial⟩ rfl rfl ?_
  intro p e s m args below meth c hargs hin B
  obtain ⟨hK, hP, hO, hW, hLa⟩ := id hC
  obtain ⟨hT, h8, hn⟩ := id hK
  have z1 := x_in_01 i 0 (X 64 3 - 1)
  have lp_22 : ∀ (n : Nat) (k : Int) (Y : x_X), ((0 ≤ i ∧ i < X 64 3) ∧ (0 ≤ k ∧ k ≤ X 64 3) ∧ h_eq X Y ∧ Y 64 1 = k ∧ ∀ j, 0 ≤ j → j < k → Y 65 j = q8_pl X (g_wn (q8_bt X) (X 64 3) j) j) → ((7 - k).toNat < n) → x_G p l e (x_rm 33 0 0) s m args below meth c 3 E 0 0 (MQ below (x_Q E κ (fun v_ Y_ => h_eq X Y_ ∧ (if x_in i 0 (X 64 3 - 1) = 1 then (v_ = some (vi (q8_pl X (g_wn (q8_bt X) (X 64 3) i) i)) ∧ Y_ 64 1 = X 64 3 ∧ ∀ j, 0 ≤ j → j < X 64 3 → Y_ 65 j = q8_pl X (g_wn (q8_bt X) (X 64 3) j) j) else (v_ = some (vi (-1)) ∧ hr8 X Y_)))) args s 0 0 (fun q => E.1 ≤ q)) κ 22 [some (x_rf E 64), some (vi i), some (vi k)] [] Y := by
    intro n
    induction n with
    | zero => intro k Y hinv hme; exfalso; omega
    | succ n ih =>
      intro k Y hinv hme
      obtain ⟨hi, hk, hh, h1, hr⟩ := hinv
      have CY := hh.C hC
      have y3 : Y 64 3 = X 64 3 := hh.v.1
      refine x_iload_n B dX8_wins_22 rfl ?_
      refine x_aload_n B dX8_wins_23 rfl ?_
      refine x_getI B (k := 3) 3 rfl rfl xc_7 (by decide) h8 (Or.inl q1338) (fun _ h => h) dX8_wins_24 (fun r_24 => ?_)
      rw [y3] at r_24 ⊢
      refine x_icmp_ge B (tgt := 46) dX8_wins_27 (by decide) ⟨by omega, by omega⟩ ⟨by omega, by omega⟩ (fun h_27 => ?_) (fun h_27 => ?_)
      · obtain rfl : k = X 64 3 := by omega
        refine x_aload_n B dX8_wins_46 rfl ?_
        refine x_getC0 B (k := 2) hT rfl rfl xc_7 (by decide) h8 (Or.inl q1337) (fun _ h => h) dX8_wins_47 (fun k_47 => ?_)
        refine x_iload_n B dX8_wins_50 rfl ?_
        refine x_lald B k_47 ⟨by omega, by omega⟩ dX8_wins_51 (fun r_51 => ?_)
        rw [hr i hi.1 hi.2]
        refine x_l2i B dX8_wins_52 ?_
        refine x_iret B (fun _ _ h => h) ?_ dX8_wins_53
        refine ⟨hh, ?_⟩
        rw [if_pos (by unfold x_in; rw [if_pos (by omega)])]
        exact ⟨rfl, h1, hr⟩
      · refine x_aload_n B dX8_wins_30 rfl ?_
        refine x_aload_n B dX8_wins_31 rfl ?_
        refine x_iload_n B dX8_wins_32 rfl ?_
        refine x_go (x_rV B h8 (show x_cl[7]? = some _ from rfl) (c_X8_winOf CY (by rw [y3]; exact ⟨hk.1, by omega⟩)) (lw_V q1758 q1760 qs86 q122 q1761) hv_X8_winOf ⟨by decide, by decide⟩ ⟨by decide, by decide⟩ rfl rfl (by simp [x_cr, x_c1, x_c2]) dX8_wins_33) (fun v_33 X_33 p_33 => ?_)
        obtain ⟨rfl, hw33⟩ := p_33
        have hh33 := hh.trans hw33.h
        rw [hh.q, hh.wn]
        have hqr := q8_r hC (a := k) ⟨hk.1, by omega⟩ (g_wn_r (a := k) hC)
        have x1 : X_33 64 1 = k := by rw [hw33.r.2]; exact h1
        refine x_i2l B dX8_wins_36 ⟨by omega, by omega⟩ ?_
        refine x_goV (x_rV B h8 (show x_cl[7]? = some _ from rfl) (c_X8_notes hT h8 ⟨by omega, by omega⟩ ⟨by omega, by omega⟩) (lw_V q1616 q1618 qs65 q122 q1619) hv_X8_notes ⟨by decide, by decide⟩ ⟨by decide, by decide⟩ rfl rfl (by simp [x_cr, x_c1, x_c2]) dX8_wins_37) ?_
        change x_G _ _ _ _ _ _ _ _ _ _ _ _ _ _ _ _ _ _ _ (t_tl X_33 (q8_pl X (g_wn (q8_bt X) (X 64 3) k) k))
        refine x_iinc_2 B dX8_wins_40 (by first | rfl | exact x_cr _ _) ?_
        refine x_goto B (tgt := 22) dX8_wins_43 (by decide) ?_
        have et := t_tl1 X_33 (q8_pl X (g_wn (q8_bt X) (X 64 3) k) k) x1
        refine ih _ _ ⟨hi, ⟨by omega, by omega⟩, hh33.tl, et.1, fun j j1 j2 => ?_⟩ (by omega)
        by_cases e : j = k
        · rw [e]; exact et.2.1
        · exact (et.2.2 j e).trans ((congrFun hw33.r.1 j).trans (hr j j1 (by omega)))
  refine x_aload_n B dX8_wins_0 rfl ?_
  refine x_iconst B dX8_wins_1 ?_
  refine x_putI B (k := 0) 0 rfl rfl rfl ⟨by omega, by omega⟩ xc_7 (by decide) rfl nn_7_0 (fun _ => rfl) h8 (Or.inl q1335) (fun _ h => h) dX8_wins_2 ?_
  have hz : h_eq X (x_up X 64 0 0) := h_eq.z
  have hrz : hr8 X (x_up X 64 0 0) := hr8.z
  have C0 := hz.C hC
  obtain ⟨e3, eM, el, eli, ep, eO, eG⟩ := hz.v
  generalize hX0 : x_up X 64 0 0 = X0 at hz hrz C0 e3 eM el eli ep eO eG ⊢
  obtain ⟨hK0, hP0, hO0, hW0, hL0⟩ := id C0
  refine x_aload_n B dX8_wins_5 rfl ?_
  refine x_iload_n B dX8_wins_6 rfl ?_
  refine x_goP (x_rV B h8 (show x_cl[7]? = some _ from rfl) (c_X8_isLifter hK0 hx) (lw_V q1553 q1555 qs57 q122 q1556) hv_X8_isLifter ⟨by decide, by decide⟩ ⟨by decide, by decide⟩ rfl rfl (by simp [x_cr, x_c1, x_c2]) dX8_wins_7) ?_
  rw [e3]
  refine x_if_ne B (tgt := 15) dX8_wins_10 (by decide) ⟨by omega, by omega⟩ (fun h_10 => ?_) (fun h_10 => ?_)
  · have hi : 0 ≤ i ∧ i < X 64 3 := by unfold x_in at h_10; split at h_10 <;> omega
    refine x_aload_n B dX8_wins_15 rfl ?_
    refine x_iconst B dX8_wins_16 ?_
    refine x_putI B (k := 1) 1 rfl rfl rfl ⟨by omega, by omega⟩ xc_7 (by decide) rfl nn_7_1 (fun _ => rfl) h8 (Or.inl q1336) (fun _ h => h) dX8_wins_17 ?_
    refine x_iconst B dX8_wins_20 ?_
    refine x_ist_2 B dX8_wins_21 (by first | rfl | exact x_cr _ _) ?_
    exact lp_22 _ 0 _ ⟨hi, ⟨by omega, by omega⟩, hz.u64 (Or.inr (Or.inl rfl)), x_up_s _ _ _ _, fun j j1 j2 => by omega⟩ (Nat.lt_succ_self _)
  · refine x_iconst B dX8_wins_13 ?_
    refine x_iret B (fun _ _ h => h) ?_ dX8_wins_14
    exact ⟨hz, by rw [if_neg (by omega)]; exact ⟨rfl, hrz⟩⟩
theorem l_mb {d : Int → Int} (h0 : 0 ≤ d 0) : ∀ k : Nat, l_m d (k + 1) = d (l_b d (k + 1)) ∧ 0 ≤ l_m d (k + 1)
  | 0 => by
    have h1 : l_m d 0 = -1 := rfl
    unfold l_m l_b
    rw [h1, show ((0 : Nat) : Int) = 0 from rfl, if_neg (by omega), if_neg (by omega)]
    exact ⟨rfl, h0⟩
  | k + 1 => by
    have ih := l_mb h0 k
    have em : l_m d (k + 1 + 1) = if d ((k + 1 : Nat) : Int) ≤ l_m d (k + 1) then l_m d (k + 1) else d ((k + 1 : Nat) : Int) := rfl
    have eb : l_b d (k + 1 + 1) = if d ((k + 1 : Nat) : Int) ≤ l_m d (k + 1) then l_b d (k + 1) else ((k + 1 : Nat) : Int) := rfl
    rw [em, eb]
    by_cases q : d ((k + 1 : Nat) : Int) ≤ l_m d (k + 1)
    · rw [if_pos q, if_pos q]; exact ih
    · rw [if_neg q, if_neg q]; exact ⟨rfl, by omega⟩
theorem l_b_lt (d : Int → Int) : ∀ n : Nat, 0 < n → l_b d n < n
  | 0, h => by omega
  | 1, _ => by
    have h1 : l_m d 0 = -1 := rfl
    have hb : l_b d 0 = 0 := rfl
    unfold l_b; rw [hb]; split <;> simp
  | n + 2, _ => by
    have ih := l_b_lt d (n + 1) (by omega)
    have eb : l_b d (n + 2) = if d ((n + 1 : Nat) : Int) ≤ l_m d (n + 1) then l_b d (n + 1) else ((n + 1 : Nat) : Int) := rfl
    rw [eb]; split <;> omega
theorem c_X8_likeliest {l : Launch} {E : x_E} {κ : x_Ka} {X : x_X} {i : Int} (hC : t_C κ X) (hx : xR i) : x_Met l yX8_likeliest cX8_likeliest 4 (some .int) 31 0 0 E κ X [x_rf E 64, vi i] κ (fun v_ Y_ => h_eq X Y_ ∧ (if x_in i 0 (X 64 3 - 1) = 1 then (v_ = some (vi (l_b (fun w => q8_ch X i w - q8_ch X i (w + 1)) 121)) ∧ Y_ 64 1 = 2 ∧ Y_ 65 0 = l_m (fun w => q8_ch X i w - q8_ch X i (w + 1)) 121 ∧ Y_ 65 1 = q8_ch X i 1) else (v_ = some (vi (-1)) ∧ hr8 X Y_))) := by
  refine x_Met.of [(false, x_rf E 64), (false, vi i)] [some (x_rf E 64), some (vi i), none, none] 2 (by decide) rfl rfl ⟨x_cr E (64), rfl, trivial⟩ rfl rfl ?_
  intro p e s m args below meth c hargs hin B
  obtain ⟨hK, hP, hO, hW, hLa⟩ := id hC
  obtain ⟨hT, h8, hn⟩ := id hK
  have z1 := x_in_01 i 0 (X 64 3 - 1)
  have lp_24 : ∀ (n : Nat) (k b : Int) (Y : x_X), ((0 ≤ i ∧ i < X 64 3) ∧ (1 ≤ k ∧ k ≤ 121) ∧ h_eq X Y ∧ (∀ w, 0 ≤ w → w ≤ 121 → Y 81 w = q8_ch X i w) ∧ b = l_b (fun w => q8_ch X i w - q8_ch X i (w + 1)) k.toNat ∧ hr8 X Y) → ((122 - k).toNat < n) → x_G p l e (x_rm 31 0 0) s m args below meth c 4 E 0 0 (MQ below (x_Q E κ (fun v_ Y_ => h_eq X Y_ ∧ (if x_in i 0 (X 64 3 - 1) = 1 then (v_ = some (vi (l_b (fun w => q8_ch X i w - q8_ch X i (w + 1)) 121)) ∧ Y_ 64 1 = 2 ∧ Y_ 65 0 = l_m (fun w => q8_ch X i w - q8_ch X i (w + 1)) 121 ∧ Y_ 65 1 = q8_ch X i 1) else (v_ = some (vi (-1)) ∧ hr8 X Y_)))) args s 0 0 (fun q => E.1 ≤ q)) κ 24 [some (x_rf E 64), some (vi i), some (vi b), some (vi k)] [] Y := by
    intro n
    induction n with
    | zero => intro k b Y hinv hme; exfalso; omega
    | succ n ih =>
      intro k b Y hinv hme
      obtain ⟨hi, hk, hh, hc, hb, hr⟩ := hinv
      have hls := l_ms (fun w => q8_ch X i w - q8_ch X i (w + 1)) (show 0 ≤ k by omega)
      have hbr := l_b_r (fun w => q8_ch X i w - q8_ch X i (w + 1)) k.toNat
      rw [← hb] at hbr
      have hqr : ∀ w, 0 ≤ q8_ch X i w ∧ q8_ch X i w ≤ 1000000 := fun w => q8_ch_r hC hi
      have h0 := q8_ch_0 hC hi
      have d0 : 0 ≤ (fun w => q8_ch X i w - q8_ch X i (w + 1)) 0 := by have := hqr (0 + 1); dsimp only; omega
      have hmb := l_mb (d := (fun w => q8_ch X i w - q8_ch X i (w + 1))) d0 (k.toNat - 1)
      rw [show k.toNat - 1 + 1 = k.toNat by omega, ← hb] at hmb
      try dsimp only at hmb hls
      have q1 := hqr k
      have q2 := hqr (k + 1)
      have q3 := hqr b
      have q4 := hqr (b + 1)
      have hblt : b < k := by have := l_b_lt (fun w => q8_ch X i w - q8_ch X i (w + 1)) k.toNat (by omega); rw [← hb] at this; omega
      refine x_iload_n B dX8_likeliest_24 rfl ?_
      refine x_bipush B dX8_likeliest_25 (by decide) ?_
      refine x_icmp_ge B (tgt := 75) dX8_likeliest_27 (by decide) ⟨by omega, by omega⟩ ⟨by omega, by omega⟩ (fun h_27 => ?_) (fun h_27 => ?_)
      · obtain rfl : k = 121 := by omega
        have hz1 : x_up Y 64 1 0 64 1 = 0 := x_up_s _ _ _ _
        have t1 := t_tl1 (x_up Y 64 1 0) (q8_ch X i b - q8_ch X i (b + 1)) hz1
        refine x_aload_n B dX8_likeliest_75 rfl ?_
        refine x_iconst B dX8_likeliest_76 ?_
        refine x_putI B (k := 1) 1 rfl rfl rfl ⟨by omega, by omega⟩ xc_7 (by decide) rfl nn_7_1 (fun _ => rfl) h8 (Or.inl q1336) (fun _ h => h) dX8_likeliest_77 ?_
        refine x_aload_n B dX8_likeliest_80 rfl ?_
        refine x_aload_n B dX8_likeliest_81 rfl ?_
        refine x_getC0 B (k := 29) hT rfl rfl xc_7 (by decide) h8 (Or.inl q1364) (fun _ h => h) dX8_likeliest_82 (fun k_82 => ?_)
        refine x_iload_n B dX8_likeliest_85 rfl ?_
        refine x_iald B k_82 ⟨by omega, by omega⟩ dX8_likeliest_86 (fun r_86 => ?_)
        rw [x_up_o _ (by omega), hc b (by omega) (by omega)] at r_86 ⊢
        refine x_aload_n B dX8_likeliest_87 rfl ?_
        refine x_getC0 B (k := 29) hT rfl rfl xc_7 (by decide) h8 (Or.inl q1364) (fun _ h => h) dX8_likeliest_88 (fun k_88 => ?_)
        refine x_iload_n B dX8_likeliest_91 rfl ?_
        refine x_iconst B dX8_likeliest_92 ?_
        refine x_iadd B dX8_likeliest_93 ?_
        refine x_iald B k_88 ⟨by omega, by omega⟩ dX8_likeliest_94 (fun r_94 => ?_)
        rw [x_up_o _ (by omega), hc (b + 1) (by omega) (by omega)] at r_94 ⊢
        refine x_isub B dX8_likeliest_95 ?_
        refine x_i2l B dX8_likeliest_96 ⟨by omega, by omega⟩ ?_
        refine x_goV (x_rV B h8 (show x_cl[7]? = some _ from rfl) (c_X8_notes hT h8 ⟨by rw [hz1]; omega, by rw [hz1]; omega⟩ ⟨by omega, by omega⟩) (lw_V q1616 q1618 qs65 q122 q1619) hv_X8_notes ⟨by decide, by decide⟩ ⟨by decide, by decide⟩ rfl rfl (by simp [x_cr, x_c1, x_c2]) dX8_likeliest_97) ?_
        change x_G _ _ _ _ _ _ _ _ _ _ _ _ _ _ _ _ _ _ _ (t_tl (x_up Y 64 1 0) (q8_ch X i b - q8_ch X i (b + 1)))
        refine x_aload_n B dX8_likeliest_100 rfl ?_
        refine x_aload_n B dX8_likeliest_101 rfl ?_
        refine x_getC0 B (k := 29) hT rfl rfl xc_7 (by decide) h8 (Or.inl q1364) (fun _ h => h) dX8_likeliest_102 (fun k_102 => ?_)
        refine x_iconst B dX8_likeliest_105 ?_
        refine x_iald B k_102 ⟨by omega, by omega⟩ dX8_likeliest_106 (fun r_106 => ?_)
        have e106 : t_tl (x_up Y 64 1 0) (q8_ch X i b - q8_ch X i (b + 1)) 81 1 = q8_ch X i 1 := by unfold t_tl; rw [x_up_o _ (by omega), x_up_o _ (by omega), x_up_o _ (by omega)]; exact hc 1 (by omega) (by omega)
        rw [e106] at r_106 ⊢
        have q5 := hqr 1
        refine x_i2l B dX8_likeliest_107 ⟨by omega, by omega⟩ ?_
        refine x_goV (x_rV B h8 (show x_cl[7]? = some _ from rfl) (c_X8_notes hT h8 ⟨by rw [t1.1]; omega, by rw [t1.1]; omega⟩ ⟨by omega, by omega⟩) (lw_V q1616 q1618 qs65 q122 q1619) hv_X8_notes ⟨by decide, by decide⟩ ⟨by decide, by decide⟩ rfl rfl (by simp [x_cr, x_c1, x_c2]) dX8_likeliest_108) ?_
        refine x_iload_n B dX8_likeliest_111 rfl ?_
        refine x_iret B (fun _ _ h => h) ?_ dX8_likeliest_112
        have t2 := t_tl1 (t_tl (x_up Y 64 1 0) (q8_ch X i b - q8_ch X i (b + 1))) (q8_ch X i 1) t1.1
        refine ⟨(hh.u64 (Or.inr (Or.inl rfl))).tl.tl, ?_⟩
        rw [if_pos (by unfold x_in; rw [if_pos (by omega)])]
        refine ⟨by rw [hb]; rfl, t2.1, (t2.2.2 0 (by omega)).trans (t1.2.1.trans ?_), t2.2.1⟩
        exact hmb.1.symm
      · refine x_aload_n B dX8_likeliest_30 rfl ?_
        refine x_getC0 B (k := 29) hT rfl rfl xc_7 (by decide) h8 (Or.inl q1364) (fun _ h => h) dX8_likeliest_31 (fun k_31 => ?_)
        refine x_iload_n B dX8_likeliest_34 rfl ?_
        refine x_iald B k_31 ⟨by omega, by omega⟩ dX8_likeliest_35 (fun r_35 => ?_)
        rw [hc k (by omega) (by omega)] at r_35 ⊢
        refine x_aload_n B dX8_likeliest_36 rfl ?_
        refine x_getC0 B (k := 29) hT rfl rfl xc_7 (by decide) h8 (Or.inl q1364) (fun _ h => h) dX8_likeliest_37 (fun k_37 => ?_)
        refine x_iload_n B dX8_likeliest_40 rfl ?_
        refine x_iconst B dX8_likeliest_41 ?_
        refine x_iadd B dX8_likeliest_42 ?_
        refine x_iald B k_37 ⟨by omega, by omega⟩ dX8_likeliest_43 (fun r_43 => ?_)
        rw [hc (k + 1) (by omega) (by omega)] at r_43 ⊢
        refine x_isub B dX8_likeliest_44 ?_
        refine x_aload_n B dX8_likeliest_45 rfl ?_
        refine x_getC0 B (k := 29) hT rfl rfl xc_7 (by decide) h8 (Or.inl q1364) (fun _ h => h) dX8_likeliest_46 (fun k_46 => ?_)
        refine x_iload_n B dX8_likeliest_49 rfl ?_
        refine x_iald B k_46 ⟨by omega, by omega⟩ dX8_likeliest_50 (fun r_50 => ?_)
        rw [hc b (by omega) (by omega)] at r_50 ⊢
        refine x_aload_n B dX8_likeliest_51 rfl ?_
        refine x_getC0 B (k := 29) hT rfl rfl xc_7 (by decide) h8 (Or.inl q1364) (fun _ h => h) dX8_likeliest_52 (fun k_52 => ?_)
        refine x_iload_n B dX8_likeliest_55 rfl ?_
        refine x_iconst B dX8_likeliest_56 ?_
        refine x_iadd B dX8_likeliest_57 ?_
        refine x_iald B k_52 ⟨by omega, by omega⟩ dX8_likeliest_58 (fun r_58 => ?_)
        rw [hc (b + 1) (by omega) (by omega)] at r_58 ⊢
        refine x_isub B dX8_likeliest_59 ?_
        refine x_icmp_le B (tgt := 67) dX8_likeliest_60 (by decide) ⟨by omega, by omega⟩ ⟨by omega, by omega⟩ (fun h_60 => ?_) (fun h_60 => ?_)
        · refine x_iload_n B dX8_likeliest_67 rfl ?_
          refine x_ist_2 B dX8_likeliest_68 (by first | rfl | exact x_cr _ _) ?_
          refine x_iinc_3 B dX8_likeliest_69 (by first | rfl | exact x_cr _ _) ?_
          refine x_goto B (tgt := 24) dX8_likeliest_72 (by decide) ?_
          refine ih _ _ _ ⟨hi, ⟨by omega, by omega⟩, hh, hc, ?_, hr⟩ (by omega)
          rw [hls.2]
          first
          | (rw [if_neg (by omega)]; done)
          | (rw [if_pos (by omega)]; exact hb)
        · refine x_iload_n B dX8_likeliest_63 rfl ?_
          refine x_goto B (tgt := 68) dX8_likeliest_64 (by decide) ?_
          refine x_ist_2 B dX8_likeliest_68 (by first | rfl | exact x_cr _ _) ?_
          refine x_iinc_3 B dX8_likeliest_69 (by first | rfl | exact x_cr _ _) ?_
          refine x_goto B (tgt := 24) dX8_likeliest_72 (by decide) ?_
          refine ih _ _ _ ⟨hi, ⟨by omega, by omega⟩, hh, hc, ?_, hr⟩ (by omega)
          rw [hls.2]
          first
          | (rw [if_neg (by omega)]; done)
          | (rw [if_pos (by omega)]; exact hb)
  refine x_aload_n B dX8_likeliest_0 rfl ?_
  refine x_iconst B dX8_likeliest_1 ?_
  refine x_putI B (k := 0) 0 rfl rfl rfl ⟨by omega, by omega⟩ xc_7 (by decide) rfl nn_7_0 (fun _ => rfl) h8 (Or.inl q1335) (fun _ h => h) dX8_likeliest_2 ?_
  have hz : h_eq X (x_up X 64 0 0) := h_eq.z
  have hrz : hr8 X (x_up X 64 0 0) := hr8.z
  have C0 := hz.C hC
  obtain ⟨e3, eM, el, eli, ep, eO, eG⟩ := hz.v
  generalize hX0 : x_up X 64 0 0 = X0 at hz hrz C0 e3 eM el eli ep eO eG ⊢
  obtain ⟨hK0, hP0, hO0, hW0, hL0⟩ := id C0
  refine x_aload_n B dX8_likeliest_5 rfl ?_
  refine x_iload_n B dX8_likeliest_6 rfl ?_
  refine x_goP (x_rV B h8 (show x_cl[7]? = some _ from rfl) (c_X8_isLifter hK0 hx) (lw_V q1553 q1555 qs57 q122 q1556) hv_X8_isLifter ⟨by decide, by decide⟩ ⟨by decide, by decide⟩ rfl rfl (by simp [x_cr, x_c1, x_c2]) dX8_likeliest_7) ?_
  rw [e3]
  refine x_if_ne B (tgt := 15) dX8_likeliest_10 (by decide) ⟨by omega, by omega⟩ (fun h_10 => ?_) (fun h_10 => ?_)
  · have hi : 0 ≤ i ∧ i < X 64 3 := by unfold x_in at h_10; split at h_10 <;> omega
    refine x_aload_n B dX8_likeliest_15 rfl ?_
    refine x_iload_n B dX8_likeliest_16 rfl ?_
    refine x_go (x_rV B h8 (show x_cl[7]? = some _ from rfl) (c_X8_laysChances C0 (by rw [e3]; exact hi)) (lw_V q1738 q1740 qs83 q122 q1741) hv_X8_laysChances ⟨by decide, by decide⟩ ⟨by decide, by decide⟩ rfl rfl (by simp [x_cr, x_c1, x_c2]) dX8_likeliest_17) (fun v_17 X_17 p_17 => ?_)
    refine x_iconst B dX8_likeliest_20 ?_
    refine x_ist_2 B dX8_likeliest_21 (by first | rfl | exact x_cr _ _) ?_
    refine x_iconst B dX8_likeliest_22 ?_
    refine x_ist_3 B dX8_likeliest_23 (by first | rfl | exact x_cr _ _) ?_
    obtain ⟨rfl, hw17, hc17⟩ := p_17
    rw [hz.ch] at hc17
    have hqr : ∀ w, 0 ≤ q8_ch X i w ∧ q8_ch X i w ≤ 1000000 := fun w => q8_ch_r hC hi
    have h0 := q8_ch_0 hC hi
    refine lp_24 _ 1 0 X_17 ⟨hi, ⟨by omega, by omega⟩, hz.trans hw17.h, hc17, ?_, hrz.trans hw17.r⟩ (Nat.lt_succ_self _)
    show 0 = l_b (fun w => q8_ch X i w - q8_ch X i (w + 1)) 1
    have e1 : l_m (fun w => q8_ch X i w - q8_ch X i (w + 1)) 0 = -1 := rfl
    unfold l_b
    rw [e1, if_neg (by have := hqr (0 + 1); show ¬ (q8_ch X i 0 - q8_ch X i (0 + 1) ≤ -1); omega)]
    rfl
  · refine x_iconst B dX8_likeliest_13 ?_
    refine x_iret B (fun _ _ h => h) ?_ dX8_likeliest_14
    exact ⟨hz, by rw [if_neg (by omega)]; exact ⟨rfl, hrz⟩⟩
theorem c_X8_bombs {l : Launch} {E : x_E} {κ : x_Ka} {X : x_X} {i : Int} (hC : t_C κ X) (hx : xR i) : x_Met l yX8_bombs cX8_bombs 6 (some .int) 31 0 0 E κ X [x_rf E 64, vi i] κ (fun v_ Y_ => h_eq X Y_ ∧ (if x_in i 0 (X 64 3 - 1) = 1 then (v_ = some (vi (1000000 - q8_ch X i 1)) ∧ Y_ 64 1 = 3 ∧ ∀ j, 0 ≤ j → j < 3 → Y_ 65 j = (b_m (t_O X i j) (t_p3 X i j 2) 3 0 (t_p3 X i j 0) 1000000)) else (v_ = some (vi (-1)) ∧ hr8 X Y_))) := by
  refine x_Met.of [(false, x_rf E 64), (false, vi i)] [some (x_rf E 64), some (vi i), none, none, none, none] 4 (by decide) rfl rfl ⟨x_cr E (64), rfl, trivial⟩ rfl rfl ?_
  intro p e s m args below meth c hargs hin B
  obtain ⟨hK, hP, hO, hW, hLa⟩ := id hC
  obtain ⟨hT, h8, hn⟩ := id hK
  have z1 := x_in_01 i 0 (X 64 3 - 1)
  have lp_22 : ∀ (n : Nat) (k : Int) (Y : x_X), ((0 ≤ i ∧ i < X 64 3) ∧ (0 ≤ k ∧ k ≤ 3) ∧ h_eq X Y ∧ Y 64 1 = k ∧ ∀ j, 0 ≤ j → j < k → Y 65 j = (b_m (t_O X i j) (t_p3 X i j 2) 3 0 (t_p3 X i j 0) 1000000)) → ((4 - k).toNat < n) → x_G p l e (x_rm 31 0 0) s m args below meth c 6 E 0 0 (MQ below (x_Q E κ (fun v_ Y_ => h_eq X Y_ ∧ (if x_in i 0 (X 64 3 - 1) = 1 then (v_ = some (vi (1000000 - q8_ch X i 1)) ∧ Y_ 64 1 = 3 ∧ ∀ j, 0 ≤ j → j < 3 → Y_ 65 j = (b_m (t_O X i j) (t_p3 X i j 2) 3 0 (t_p3 X i j 0) 1000000)) else (v_ = some (vi (-1)) ∧ hr8 X Y_)))) args s 0 0 (fun q => E.1 ≤ q)) κ 22 [some (x_rf E 64), some (vi i), some (vi k), none, none, none] [] Y := by
    intro n
    induction n with
    | zero => intro k Y hinv hme; exfalso; omega
    | succ n ih =>
      intro k Y hinv hme
      have ih22 := ih
      obtain ⟨hi, hk, hh, h1, hr⟩ := hinv
      have CY := hh.C hC
      obtain ⟨y3, -, -, -, yp, yO, -⟩ := hh.v
      have lp_43 : ∀ (n : Nat) (f z x : Int), (k < 3 ∧ (0 ≤ f ∧ f ≤ 3) ∧ (0 ≤ z ∧ z ≤ 1000000) ∧ (0 ≤ x ∧ x ≤ 40) ∧ (b_m (t_O X i k) (t_p3 X i k 2) 3 0 (t_p3 X i k 0) 1000000 = if x = 0 then z else b_m (t_O X i k) (t_p3 X i k 2) (3 - f).toNat f x z)) → ((4 - f).toNat < n) → x_G p l e (x_rm 31 0 0) s m args below meth c 6 E 0 0 (MQ below (x_Q E κ (fun v_ Y_ => h_eq X Y_ ∧ (if x_in i 0 (X 64 3 - 1) = 1 then (v_ = some (vi (1000000 - q8_ch X i 1)) ∧ Y_ 64 1 = 3 ∧ ∀ j, 0 ≤ j → j < 3 → Y_ 65 j = (b_m (t_O X i j) (t_p3 X i j 2) 3 0 (t_p3 X i j 0) 1000000)) else (v_ = some (vi (-1)) ∧ hr8 X Y_)))) args s 0 0 (fun q => E.1 ≤ q)) κ 43 [some (x_rf E 64), some (vi i), some (vi k), some (vi z), some (vi x), some (vi f)] [] Y := by
        intro n
        induction n with
        | zero => intro f z x hin2 hme; exfalso; omega
        | succ n ih =>
          intro f z x hin2 hme
          obtain ⟨hk3, hf, hz1, hx1, hb⟩ := hin2
          have hp := hP i hi.1 hi.2 k hk.1 (by omega)
          have hOr := t_O_r (κ := κ) (x := x) (f := f) (t := k) hO hi ⟨by omega, by omega⟩ hf.1
          have hdv := b_dv hz1 hOr
          refine x_iload B dX8_bombs_43 rfl ?_
          refine x_iconst B dX8_bombs_45 ?_
          refine x_icmp_ge B (tgt := 88) dX8_bombs_46 (by decide) ⟨by omega, by omega⟩ ⟨by omega, by omega⟩ (fun h_46 => ?_) (fun h_46 => ?_)
          · refine x_aload_n B dX8_bombs_88 rfl ?_
            refine x_iload_n B dX8_bombs_89 rfl ?_
            refine x_i2l B dX8_bombs_90 ⟨by omega, by omega⟩ ?_
            refine x_goV (x_rV B h8 (show x_cl[7]? = some _ from rfl) (c_X8_notes hT h8 ⟨by omega, by omega⟩ ⟨by omega, by omega⟩) (lw_V q1616 q1618 qs65 q122 q1619) hv_X8_notes ⟨by decide, by decide⟩ ⟨by decide, by decide⟩ rfl rfl (by simp [x_cr, x_c1, x_c2]) dX8_bombs_91) ?_
            change x_G _ _ _ _ _ _ _ _ _ _ _ _ _ _ _ _ _ _ _ (t_tl Y z)
            refine x_iinc_2 B dX8_bombs_94 (by first | rfl | exact x_cr _ _) ?_
            refine x_goto B (tgt := 22) dX8_bombs_97 (by decide) ?_
            refine x_fg_3 ?_
            refine x_fg_4 ?_
            refine x_fg_5 ?_
            have et := t_tl1 Y z h1
            have ez : z = b_m (t_O X i k) (t_p3 X i k 2) 3 0 (t_p3 X i k 0) 1000000 := by
              rw [hb]; by_cases q : x = 0
              · rw [if_pos q]
              · rw [if_neg q, b_m_stop (Or.inl (by omega))]
            refine ih22 _ _ ⟨hi, ⟨by omega, by omega⟩, hh.tl (z := z), et.1, fun j j1 j2 => ?_⟩ (by omega)
            by_cases e : j = k
            · rw [e, et.2.1, ez]
            · exact (et.2.2 j e).trans (hr j j1 (by omega))
          · refine x_iload B dX8_bombs_49 rfl ?_
            refine x_if_le B (tgt := 88) dX8_bombs_51 (by decide) ⟨by omega, by omega⟩ (fun h_51 => ?_) (fun h_51 => ?_)
            · refine x_aload_n B dX8_bombs_88 rfl ?_
              refine x_iload_n B dX8_bombs_89 rfl ?_
              refine x_i2l B dX8_bombs_90 ⟨by omega, by omega⟩ ?_
              refine x_goV (x_rV B h8 (show x_cl[7]? = some _ from rfl) (c_X8_notes hT h8 ⟨by omega, by omega⟩ ⟨by omega, by omega⟩) (lw_V q1616 q1618 qs65 q122 q1619) hv_X8_notes ⟨by decide, by decide⟩ ⟨by decide, by decide⟩ rfl rfl (by simp [x_cr, x_c1, x_c2]) dX8_bombs_91) ?_
              change x_G _ _ _ _ _ _ _ _ _ _ _ _ _ _ _ _ _ _ _ (t_tl Y z)
              refine x_iinc_2 B dX8_bombs_94 (by first | rfl | exact x_cr _ _) ?_
              refine x_goto B (tgt := 22) dX8_bombs_97 (by decide) ?_
              refine x_fg_3 ?_
              refine x_fg_4 ?_
              refine x_fg_5 ?_
              have et := t_tl1 Y z h1
              have ez : z = b_m (t_O X i k) (t_p3 X i k 2) 3 0 (t_p3 X i k 0) 1000000 := by
                rw [hb]; by_cases q : x = 0
                · rw [if_pos q]
                · rw [if_neg q, b_m_stop (Or.inl (by omega))]
              refine ih22 _ _ ⟨hi, ⟨by omega, by omega⟩, hh.tl (z := z), et.1, fun j j1 j2 => ?_⟩ (by omega)
              by_cases e : j = k
              · rw [e, et.2.1, ez]
              · exact (et.2.2 j e).trans (hr j j1 (by omega))
            · refine x_iload_n B dX8_bombs_54 rfl ?_
              refine x_aload_n B dX8_bombs_55 rfl ?_
              refine x_iload_n B dX8_bombs_56 rfl ?_
              refine x_iload_n B dX8_bombs_57 rfl ?_
              refine x_iload B dX8_bombs_58 rfl ?_
              refine x_iload B dX8_bombs_60 rfl ?_
              refine x_goP (x_rV B h8 (show x_cl[7]? = some _ from rfl) (c_X8_oddsOf CY.1 CY.2.2.1 (by rw [y3]; exact hi) ⟨by omega, by omega⟩ ⟨by omega, by omega⟩ ⟨by omega, by omega⟩) (lw_V q1576 q1578 qs58 q122 q1579) hv_X8_oddsOf ⟨by decide, by decide⟩ ⟨by decide, by decide⟩ rfl rfl (by simp [x_cr, x_c1, x_c2]) dX8_bombs_62) ?_
              rw [yO]
              refine x_goP (x_rS B (c_X8_failsToo hz1 hOr) (lw_S q1771 q1772 q122 q1773) hd_X8_failsToo ⟨by decide, by decide⟩ ⟨by decide, by decide⟩ rfl rfl (by simp [x_cr, x_c1, x_c2]) dX8_bombs_65) ?_
              refine x_ist_3 B dX8_bombs_68 (by first | rfl | exact x_cr _ _) ?_
              refine x_aload_n B dX8_bombs_69 rfl ?_
              refine x_iload_n B dX8_bombs_70 rfl ?_
              refine x_iload_n B dX8_bombs_71 rfl ?_
              refine x_iload B dX8_bombs_72 rfl ?_
              refine x_iload B dX8_bombs_74 rfl ?_
              refine x_iconst B dX8_bombs_76 ?_
              refine x_goP (x_rV B h8 (show x_cl[7]? = some _ from rfl) (c_X8_asksThen CY.1 CY.2.1 (by rw [y3]; exact hi) ⟨by omega, by omega⟩ ⟨by omega, by omega⟩ ⟨by omega, by omega⟩ ⟨by omega, by omega⟩) (lw_V q1640 q1642 qs68 q122 q1643) hv_X8_asksThen ⟨by decide, by decide⟩ ⟨by decide, by decide⟩ rfl rfl (by simp [x_cr, x_c1, x_c2]) dX8_bombs_77) ?_
              rw [yp, if_neg (show ¬ (0 : Int) = 1 by omega)]
              refine x_istw_4 B dX8_bombs_80 (by first | rfl | exact x_cr _ _) ?_
              refine x_iinc_5 B dX8_bombs_82 (by first | rfl | exact x_cr _ _) ?_
              refine x_goto B (tgt := 43) dX8_bombs_85 (by decide) ?_
              refine ih _ _ _ ⟨hk3, ⟨by omega, by omega⟩, hdv.2, ?_, ?_⟩ (by omega)
              · split; omega; split <;> omega
              · rw [hb, if_neg (by omega)]
                have hs : (3 - f).toNat = (3 - (f + 1)).toNat + 1 := by omega
                rw [hs]; conv => lhs; unfold b_m
                rw [if_pos (by omega)]
                by_cases q : f = 2
                · rw [if_pos q, if_pos rfl, show (3 - (f + 1)).toNat = 0 by omega]; rfl
                · rw [if_neg q]; by_cases q2 : x + t_p3 X i k 2 > 40
                  · rw [if_pos q2, if_pos rfl, b_m_stop (Or.inr (by omega))]
                  · rw [if_neg q2, if_neg (by omega)]
      refine x_iload_n B dX8_bombs_22 rfl ?_
      refine x_iconst B dX8_bombs_23 ?_
      refine x_icmp_ge B (tgt := 100) dX8_bombs_24 (by decide) ⟨by omega, by omega⟩ ⟨by omega, by omega⟩ (fun h_24 => ?_) (fun h_24 => ?_)
      · obtain rfl : k = 3 := by omega
        refine x_ldcw B (1000000) q1733 (by decide) dX8_bombs_100 ?_
        refine x_aload_n B dX8_bombs_103 rfl ?_
        refine x_iload_n B dX8_bombs_104 rfl ?_
        refine x_iconst B dX8_bombs_105 ?_
        refine x_go (x_rV B h8 (show x_cl[7]? = some _ from rfl) (c_X8_chanceOf CY (by rw [y3]; exact hi) ⟨by omega, by omega⟩) (lw_V q1725 q1727 qs81 q122 q1728) hv_X8_chanceOf ⟨by decide, by decide⟩ ⟨by decide, by decide⟩ rfl rfl (by simp [x_cr, x_c1, x_c2]) dX8_bombs_106) (fun v_106 X_106 p_106 => ?_)
        obtain ⟨rfl, hw⟩ := p_106
        rw [hh.ch]
        refine x_isub B dX8_bombs_109 ?_
        refine x_iret B (fun _ _ h => h) ?_ dX8_bombs_110
        refine ⟨hh.trans hw.h, ?_⟩
        rw [if_pos (by unfold x_in; rw [if_pos (by omega)])]
        exact ⟨rfl, by rw [hw.r.2]; exact h1, fun j j1 j2 => by rw [hw.r.1]; exact hr j j1 j2⟩
      · refine x_ldcw B (1000000) q1733 (by decide) dX8_bombs_27 ?_
        refine x_ist_3 B dX8_bombs_30 (by first | rfl | exact x_cr _ _) ?_
        refine x_aload_n B dX8_bombs_31 rfl ?_
        refine x_iload_n B dX8_bombs_32 rfl ?_
        refine x_iload_n B dX8_bombs_33 rfl ?_
        refine x_iconst B dX8_bombs_34 ?_
        refine x_goP (x_rV B h8 (show x_cl[7]? = some _ from rfl) (c_X8_planOf CY.1 (by rw [y3]; exact hi) ⟨by omega, by omega⟩ ⟨by omega, by omega⟩) (lw_V q1529 q1531 qs53 q122 q1532) hv_X8_planOf ⟨by decide, by decide⟩ ⟨by decide, by decide⟩ rfl rfl (by simp [x_cr, x_c1, x_c2]) dX8_bombs_35) ?_
        rw [yp]
        refine x_istw_4 B dX8_bombs_38 (by first | rfl | exact x_cr _ _) ?_
        refine x_iconst B dX8_bombs_40 ?_
        refine x_istw_5 B dX8_bombs_41 (by first | rfl | exact x_cr _ _) ?_
        have hp := hP i hi.1 hi.2 k hk.1 (by omega)
        exact lp_43 _ 0 _ _ ⟨by omega, ⟨by omega, by omega⟩, ⟨by omega, by omega⟩, ⟨by omega, by omega⟩, by rw [if_neg (by omega)]; rfl⟩ (Nat.lt_succ_self _)
  refine x_aload_n B dX8_bombs_0 rfl ?_
  refine x_iconst B dX8_bombs_1 ?_
  refine x_putI B (k := 0) 0 rfl rfl rfl ⟨by omega, by omega⟩ xc_7 (by decide) rfl nn_7_0 (fun _ => rfl) h8 (Or.inl q1335) (fun _ h => h) dX8_bombs_2 ?_
  have hz : h_eq X (x_up X 64 0 0) := h_eq.z
  have hrz : hr8 X (x_up X 64 0 0) := hr8.z
  have C0 := hz.C hC
  obtain ⟨e3, eM, el, eli, ep, eO, eG⟩ := hz.v
  generalize hX0 : x_up X 64 0 0 = X0 at hz hrz C0 e3 eM el eli ep eO eG ⊢
  obtain ⟨hK0, hP0, hO0, hW0, hL0⟩ := id C0
  refine x_aload_n B dX8_bombs_5 rfl ?_
  refine x_iload_n B dX8_bombs_6 rfl ?_
  refine x_goP (x_rV B h8 (show x_cl[7]? = some _ from rfl) (c_X8_isLifter hK0 hx) (lw_V q1553 q1555 qs57 q122 q1556) hv_X8_isLifter ⟨by decide, by decide⟩ ⟨by decide, by decide⟩ rfl rfl (by simp [x_cr, x_c1, x_c2]) dX8_bombs_7) ?_
  rw [e3]
  refine x_if_ne B (tgt := 15) dX8_bombs_10 (by decide) ⟨by omega, by omega⟩ (fun h_10 => ?_) (fun h_10 => ?_)
  · have hi : 0 ≤ i ∧ i < X 64 3 := by unfold x_in at h_10; split at h_10 <;> omega
    refine x_aload_n B dX8_bombs_15 rfl ?_
    refine x_iconst B dX8_bombs_16 ?_
    refine x_putI B (k := 1) 1 rfl rfl rfl ⟨by omega, by omega⟩ xc_7 (by decide) rfl nn_7_1 (fun _ => rfl) h8 (Or.inl q1336) (fun _ h => h) dX8_bombs_17 ?_
    refine x_iconst B dX8_bombs_20 ?_
    refine x_ist_2 B dX8_bombs_21 (by first | rfl | exact x_cr _ _) ?_
    exact lp_22 _ 0 _ ⟨hi, ⟨by omega, by omega⟩, hz.u64 (Or.inr (Or.inl rfl)), x_up_s _ _ _ _, fun j j1 j2 => by omega⟩ (Nat.lt_succ_self _)
  · refine x_iconst B dX8_bombs_13 ?_
    refine x_iret B (fun _ _ h => h) ?_ dX8_bombs_14
    exact ⟨hz, by rw [if_neg (by omega)]; exact ⟨rfl, hrz⟩⟩
theorem c_X8_opener {l : Launch} {E : x_E} {κ : x_Ka} {X : x_X} {i t w : Int} (hC : t_C κ X) (hx : xR i) (hy : xR t) (hw0 : xR w) : x_Met l yX8_opener cX8_opener 7 (some .int) 31 0 0 E κ X [x_rf E 64, vi i, vi t, vi w] κ (fun v_ Y_ => v_ = some (vi (if x_in i 0 (X 64 3 - 1) = 1 ∧ x_in t 0 2 = 1 ∧ x_in w 0 1000000 = 1 then o_f (fun x => b_m (t_O X i t) 0 3 0 x 1000000) w 40 else -1)) ∧ h_eq X Y_ ∧ hr8 X Y_) := by
  refine x_Met.of [(false, x_rf E 64), (false, vi i), (false, vi t), (false, vi w)] [some (x_rf E 64), some (vi i), some (vi t), some (vi w), none, none, none] 3 (by decide) rfl rfl ⟨x_cr E (64), rfl, rfl, rfl, trivial⟩ rfl rfl ?_
  intro p e s m args below meth c hargs hin B
  obtain ⟨hK, hP, hO, hW, hLa⟩ := id hC
  obtain ⟨hT, h8, hn⟩ := id hK
  have z1 := x_in_01 i 0 (X 64 3 - 1)
  have z2 := x_in_01 t 0 2
  have z3 := x_in_01 w 0 1000000
  have lp_38 : ∀ (n : Nat) (k : Int) (X0 : x_X), ((0 ≤ i ∧ i < X 64 3) ∧ (0 ≤ t ∧ t ≤ 2) ∧ (0 ≤ w ∧ w ≤ 1000000) ∧ (0 ≤ k ∧ k ≤ 40) ∧ (h_eq X X0 ∧ hr8 X X0) ∧ (if x_in i 0 (X 64 3 - 1) = 1 ∧ x_in t 0 2 = 1 ∧ x_in w 0 1000000 = 1 then o_f (fun x => b_m (t_O X i t) 0 3 0 x 1000000) w 40 else -1) = o_f (fun x => b_m (t_O X i t) 0 3 0 x 1000000) w k.toNat) → (k.toNat < n) → x_G p l e (x_rm 31 0 0) s m args below meth c 7 E 0 0 (MQ below (x_Q E κ (fun v_ Y_ => v_ = some (vi (if x_in i 0 (X 64 3 - 1) = 1 ∧ x_in t 0 2 = 1 ∧ x_in w 0 1000000 = 1 then o_f (fun x => b_m (t_O X i t) 0 3 0 x 1000000) w 40 else -1)) ∧ h_eq X Y_ ∧ hr8 X Y_)) args s 0 0 (fun q => E.1 ≤ q)) κ 38 [some (x_rf E 64), some (vi i), some (vi t), some (vi w), some (vi k), none, none] [] X0 := by
    intro n
    induction n with
    | zero => intro k X0 hinv hme; exfalso; omega
    | succ n ih =>
      intro k X0 hinv hme
      have ih38 := ih
      obtain ⟨hi, ht, hw, hk, ⟨hz, hrz⟩, hof⟩ := hinv
      have C0 := hz.C hC
      obtain ⟨y3, -, -, -, yp, yO, -⟩ := hz.v
      have lp_51 : ∀ (n : Nat) (f z : Int), (0 < k ∧ (0 ≤ f ∧ f ≤ 3) ∧ (0 ≤ z ∧ z ≤ 1000000) ∧ (b_m (t_O X i t) 0 3 0 k 1000000 = b_m (t_O X i t) 0 (3 - f).toNat f k z)) → ((4 - f).toNat < n) → x_G p l e (x_rm 31 0 0) s m args below meth c 7 E 0 0 (MQ below (x_Q E κ (fun v_ Y_ => v_ = some (vi (if x_in i 0 (X 64 3 - 1) = 1 ∧ x_in t 0 2 = 1 ∧ x_in w 0 1000000 = 1 then o_f (fun x => b_m (t_O X i t) 0 3 0 x 1000000) w 40 else -1)) ∧ h_eq X Y_ ∧ hr8 X Y_)) args s 0 0 (fun q => E.1 ≤ q)) κ 51 [some (x_rf E 64), some (vi i), some (vi t), some (vi w), some (vi k), some (vi z), some (vi f)] [] X0 := by
        intro n
        induction n with
        | zero => intro f z hin2 hme; exfalso; omega
        | succ n ih =>
          intro f z hin2 hme
          obtain ⟨hk0, hf, hz1, hb⟩ := hin2
          have hOr := t_O_r (κ := κ) (x := k) (f := f) (t := t) hO hi ⟨by omega, by omega⟩ hf.1
          have hdv := b_dv hz1 hOr
          refine x_iload B dX8_opener_51 rfl ?_
          refine x_iconst B dX8_opener_53 ?_
          refine x_icmp_ge B (tgt := 80) dX8_opener_54 (by decide) ⟨by omega, by omega⟩ ⟨by omega, by omega⟩ (fun h_54 => ?_) (fun h_54 => ?_)
          · have hz2 : b_m (t_O X i t) 0 3 0 k 1000000 = z := by rw [hb, b_m_stop (Or.inl (by omega))]
            have hkk : (((k + -1).toNat : Nat) : Int) + 1 = k := by omega
            have ek : o_f (fun x => b_m (t_O X i t) 0 3 0 x 1000000) w k.toNat = if (fun x => b_m (t_O X i t) 0 3 0 x 1000000) ((((k + -1).toNat : Nat) : Int) + 1) ≤ w then (((k + -1).toNat : Nat) : Int) + 1 else o_f (fun x => b_m (t_O X i t) 0 3 0 x 1000000) w (k + -1).toNat := by rw [show k.toNat = (k + -1).toNat + 1 by omega]; rfl
            dsimp only at ek
            refine x_iload B dX8_opener_80 rfl ?_
            refine x_iload_n B dX8_opener_82 rfl ?_
            refine x_icmp_gt B (tgt := 89) dX8_opener_83 (by decide) ⟨by omega, by omega⟩ ⟨by omega, by omega⟩ (fun h_83 => ?_) (fun h_83 => ?_)
            · refine x_iinc_4 B dX8_opener_89 (by first | rfl | exact x_cr _ _) ?_
              refine x_goto B (tgt := 38) dX8_opener_92 (by decide) ?_
              refine x_fg_5 ?_
              refine x_fg_6 ?_
              refine ih38 _ _ ⟨hi, ht, hw, ⟨by omega, by omega⟩, ⟨hz, hrz⟩, ?_⟩ (by omega)
              rw [hof, ek, if_neg (by rw [hkk, hz2]; omega)]
            · refine x_iload B dX8_opener_86 rfl ?_
              refine x_iret B (fun _ _ h => h) ?_ dX8_opener_88
              refine ⟨?_, hz, hrz⟩
              rw [hof, ek, if_pos (by rw [hkk, hz2]; omega), hkk]
          · refine x_iload B dX8_opener_57 rfl ?_
            refine x_aload_n B dX8_opener_59 rfl ?_
            refine x_iload_n B dX8_opener_60 rfl ?_
            refine x_iload_n B dX8_opener_61 rfl ?_
            refine x_iload B dX8_opener_62 rfl ?_
            refine x_iload B dX8_opener_64 rfl ?_
            refine x_goP (x_rV B h8 (show x_cl[7]? = some _ from rfl) (c_X8_oddsOf C0.1 C0.2.2.1 (by rw [y3]; exact hi) ⟨by omega, by omega⟩ ⟨by omega, by omega⟩ ⟨by omega, by omega⟩) (lw_V q1576 q1578 qs58 q122 q1579) hv_X8_oddsOf ⟨by decide, by decide⟩ ⟨by decide, by decide⟩ rfl rfl (by simp [x_cr, x_c1, x_c2]) dX8_opener_66) ?_
            rw [yO]
            refine x_goP (x_rS B (c_X8_failsToo hz1 hOr) (lw_S q1771 q1772 q122 q1773) hd_X8_failsToo ⟨by decide, by decide⟩ ⟨by decide, by decide⟩ rfl rfl (by simp [x_cr, x_c1, x_c2]) dX8_opener_69) ?_
            refine x_istw_5 B dX8_opener_72 (by first | rfl | exact x_cr _ _) ?_
            refine x_iinc_6 B dX8_opener_74 (by first | rfl | exact x_cr _ _) ?_
            refine x_goto B (tgt := 51) dX8_opener_77 (by decide) ?_
            refine ih _ _ ⟨hk0, ⟨by omega, by omega⟩, hdv.2, ?_⟩ (by omega)
            rw [hb, show (3 - f).toNat = (3 - (f + 1)).toNat + 1 by omega]
            conv => lhs; unfold b_m
            rw [if_pos (by omega), Int.add_zero]
      refine x_iload B dX8_opener_38 rfl ?_
      refine x_if_le B (tgt := 95) dX8_opener_40 (by decide) ⟨by omega, by omega⟩ (fun h_40 => ?_) (fun h_40 => ?_)
      · refine x_bipush B dX8_opener_95 (by decide) ?_
        refine x_iret B (fun _ _ h => h) ?_ dX8_opener_97
        refine ⟨?_, hz, hrz⟩
        rw [hof, show k.toNat = 0 by omega]; rfl
      · refine x_ldcw B (1000000) q1733 (by decide) dX8_opener_43 ?_
        refine x_istw_5 B dX8_opener_46 (by first | rfl | exact x_cr _ _) ?_
        refine x_iconst B dX8_opener_48 ?_
        refine x_istw_6 B dX8_opener_49 (by first | rfl | exact x_cr _ _) ?_
        exact lp_51 _ 0 _ ⟨by omega, ⟨by omega, by omega⟩, ⟨by omega, by omega⟩, rfl⟩ (Nat.lt_succ_self _)
  refine x_aload_n B dX8_opener_0 rfl ?_
  refine x_iconst B dX8_opener_1 ?_
  refine x_putI B (k := 0) 0 rfl rfl rfl ⟨by omega, by omega⟩ xc_7 (by decide) rfl nn_7_0 (fun _ => rfl) h8 (Or.inl q1335) (fun _ h => h) dX8_opener_2 ?_
  have hz : h_eq X (x_up X 64 0 0) := h_eq.z
  have hrz : hr8 X (x_up X 64 0 0) := hr8.z
  have C0 := hz.C hC
  obtain ⟨e3, eM, el, eli, ep, eO, eG⟩ := hz.v
  generalize hX0 : x_up X 64 0 0 = X0 at hz hrz C0 e3 eM el eli ep eO eG ⊢
  obtain ⟨hK0, hP0, hO0, hW0, hL0⟩ := id C0
  refine x_aload_n B dX8_opener_5 rfl ?_
  refine x_iload_n B dX8_opener_6 rfl ?_
  refine x_goP (x_rV B h8 (show x_cl[7]? = some _ from rfl) (c_X8_isLifter hK0 hx) (lw_V q1553 q1555 qs57 q122 q1556) hv_X8_isLifter ⟨by decide, by decide⟩ ⟨by decide, by decide⟩ rfl rfl (by simp [x_cr, x_c1, x_c2]) dX8_opener_7) ?_
  rw [e3]
  refine x_if_eq B (tgt := 32) dX8_opener_10 (by decide) ⟨by omega, by omega⟩ (fun h_10 => ?_) (fun h_10 => ?_)
  · refine x_iconst B dX8_opener_32 ?_
    refine x_iret B (fun _ _ h => h) ?_ dX8_opener_33
    exact ⟨by rw [if_neg (by omega)], hz, hrz⟩
  · refine x_iload_n B dX8_opener_13 rfl ?_
    refine x_goP (x_rS B (c_X8_isLift ⟨by omega, by omega⟩) (lw_S q1557 q1558 q122 q1559) hd_X8_isLift ⟨by decide, by decide⟩ ⟨by decide, by decide⟩ rfl rfl (by simp [x_cr, x_c1, x_c2]) dX8_opener_14) ?_
    refine x_if_eq B (tgt := 32) dX8_opener_17 (by decide) ⟨by omega, by omega⟩ (fun h_17 => ?_) (fun h_17 => ?_)
    · refine x_iconst B dX8_opener_32 ?_
      refine x_iret B (fun _ _ h => h) ?_ dX8_opener_33
      exact ⟨by rw [if_neg (by omega)], hz, hrz⟩
    · refine x_iload_n B dX8_opener_20 rfl ?_
      refine x_i2l B dX8_opener_21 ⟨by omega, by omega⟩ ?_
      refine x_lconst B 0 dX8_opener_22 (by decide) ?_
      refine x_ldc2 B (1000000) q1766 (by decide) dX8_opener_23 ?_
      refine x_goP (x_rS B (c_X8_in ⟨by omega, by omega⟩ ⟨by omega, by omega⟩ ⟨by omega, by omega⟩) (lw_S q1468 q1469 q122 q1470) hd_X8_in ⟨by decide, by decide⟩ ⟨by decide, by decide⟩ rfl rfl (by simp [x_cr, x_c1, x_c2]) dX8_opener_26) ?_
      refine x_if_ne B (tgt := 34) dX8_opener_29 (by decide) ⟨by omega, by omega⟩ (fun h_29 => ?_) (fun h_29 => ?_)
      · have hi : 0 ≤ i ∧ i < X 64 3 := by unfold x_in at h_10; split at h_10 <;> omega
        have ht : 0 ≤ t ∧ t ≤ 2 := by unfold x_in at h_17; split at h_17 <;> omega
        have hw : 0 ≤ w ∧ w ≤ 1000000 := by unfold x_in at h_29; split at h_29 <;> omega
        refine x_bipush B dX8_opener_34 (by decide) ?_
        refine x_istw_4 B dX8_opener_36 (by first | rfl | exact x_cr _ _) ?_
        exact lp_38 _ 40 X0 ⟨hi, ht, hw, ⟨by omega, by omega⟩, ⟨hz, hrz⟩, by rw [if_pos ⟨by omega, by omega, by omega⟩]; rfl⟩ (Nat.lt_succ_self _)
      · refine x_iconst B dX8_opener_32 ?_
        refine x_iret B (fun _ _ h => h) ?_ dX8_opener_33
        exact ⟨by rw [if_neg (by omega)], hz, hrz⟩
