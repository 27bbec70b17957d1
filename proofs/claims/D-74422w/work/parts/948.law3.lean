theorem o_fr.k {X Y : x_X} (h : o_fr X Y) : k_eq X Y ∧ f_eq X Y := ⟨⟨fun a a1 a2 a3 a4 => h.1 a (by omega) a3, fun a a1 a2 => h.1 a (by omega) (by omega), ⟨h.2 1 (by omega), h.2 5 (by omega), h.2 12 (by omega)⟩, by rw [h.1 (-1) (by omega) (by omega)]; omega⟩, fun a a1 a2 => h.1 a (by omega) (by omega)⟩
theorem x_Lw {p : Program} {l : Launch} {e : Env} {R : Room} {s : State} {m : MethodId} {args : Array Value} {below : List Frame} {meth : Method} {c : Code} {nL : Nat} {E : x_E} {cells slots : Nat} {Q : State → Prop} {κ : x_Ka} {pc : Nat} {L L' : List (Option Value)} {st : List Value} {X : x_X} (h : L'.length = L.length) (hm : ∀ (i : Nat) (v : Value), L'[i]? = some (some v) → L[i]? = some (some v)) (k : x_G p l e R s m args below meth c nL E cells slots Q κ pc L' st X) : x_G p l e R s m args below meth c nL E cells slots Q κ pc L st X :=
  fun H locs ls hH hS hL => k H locs ls hH hS ⟨hL.1, hL.2.1, h.trans hL.2.2.1, fun i v hv => hL.2.2.2 i v (hm i v hv)⟩
theorem x_cmp_z (a : Int) : x_cmp a a = 0 := by unfold x_cmp; simp
theorem x_RRl {a : Int} (h : xR a) : xRl a := by unfold xR at h; unfold xRl; omega
theorem Rel_h {κ : x_Ka} {X Y Z : x_X} {j j2 : Int} (h : Rel κ X j) (hCY : CC κ Y j2) (hcf : CFr X Y) (hc : ceq X Y) (hg : ∀ a, 33 ≤ a → a ≤ 36 → Y a = X a) (h31 : Y 31 = X 31) (h0 : Y 0 1 = X 0 1 ∧ Y 0 5 = X 0 5 ∧ Y 0 12 = X 0 12) (hh : h_eq Y Z) (hr : ER Y Z) : Rel κ Z j2 := by
  obtain ⟨hC, hT, hV, hG, hS, hR⟩ := h
  have hTY := hT.cf hcf hT.1.1.1 hT.1.1.2.1
  have hv := hh.v
  have ht2 : teq Y Z := teq_e hv.1 (hh.2 10 (by omega) (by omega) (by omega)) (fun a a1 a2 => hh.1 a (by omega) (by omega) (by omega))
  have z64 := hcf 64 (by omega) (by omega)
  refine Rel_fin hCY hh.tf ⟨hh.C hTY.1, hTY.2.e (hh.2 14 (by omega) (by omega) (by omega)) (hh.2 13 (by omega) (by omega) (by omega)) hv.2.2.2.2.2.2⟩ (((hV.c hc).t (teq.cf hcf)).t ht2) ⟨?_, ?_⟩ ⟨?_, ?_, fun p hp => ?_⟩ hr
  · rw [hv.2.2.2.2.2.2, t_G_e (congrFun z64 13) (hcf 74 (by omega) (by omega)), hG.1]
    exact (c_G_e h0.2.2 hg).symm
  · rw [hh.2 13 (by omega) (by omega) (by omega), z64, h0.2.2]; exact hG.2
  · rw [hh.2 10 (by omega) (by omega) (by omega), z64, h0.1]; exact hS.1
  · rw [hh.2 18 (by omega) (by omega) (by omega), z64, h0.2.1]; exact hS.2.1
  · rw [h0.2.1] at hp
    rw [hh.1 75 (by omega) (by omega) (by omega), hcf 75 (by omega) (by omega), h31]
    exact hS.2.2 p hp
theorem Rel_row {κ : x_Ka} {X Y : x_X} {j : Int} (h : Rel κ X j) (hj : 0 ≤ j) (h0 : ∀ a, 0 ≤ a → a ≠ 87 → Y a = X a) (lo : X (-1) 0 ≤ Y (-1) 0) (z : Int) : Rel κ (x_up Y 64 0 z) (j + 1) := by
  have hC := h.1
  have hI := hC.1.1.1
  have hv : v_eq X Y := ⟨fun a a1 a2 => h0 a (by omega) (by omega), fun l l1 l2 k k1 k2 => h0 _ (by have := hI.2.2.2.2 l l1 l2; omega) (by have := hI.2.2.2.2 l l1 l2; omega), by rw [h0 0 (by omega) (by omega)]⟩
  have z0 := h0 0 (by omega) (by omega)
  have e12 : Y 1 2 = X 1 2 := by rw [h0 1 (by omega) (by omega)]
  have hM := hv.M hI.2.2.1.2
  have hCY : CC κ Y (j + 1) := CC.mk ((hC.pre.s hj).l hv.l lo (fun a a1 a2 => h0 a (by omega) (by omega)) (by rw [z0]; exact hC.2.2.2.2.1) (by rw [z0]; exact hC.2.2.2.2.2.1)) (by rw [e12, hM]; exact hC.1.1.2.2.2.1) (hv.C hC.1.1).2.2.2.2 (by rw [z0, e12, hM]; exact hC.2.2.2.2.2.2.1) (by rw [e12, hM]; exact hC.2.2.2.2.2.2.2.2)
  refine Rel_h h hCY (fun a a1 a2 => h0 a (by omega) (by omega)) (ceq_v hv hI.2.2.1.2) (fun a a1 a2 => h0 a (by omega) (by omega)) (h0 31 (by omega) (by omega)) ⟨by rw [z0], by rw [z0], by rw [z0]⟩ ((h_eq.rf Y).u64 (Or.inl rfl)) ?_
  unfold ER
  rw [x_up_n _ (Or.inr (by omega)), x_up_o _ (by omega), h0 64 (by omega) (by omega), h0 65 (by omega) (by omega), z0, h0 32 (by omega) (by omega)]
  exact h.2.2.2.2.2
theorem lc_9 {p : Program} {l : Launch} {e : Env} {s : State} {m : MethodId} {below : List Frame} {meth : Method} {c : Code} {b Ln : Nat} {xs : Nat → Int32} {E : x_E} {κ : x_Ka} {X : x_X} {j : Nat} (B : x_B p s m #[Value.ref b] meth c code "NextLoadLaw" 8 ret E) (hX : va_X b Ln xs s s.heap) (hb : b < E.1) (hE : E.1 = s.heap.size) (hst : l.stackTraces = false) (hj : 5 * j + 5 ≤ Ln) (hL3 : Ln ≤ 320) (hr : Rel κ X j) (K : ∀ (κ' : x_Ka) (X' : x_X), Rel κ' X' ((j + 1 : Nat) : Int) → x_G p l e room_1 s m #[Value.ref b] below meth c 8 E (90 + 4000 * (j + 1)) (247453 + 8000 * (j + 1)) (lw_Z below #[Value.ref b] s) κ' 1422 [some (Value.ref b), some (x_rf E 0), some (x_rf E 64), some (x_rf E 87), some (vi (5 * (j : Int))), none, none, none] [] X') : x_G p l e room_1 s m #[Value.ref b] below meth c 8 E (90 + 4000 * j) (247453 + 8000 * j) (lw_Z below #[Value.ref b] s) κ 481 [some (Value.ref b), some (x_rf E 0), some (x_rf E 64), some (x_rf E 87), some (vi (5 * (j : Int))), none, none, none] [] X := by
  obtain ⟨hC, hTT, hV, hG, hS, hR⟩ := id hr
  have hn := hC.1.1
  have hT := hn.1.1
  have h0 := hn.1.2.1
  have h8 := hTT.1.1.2.1
  have k87 := hC.1.2.2
  have hlo := hC.1.2.1
  have hj0 : (0 : Int) ≤ (j : Int) := by omega
  have hn6 := hn.1.2.2.1
  have hFB := hC.2.2.1.b (by omega)
  have a1 := z_S_R xs (5 * (j : Int) + 1)
  have a2 := z_S_R xs (5 * (j : Int) + 2)
  have a3 := z_S_R xs (5 * (j : Int) + 3)
  have a4 := z_S_R xs (5 * (j : Int) + 4)
  refine x_aload_n B dL_law_481 rfl ?_
  refine x_go (x_rV B h0 (show x_cl[0]? = some _ from rfl) (c_X1_called hn k87) (lw_V q793 q794 q795 q110 q796) hv_X1_called ⟨Nat.le_of_ble_eq_true rfl, Nat.le_of_ble_eq_true rfl⟩ ⟨by show _ ≤ 601024; omega, by show _ ≤ 7293034; omega⟩ rfl rfl (by simp [x_cr, x_c1, x_c2]) dL_law_482) (fun v_482 X_482 p_482 => ?_)
  obtain ⟨an, rfl, hy, hno⟩ := if_ans p_482
  have hk : k_eq X X_482 := by
    by_cases q : m_cal (X 1 2) (c_lot X) (c_M X 3) = -1
    · rw [(hy q).2]; exact k_eq.rf X
    · exact (hno q).2.1
  have hfe : f_eq X X_482 := by
    by_cases q : m_cal (X 1 2) (c_lot X) (c_M X 3) = -1
    · rw [(hy q).2]; exact fun _ _ _ => rfl
    · exact (hno q).2.2.1
  have hcf := hk.cf hlo
  have hTY := hTT.cf hcf hT h8
  have hVY := hV.t (teq.cf hcf)
  refine x_aload_n B dL_law_485 rfl ?_
  refine x_go (x_rV B h8 (show x_cl[7]? = some _ from rfl) (c_X8_called hTY.1) (lw_V q1604 q1605 q1606 q122 q1607) hv_X8_called ⟨Nat.le_of_ble_eq_true rfl, Nat.le_of_ble_eq_true rfl⟩ ⟨by show _ ≤ 601024; omega, by show _ ≤ 7293034; omega⟩ rfl rfl (by simp [x_cr, x_c1, x_c2]) dL_law_486) (fun v_486 X_486 p_486 => ?_)
  obtain ⟨bn, rfl, hz, hno8⟩ := if_ans p_486
  have em : m_cal (X_482 64 3) (t_lot X_482) (t_M X_482) = m_cal (X 1 2) (c_lot X) (c_M X 3) := by rw [hVY.1, hVY.2.2.2.1, hVY.2.1]
  rw [em] at hz hno8
  have hh : h_eq X_482 X_486 := by
    by_cases q : m_cal (X 1 2) (c_lot X) (c_M X 3) = -1
    · rw [(hz q).2]; exact h_eq.z
    · exact (hno8 q).2.1.h
  have hfin : bn = an ∧ ER X_482 X_486 ∧ (0 ≤ X_482 0 7 ∧ X_482 0 7 ≤ 64) := by
    by_cases q : m_cal (X 1 2) (c_lot X) (c_M X 3) = -1
    · have hrr := ER.q (Z := X_486) hr hk (by rw [(hy q).2]; exact ⟨rfl, rfl⟩) (by rw [(hz q).2]; exact hr8.z)
      exact ⟨by rw [(hy q).1, (hz q).1], hrr⟩
    · have h1 := hno q
      have h2 := hno8 q
      rw [hVY.2.1, hVY.2.2.2.2.2] at h2
      refine ⟨by rw [h1.1, h2.1], ⟨by rw [h2.2.2.1, h1.2.2.2.1], fun k k1 k2 => ?_⟩, by rw [h1.2.2.2.1]; omega⟩
      rw [h1.2.2.2.1] at k2
      rcases (show k = 0 ∨ k = 1 by omega) with e | e <;> rw [e]
      · rw [h1.2.2.2.2.1, h2.2.2.2.1]
      · rw [h1.2.2.2.2.2, h2.2.2.2.2]
  refine x_icmpS B (tgt := 1422) dL_law_489 (by decide) hfin.1 ?_
  refine x_wide (cells' := 90 + 4000 * (j + 1)) (slots' := 247453 + 8000 * (j + 1)) (by omega) (by omega) ?_
  exact K _ _ (Rel_q hr hj0 hk (Or.inl hfe) hh hfin.2.2 hfin.2.1)
theorem lc_10 {p : Program} {l : Launch} {e : Env} {s : State} {m : MethodId} {below : List Frame} {meth : Method} {c : Code} {b Ln : Nat} {xs : Nat → Int32} {E : x_E} {κ : x_Ka} {X : x_X} {j : Nat} (B : x_B p s m #[Value.ref b] meth c code "NextLoadLaw" 8 ret E) (hX : va_X b Ln xs s s.heap) (hb : b < E.1) (hE : E.1 = s.heap.size) (hst : l.stackTraces = false) (hj : 5 * j + 5 ≤ Ln) (hL3 : Ln ≤ 320) (hr : Rel κ X j) (K : ∀ (κ' : x_Ka) (X' : x_X), Rel κ' X' ((j + 1 : Nat) : Int) → x_G p l e room_1 s m #[Value.ref b] below meth c 8 E (90 + 4000 * (j + 1)) (247453 + 8000 * (j + 1)) (lw_Z below #[Value.ref b] s) κ' 1422 [some (Value.ref b), some (x_rf E 0), some (x_rf E 64), some (x_rf E 87), some (vi (5 * (j : Int))), none, none, none] [] X') : x_G p l e room_1 s m #[Value.ref b] below meth c 8 E (90 + 4000 * j) (247453 + 8000 * j) (lw_Z below #[Value.ref b] s) κ 494 [some (Value.ref b), some (x_rf E 0), some (x_rf E 64), some (x_rf E 87), some (vi (5 * (j : Int))), none, none, none] [] X := by
  obtain ⟨hC, hTT, hV, hG, hS, hR⟩ := id hr
  have hn := hC.1.1
  have hT := hn.1.1
  have h0 := hn.1.2.1
  have h8 := hTT.1.1.2.1
  have k87 := hC.1.2.2
  have hlo := hC.1.2.1
  have hj0 : (0 : Int) ≤ (j : Int) := by omega
  have hn6 := hn.1.2.2.1
  have hFB := hC.2.2.1.b (by omega)
  have a1 := z_S_R xs (5 * (j : Int) + 1)
  have a2 := z_S_R xs (5 * (j : Int) + 2)
  have a3 := z_S_R xs (5 * (j : Int) + 3)
  have a4 := z_S_R xs (5 * (j : Int) + 4)
  refine x_aload_n B dL_law_494 rfl ?_
  refine x_go (x_rV B h0 (show x_cl[0]? = some _ from rfl) (c_X1_order hn k87) (lw_V q815 q816 q817 q110 q818) hv_X1_order ⟨Nat.le_of_ble_eq_true rfl, Nat.le_of_ble_eq_true rfl⟩ ⟨by show _ ≤ 601024; omega, by show _ ≤ 7293034; omega⟩ rfl rfl (by simp [x_cr, x_c1, x_c2]) dL_law_495) (fun v_495 X_495 p_495 => ?_)
  obtain ⟨rfl, hk, hfe, e7, er⟩ := p_495
  have hcf := hk.cf hlo
  have hTY := hTT.cf hcf hT h8
  have hVY := hV.t (teq.cf hcf)
  refine x_aload_n B dL_law_498 rfl ?_
  refine x_go (x_rV B h8 (show x_cl[7]? = some _ from rfl) (c_X8_order hTY.1) (lw_V q1620 q1621 q1622 q122 q1623) hv_X8_order ⟨Nat.le_of_ble_eq_true rfl, Nat.le_of_ble_eq_true rfl⟩ ⟨by show _ ≤ 601024; omega, by show _ ≤ 7293034; omega⟩ rfl rfl (by simp [x_cr, x_c1, x_c2]) dL_law_499) (fun v_499 X_499 p_499 => ?_)
  obtain ⟨rfl, hnt, -, f1, fr⟩ := p_499
  have ho := m_ord (n := X 1 2) (lot := c_lot X) (M := c_M X 3) hn6 hC.2.2.2.2.2.2.2.1
  rw [hVY.1, hVY.2.1, hVY.2.2.2.1] at f1 fr
  refine x_icmpS B (tgt := 1422) dL_law_502 (by decide) (by rw [hVY.1, hVY.2.1, hVY.2.2.2.1]; exact ho.1) ?_
  refine x_wide (cells' := 90 + 4000 * (j + 1)) (slots' := 247453 + 8000 * (j + 1)) (by omega) (by omega) ?_
  exact K _ _ (Rel_q hr hj0 hk (Or.inl hfe) hnt.h (by rw [e7]; have := ho.2.1; omega) ⟨by rw [f1, e7]; exact ho.1, fun k k1 k2 => by rw [e7] at k2; rw [fr k k1 (Int.lt_of_lt_of_le k2 (Int.le_of_eq ho.1.symm)), er k k1 k2]; exact ho.2.2 k k1 k2⟩)
theorem lc_14 {p : Program} {l : Launch} {e : Env} {s : State} {m : MethodId} {below : List Frame} {meth : Method} {c : Code} {b Ln : Nat} {xs : Nat → Int32} {E : x_E} {κ : x_Ka} {X : x_X} {j : Nat} (B : x_B p s m #[Value.ref b] meth c code "NextLoadLaw" 8 ret E) (hX : va_X b Ln xs s s.heap) (hb : b < E.1) (hE : E.1 = s.heap.size) (hst : l.stackTraces = false) (hj : 5 * j + 5 ≤ Ln) (hL3 : Ln ≤ 320) (hr : Rel κ X j) (K : ∀ (κ' : x_Ka) (X' : x_X), Rel κ' X' ((j + 1 : Nat) : Int) → x_G p l e room_1 s m #[Value.ref b] below meth c 8 E (90 + 4000 * (j + 1)) (247453 + 8000 * (j + 1)) (lw_Z below #[Value.ref b] s) κ' 1422 [some (Value.ref b), some (x_rf E 0), some (x_rf E 64), some (x_rf E 87), some (vi (5 * (j : Int))), none, none, none] [] X') : x_G p l e room_1 s m #[Value.ref b] below meth c 8 E (90 + 4000 * j) (247453 + 8000 * j) (lw_Z below #[Value.ref b] s) κ 622 [some (Value.ref b), some (x_rf E 0), some (x_rf E 64), some (x_rf E 87), some (vi (5 * (j : Int))), none, none, none] [] X := by
  obtain ⟨hC, hTT, hV, hG, hS, hR⟩ := id hr
  have hn := hC.1.1
  have hT := hn.1.1
  have h0 := hn.1.2.1
  have h8 := hTT.1.1.2.1
  have k87 := hC.1.2.2
  have hlo := hC.1.2.1
  have hj0 : (0 : Int) ≤ (j : Int) := by omega
  have hn6 := hn.1.2.2.1
  have hFB := hC.2.2.1.b (by omega)
  have a1 := z_S_R xs (5 * (j : Int) + 1)
  have a2 := z_S_R xs (5 * (j : Int) + 2)
  have a3 := z_S_R xs (5 * (j : Int) + 3)
  have a4 := z_S_R xs (5 * (j : Int) + 4)
  have hp := m_pl (body := c_body X) (lot := c_lot X) (M := c_M X 3) hn6 hC.2.2.2.2.2.2.2.1 (fun l l1 l2 => (hn.2.2.2.1.2.1 l l1 l2).2.2.2.2.2.1)
  refine x_aload_n B dL_law_622 rfl ?_
  refine x_aldr B dL_law_623 rfl ?_
  refine x_iload B dL_law_624 rfl ?_
  refine x_iconst B dL_law_626 ?_
  refine x_iadd B dL_law_627 ?_
  refine x_sld B hX hb hE ⟨by omega, by omega⟩ hL3 dL_law_628 ?_
  refine x_go (x_rV B h0 (show x_cl[0]? = some _ from rfl) (c_X1_place hn hp.1 a1) (lw_V q905 q906 q907 q110 q908) hv_X1_place ⟨Nat.le_of_ble_eq_true rfl, Nat.le_of_ble_eq_true rfl⟩ ⟨by show _ ≤ 601024; omega, by show _ ≤ 7293034; omega⟩ rfl rfl (by simp [x_cr, x_c1, x_c2]) dL_law_629) (fun v_629 X_629 p_629 => ?_)
  obtain ⟨an, rfl, hy, hno⟩ := if_ans p_629
  have hk : k_eq X X_629 := by
    by_cases q : x_in (z_S xs (5 * (j : Int) + 1)) 0 (X 1 2 - 1) = 1
    · exact (hy q).2.1.k.1
    · rw [(hno q).2]; exact k_eq.rf X
  have hfe : f_eq X X_629 := by
    by_cases q : x_in (z_S xs (5 * (j : Int) + 1)) 0 (X 1 2 - 1) = 1
    · exact (hy q).2.1.k.2
    · rw [(hno q).2]; exact fun _ _ _ => rfl
  have hcf := hk.cf hlo
  have hTY := hTT.cf hcf hT h8
  have hVY := hV.t (teq.cf hcf)
  refine x_aload_n B dL_law_632 rfl ?_
  refine x_aldr B dL_law_633 rfl ?_
  refine x_iload B dL_law_634 rfl ?_
  refine x_iconst B dL_law_636 ?_
  refine x_iadd B dL_law_637 ?_
  refine x_sld B hX hb hE ⟨by omega, by omega⟩ hL3 dL_law_638 ?_
  refine x_go (x_rV B h8 (show x_cl[7]? = some _ from rfl) (c_X8_place hTY.1 a1) (lw_V q1657 q1658 q1659 q122 q1660) hv_X8_place ⟨Nat.le_of_ble_eq_true rfl, Nat.le_of_ble_eq_true rfl⟩ ⟨by show _ ≤ 601024; omega, by show _ ≤ 7293034; omega⟩ rfl rfl (by simp [x_cr, x_c1, x_c2]) dL_law_639) (fun v_639 X_639 p_639 => ?_)
  obtain ⟨bn, rfl, hz, hno8⟩ := if_ans p_639
  rw [hVY.1] at hz hno8
  have hh : h_eq X_629 X_639 := by
    by_cases q : x_in (z_S xs (5 * (j : Int) + 1)) 0 (X 1 2 - 1) = 1
    · exact (hz q).2.1.h
    · rw [(hno8 q).2]; exact h_eq.z
  have hfin : bn = an ∧ ER X_629 X_639 ∧ (0 ≤ X_629 0 7 ∧ X_629 0 7 ≤ 64) := by
    by_cases q : x_in (z_S xs (5 * (j : Int) + 1)) 0 (X 1 2 - 1) = 1
    · have h1 := hy q
      have h2 := hz q
      rw [hVY.2.1, li_eq hVY] at h2
      refine ⟨by rw [h1.1, h2.1], ⟨by rw [h2.2.2.1, h1.2.2.1]; exact hp.2.1, fun k k1 k2 => ?_⟩, by rw [h1.2.2.1]; omega⟩
      rw [h1.2.2.1] at k2
      rw [h1.2.2.2 k k1 k2, h2.2.2.2 k k1 (Int.lt_of_lt_of_le k2 (Int.le_of_eq hp.2.1.symm))]; exact hp.2.2 k k1 k2
    · have hrr := ER.q (Z := X_639) hr hk (by rw [(hno q).2]; exact ⟨rfl, rfl⟩) (by rw [(hno8 q).2]; exact hr8.z)
      exact ⟨by rw [(hno q).1, (hno8 q).1], hrr⟩
  refine x_icmpS B (tgt := 1422) dL_law_642 (by decide) hfin.1 ?_
  refine x_wide (cells' := 90 + 4000 * (j + 1)) (slots' := 247453 + 8000 * (j + 1)) (by omega) (by omega) ?_
  exact K _ _ (Rel_q hr hj0 hk (Or.inl hfe) hh hfin.2.2 hfin.2.1)
theorem lc_29 {p : Program} {l : Launch} {e : Env} {s : State} {m : MethodId} {below : List Frame} {meth : Method} {c : Code} {b Ln : Nat} {xs : Nat → Int32} {E : x_E} {κ : x_Ka} {X : x_X} {j : Nat} (B : x_B p s m #[Value.ref b] meth c code "NextLoadLaw" 8 ret E) (hX : va_X b Ln xs s s.heap) (hb : b < E.1) (hE : E.1 = s.heap.size) (hst : l.stackTraces = false) (hj : 5 * j + 5 ≤ Ln) (hL3 : Ln ≤ 320) (hr : Rel κ X j) (K : ∀ (κ' : x_Ka) (X' : x_X), Rel κ' X' ((j + 1 : Nat) : Int) → x_G p l e room_1 s m #[Value.ref b] below meth c 8 E (90 + 4000 * (j + 1)) (247453 + 8000 * (j + 1)) (lw_Z below #[Value.ref b] s) κ' 1422 [some (Value.ref b), some (x_rf E 0), some (x_rf E 64), some (x_rf E 87), some (vi (5 * (j : Int))), none, none, none] [] X') : x_G p l e room_1 s m #[Value.ref b] below meth c 8 E (90 + 4000 * j) (247453 + 8000 * j) (lw_Z below #[Value.ref b] s) κ 1105 [some (Value.ref b), some (x_rf E 0), some (x_rf E 64), some (x_rf E 87), some (vi (5 * (j : Int))), none, none, none] [] X := by
  obtain ⟨hC, hTT, hV, hG, hS, hR⟩ := id hr
  have hn := hC.1.1
  have hT := hn.1.1
  have h0 := hn.1.2.1
  have h8 := hTT.1.1.2.1
  have k87 := hC.1.2.2
  have hlo := hC.1.2.1
  have hj0 : (0 : Int) ≤ (j : Int) := by omega
  have hn6 := hn.1.2.2.1
  have hFB := hC.2.2.1.b (by omega)
  have a1 := z_S_R xs (5 * (j : Int) + 1)
  have a2 := z_S_R xs (5 * (j : Int) + 2)
  have a3 := z_S_R xs (5 * (j : Int) + 3)
  have a4 := z_S_R xs (5 * (j : Int) + 4)
  refine x_aload_n B dL_law_1105 rfl ?_
  refine x_aldr B dL_law_1106 rfl ?_
  refine x_iload B dL_law_1107 rfl ?_
  refine x_iconst B dL_law_1109 ?_
  refine x_iadd B dL_law_1110 ?_
  refine x_sld B hX hb hE ⟨by omega, by omega⟩ hL3 dL_law_1111 ?_
  refine x_aldr B dL_law_1112 rfl ?_
  refine x_iload B dL_law_1113 rfl ?_
  refine x_iconst B dL_law_1115 ?_
  refine x_iadd B dL_law_1116 ?_
  refine x_sld B hX hb hE ⟨by omega, by omega⟩ hL3 dL_law_1117 ?_
  refine x_aldr B dL_law_1118 rfl ?_
  refine x_iload B dL_law_1119 rfl ?_
  refine x_iconst B dL_law_1121 ?_
  refine x_iadd B dL_law_1122 ?_
  refine x_sld B hX hb hE ⟨by omega, by omega⟩ hL3 dL_law_1123 ?_
  refine x_if_eq B (tgt := 1131) dL_law_1124 (by decide) a3 (fun h_1124 => ?_) (fun h_1124 => ?_)
  · refine x_iconst B dL_law_1131 ?_
    refine x_go (x_rV B h0 (show x_cl[0]? = some _ from rfl) (c_X1_line_0 hn k87 hFB.1 a1 a2) (lw_V q1201 q1202 q1203 q110 q1204) hv_X1_line ⟨Nat.le_of_ble_eq_true rfl, Nat.le_of_ble_eq_true rfl⟩ ⟨by show _ ≤ 601024; omega, by show _ ≤ 7293034; omega⟩ rfl rfl (by simp [x_cr, x_c1, x_c2]) dL_law_1132) (fun v_1132 X_1132 p_1132 => ?_)
    obtain ⟨hk, hfe, hif⟩ := p_1132
    obtain ⟨an, rfl, hy, hno⟩ := if_ans hif
    have hcf := hk.cf hlo
    have hTY := hTT.cf hcf hT h8
    have hVY := hV.t (teq.cf hcf)
    have hQY : m_Q (X_1132 64 3) (t_M X_1132) := by rw [hVY.1, hVY.2.1]; exact hC.2.2.2.2.2.2.2.2
    refine x_aload_n B dL_law_1135 rfl ?_
    refine x_aldr B dL_law_1136 rfl ?_
    refine x_iload B dL_law_1137 rfl ?_
    refine x_iconst B dL_law_1139 ?_
    refine x_iadd B dL_law_1140 ?_
    refine x_sld B hX hb hE ⟨by omega, by omega⟩ hL3 dL_law_1141 ?_
    refine x_aldr B dL_law_1142 rfl ?_
    refine x_iload B dL_law_1143 rfl ?_
    refine x_iconst B dL_law_1145 ?_
    refine x_iadd B dL_law_1146 ?_
    refine x_sld B hX hb hE ⟨by omega, by omega⟩ hL3 dL_law_1147 ?_
    refine x_aldr B dL_law_1148 rfl ?_
    refine x_iload B dL_law_1149 rfl ?_
    refine x_iconst B dL_law_1151 ?_
    refine x_iadd B dL_law_1152 ?_
    refine x_sld B hX hb hE ⟨by omega, by omega⟩ hL3 dL_law_1153 ?_
    refine x_if_eq B (tgt := 1161) dL_law_1154 (by decide) a3 (fun h_1154 => ?_) (fun h_1154 => (by exfalso; omega))
    refine x_iconst B dL_law_1161 ?_
    refine x_go (x_rV B h8 (show x_cl[7]? = some _ from rfl) (c_X8_line_0 hTY.1 hQY a1 a2) (lw_V q1833 q1834 q1835 q122 q1836) hv_X8_line ⟨Nat.le_of_ble_eq_true rfl, Nat.le_of_ble_eq_true rfl⟩ ⟨by show _ ≤ 601024; omega, by show _ ≤ 7293034; omega⟩ rfl rfl (by simp [x_cr, x_c1, x_c2]) dL_law_1162) (fun v_1162 X_1162 p_1162 => ?_)
    obtain ⟨hh, hif8⟩ := p_1162
    obtain ⟨bn, rfl, hz, hno8⟩ := if_ans hif8
    have hfin : bn = an ∧ ER X_1132 X_1162 ∧ (0 ≤ X_1132 0 7 ∧ X_1132 0 7 ≤ 64) := by
      rw [hVY.1] at hz hno8
      by_cases q : x_in (z_S xs (5 * (j : Int) + 1)) 0 (X 1 2 - 1) = 1 ∧ x_in (z_S xs (5 * (j : Int) + 2)) 0 1 = 1
      · have h1 := hy q
        have h2 := hz q
        rw [q8_li_eq hVY hn] at h2
        refine ⟨by rw [h1.1, h2.1], ⟨by rw [h2.2.1, h1.2.1], fun k k1 k2 => ?_⟩, by rw [h1.2.1]; exact q_li_b _ _ _ _⟩
        rw [h1.2.1] at k2
        rw [h1.2.2 k k1 k2, h2.2.2 k k1 k2]
      · have hrr := ER.q hr hk (hno q).2 (hno8 q).2
        exact ⟨by rw [(hno q).1, (hno8 q).1], hrr⟩
    refine x_icmpS B (tgt := 1422) dL_law_1165 (by decide) hfin.1 ?_
    refine x_wide (cells' := 90 + 4000 * (j + 1)) (slots' := 247453 + 8000 * (j + 1)) (by omega) (by omega) ?_
    exact K _ _ (Rel_q hr hj0 hk (Or.inr hfe) hh hfin.2.2 hfin.2.1)
  · refine x_iconst B dL_law_1127 ?_
    refine x_goto B (tgt := 1132) dL_law_1128 (by decide) ?_
    refine x_go (x_rV B h0 (show x_cl[0]? = some _ from rfl) (c_X1_line_1 hn k87 hFB.1 a1 a2) (lw_V q1201 q1202 q1203 q110 q1204) hv_X1_line ⟨Nat.le_of_ble_eq_true rfl, Nat.le_of_ble_eq_true rfl⟩ ⟨by show _ ≤ 601024; omega, by show _ ≤ 7293034; omega⟩ rfl rfl (by simp [x_cr, x_c1, x_c2]) dL_law_1132) (fun v_1132 X_1132 p_1132 => ?_)
    obtain ⟨hk, hfe, hif⟩ := p_1132
    obtain ⟨an, rfl, hy, hno⟩ := if_ans hif
    have hcf := hk.cf hlo
    have hTY := hTT.cf hcf hT h8
    have hVY := hV.t (teq.cf hcf)
    have hQY : m_Q (X_1132 64 3) (t_M X_1132) := by rw [hVY.1, hVY.2.1]; exact hC.2.2.2.2.2.2.2.2
    refine x_aload_n B dL_law_1135 rfl ?_
    refine x_aldr B dL_law_1136 rfl ?_
    refine x_iload B dL_law_1137 rfl ?_
    refine x_iconst B dL_law_1139 ?_
    refine x_iadd B dL_law_1140 ?_
    refine x_sld B hX hb hE ⟨by omega, by omega⟩ hL3 dL_law_1141 ?_
    refine x_aldr B dL_law_1142 rfl ?_
    refine x_iload B dL_law_1143 rfl ?_
    refine x_iconst B dL_law_1145 ?_
    refine x_iadd B dL_law_1146 ?_
    refine x_sld B hX hb hE ⟨by omega, by omega⟩ hL3 dL_law_1147 ?_
    refine x_aldr B dL_law_1148 rfl ?_
    refine x_iload B dL_law_1149 rfl ?_
    refine x_iconst B dL_law_1151 ?_
    refine x_iadd B dL_law_1152 ?_
    refine x_sld B hX hb hE ⟨by omega, by omega⟩ hL3 dL_law_1153 ?_
    refine x_if_eq B (tgt := 1161) dL_law_1154 (by decide) a3 (fun h_1154 => (by exfalso; omega)) (fun h_1154 => ?_)
    refine x_iconst B dL_law_1157 ?_
    refine x_goto B (tgt := 1162) dL_law_1158 (by decide) ?_
    refine x_go (x_rV B h8 (show x_cl[7]? = some _ from rfl) (c_X8_line_1 hTY.1 hQY a1 a2) (lw_V q1833 q1834 q1835 q122 q1836) hv_X8_line ⟨Nat.le_of_ble_eq_true rfl, Nat.le_of_ble_eq_true rfl⟩ ⟨by show _ ≤ 601024; omega, by show _ ≤ 7293034; omega⟩ rfl rfl (by simp [x_cr, x_c1, x_c2]) dL_law_1162) (fun v_1162 X_1162 p_1162 => ?_)
    obtain ⟨hh, hif8⟩ := p_1162
    obtain ⟨bn, rfl, hz, hno8⟩ := if_ans hif8
    have hfin : bn = an ∧ ER X_1132 X_1162 ∧ (0 ≤ X_1132 0 7 ∧ X_1132 0 7 ≤ 64) := by
      rw [hVY.1] at hz hno8
      by_cases q : x_in (z_S xs (5 * (j : Int) + 1)) 0 (X 1 2 - 1) = 1 ∧ x_in (z_S xs (5 * (j : Int) + 2)) 0 1 = 1
      · have h1 := hy q
        have h2 := hz q
        rw [q8_li_eq hVY hn] at h2
        refine ⟨by rw [h1.1, h2.1], ⟨by rw [h2.2.1, h1.2.1], fun k k1 k2 => ?_⟩, by rw [h1.2.1]; exact q_li_b _ _ _ _⟩
        rw [h1.2.1] at k2
        rw [h1.2.2 k k1 k2, h2.2.2 k k1 k2]
      · have hrr := ER.q hr hk (hno q).2 (hno8 q).2
        exact ⟨by rw [(hno q).1, (hno8 q).1], hrr⟩
    refine x_icmpS B (tgt := 1422) dL_law_1165 (by decide) hfin.1 ?_
    refine x_wide (cells' := 90 + 4000 * (j + 1)) (slots' := 247453 + 8000 * (j + 1)) (by omega) (by omega) ?_
    exact K _ _ (Rel_q hr hj0 hk (Or.inr hfe) hh hfin.2.2 hfin.2.1)
theorem lc_35 {p : Program} {l : Launch} {e : Env} {s : State} {m : MethodId} {below : List Frame} {meth : Method} {c : Code} {b Ln : Nat} {xs : Nat → Int32} {E : x_E} {κ : x_Ka} {X : x_X} {j : Nat} (B : x_B p s m #[Value.ref b] meth c code "NextLoadLaw" 8 ret E) (hX : va_X b Ln xs s s.heap) (hb : b < E.1) (hE : E.1 = s.heap.size) (hst : l.stackTraces = false) (hj : 5 * j + 5 ≤ Ln) (hL3 : Ln ≤ 320) (hr : Rel κ X j) (K : ∀ (κ' : x_Ka) (X' : x_X), Rel κ' X' ((j + 1 : Nat) : Int) → x_G p l e room_1 s m #[Value.ref b] below meth c 8 E (90 + 4000 * (j + 1)) (247453 + 8000 * (j + 1)) (lw_Z below #[Value.ref b] s) κ' 1422 [some (Value.ref b), some (x_rf E 0), some (x_rf E 64), some (x_rf E 87), some (vi (5 * (j : Int))), none, none, none] [] X') : x_G p l e room_1 s m #[Value.ref b] below meth c 8 E (90 + 4000 * j) (247453 + 8000 * j) (lw_Z below #[Value.ref b] s) κ 1367 [some (Value.ref b), some (x_rf E 0), some (x_rf E 64), some (x_rf E 87), some (vi (5 * (j : Int))), none, none, none] [] X := by
  obtain ⟨hC, hTT, hV, hG, hS, hR⟩ := id hr
  have hn := hC.1.1
  have hT := hn.1.1
  have h0 := hn.1.2.1
  have h8 := hTT.1.1.2.1
  have k87 := hC.1.2.2
  have hlo := hC.1.2.1
  have hj0 : (0 : Int) ≤ (j : Int) := by omega
  have hn6 := hn.1.2.2.1
  have hFB := hC.2.2.1.b (by omega)
  have a1 := z_S_R xs (5 * (j : Int) + 1)
  have a2 := z_S_R xs (5 * (j : Int) + 2)
  have a3 := z_S_R xs (5 * (j : Int) + 3)
  have a4 := z_S_R xs (5 * (j : Int) + 4)
  refine x_aload_n B dL_law_1367 rfl ?_
  refine x_aldr B dL_law_1368 rfl ?_
  refine x_iload B dL_law_1369 rfl ?_
  refine x_iconst B dL_law_1371 ?_
  refine x_iadd B dL_law_1372 ?_
  refine x_sld B hX hb hE ⟨by omega, by omega⟩ hL3 dL_law_1373 ?_
  refine x_aload_n B dL_law_1374 rfl ?_
  refine x_goK (x_rSH B (c_X0_row hst hT h0 k87 hC.2.2.2.2.2.1 a1) (lw_SW q1298 q1299 q109 q1300) hd_X0_row ⟨Nat.le_of_ble_eq_true rfl, Nat.le_of_ble_eq_true rfl⟩ ⟨by show _ ≤ 601024; omega, by show _ ≤ 7293034; omega⟩ rfl rfl (by simp [x_cr, x_c1, x_c2]) dL_law_1375) (fun v_1375 κ_1375 X_1375 p_1375 => ?_)
  obtain ⟨rfl, hd⟩ := p_1375
  rcases hd with ⟨hx1, rfl, rfl⟩ | ⟨hx1, rfl, n_, hn_, rfl⟩
  · have y64 : (x_up X 87 0 (X 32 (z_S xs (5 * (j : Int) + 1)))) 64 = X 64 := x_up_o _ (by omega)
    have hcf : CFr X (x_up X 87 0 (X 32 (z_S xs (5 * (j : Int) + 1)))) := fun a a1 a2 => x_up_o _ (by omega)
    have hTY := hTT.cf hcf hT h8
    have hr1 : 0 ≤ (x_up X 87 0 (X 32 (z_S xs (5 * (j : Int) + 1)))) 64 1 ∧ (x_up X 87 0 (X 32 (z_S xs (5 * (j : Int) + 1)))) 64 1 ≤ 64 := by rw [y64, hR.1]; exact hC.2.2.2.2.2.1
    refine x_istw_5 B dL_law_1378 (by first | rfl | exact x_cr _ _) ?_
    refine x_aload_n B dL_law_1380 rfl ?_
    refine x_aldr B dL_law_1381 rfl ?_
    refine x_iload B dL_law_1382 rfl ?_
    refine x_iconst B dL_law_1384 ?_
    refine x_iadd B dL_law_1385 ?_
    refine x_sld B hX hb hE ⟨by omega, by omega⟩ hL3 dL_law_1386 ?_
    refine x_goP (x_rV B h8 (show x_cl[7]? = some _ from rfl) (c_X8_row hTY.1.1.1 hTY.1.1.2.1 hr1 a1) (lw_V q1921 q1922 q1923 q122 q1924) hv_X8_row ⟨Nat.le_of_ble_eq_true rfl, Nat.le_of_ble_eq_true rfl⟩ ⟨by show _ ≤ 601024; omega, by show _ ≤ 7293034; omega⟩ rfl rfl (by simp [x_cr, x_c1, x_c2]) dL_law_1387) ?_
    refine x_lstw_6 B dL_law_1390 (by first | rfl | exact x_cr _ _) ?_
    refine x_aload_n B dL_law_1392 rfl ?_
    refine x_goP (x_rV B h8 (show x_cl[7]? = some _ from rfl) (c_X8_thrown hTY.1.1.1 hTY.1.1.2.1) (lw_V q1456 q1457 q1458 q122 q1459) hv_X8_thrown ⟨Nat.le_of_ble_eq_true rfl, Nat.le_of_ble_eq_true rfl⟩ ⟨by show _ ≤ 601024; omega, by show _ ≤ 7293034; omega⟩ rfl rfl (by simp [x_cr, x_c1, x_c2]) dL_law_1393) ?_
    refine x_iload B dL_law_1396 rfl ?_
    refine x_icmpS B (tgt := 1403) dL_law_1398 (by decide) (by rw [x_up_s, y64, hR.1, hx1]; rfl) ?_
    refine x_iload B dL_law_1403 rfl ?_
    refine x_if_ne B (tgt := 1419) dL_law_1405 (by decide) ⟨by omega, by omega⟩ (fun h_1405 => (by exfalso; omega)) (fun h_1405 => ?_)
    have hx8 : x_in (z_S xs (5 * (j : Int) + 1)) 0 ((x_up X 87 0 (X 32 (z_S xs (5 * (j : Int) + 1)))) 64 1 - 1) = 1 := by rw [y64, hR.1]; exact hx1
    have e65 : (x_up X 87 0 (X 32 (z_S xs (5 * (j : Int) + 1)))) 65 (z_S xs (5 * (j : Int) + 1)) = X 32 (z_S xs (5 * (j : Int) + 1)) := by rw [x_up_o _ (by omega)]; exact hR.2 _ (x_in_i hx1).1 (x_in_i hx1).2
    refine x_aload_n B dL_law_1408 rfl ?_
    refine x_iconst B dL_law_1409 ?_
    refine x_lald B k87 ⟨by omega, by omega⟩ dL_law_1410 (fun r_1410 => ?_)
    refine x_lload B dL_law_1411 rfl ?_
    refine x_lcmp B dL_law_1413 (x_RRl r_1410) (by rw [if_pos hx8, e65]; rw [x_up_o _ (by omega), x_up_s] at r_1410; exact x_RRl r_1410) ?_
    have hcm : x_cmp ((x_up (x_up X 87 0 (X 32 (z_S xs (5 * (j : Int) + 1)))) 64 0 (1 - x_in (z_S xs (5 * (j : Int) + 1)) 0 ((x_up X 87 0 (X 32 (z_S xs (5 * (j : Int) + 1)))) 64 1 - 1))) 87 0) (if x_in (z_S xs (5 * (j : Int) + 1)) 0 ((x_up X 87 0 (X 32 (z_S xs (5 * (j : Int) + 1)))) 64 1 - 1) = 1 then (x_up X 87 0 (X 32 (z_S xs (5 * (j : Int) + 1)))) 65 (z_S xs (5 * (j : Int) + 1)) else 0) = 0 := by rw [if_pos hx8, e65, x_up_o _ (by omega), x_up_s]; exact x_cmp_z _
    refine x_if_eq B (tgt := 1419) dL_law_1414 (by decide) (by rw [hcm]; decide) (fun h_1414 => ?_) (fun h_1414 => (by exfalso; exact absurd hcm (by omega)))
    refine x_goto B (tgt := 1422) dL_law_1419 (by decide) ?_
    refine x_wide (cells' := 90 + 4000 * (j + 1)) (slots' := 247453 + 8000 * (j + 1)) (by omega) (by omega) ?_
    refine x_Lw (L' := [some (Value.ref b), some (x_rf E 0), some (x_rf E 64), some (x_rf E 87), some (vi (5 * (j : Int))), none, none, none]) rfl (fun i v hv => ?_) ?_
    · rcases (show i = 0 ∨ i = 1 ∨ i = 2 ∨ i = 3 ∨ i = 4 ∨ i = 5 ∨ i = 6 ∨ i = 7 ∨ 8 ≤ i by omega) with e | e | e | e | e | e | e | e | e <;> first | (subst e; first | exact hv | exact absurd hv (by simp)) | exact absurd hv (by rw [List.getElem?_eq_none (by simpa using e)]; simp)
    have hRel : Rel κ (x_up (x_up X 87 0 (X 32 (z_S xs (5 * (j : Int) + 1)))) 64 0 (1 - x_in (z_S xs (5 * (j : Int) + 1)) 0 ((x_up X 87 0 (X 32 (z_S xs (5 * (j : Int) + 1)))) 64 1 - 1))) ((j + 1 : Nat) : Int) := Rel_row hr hj0 (fun a a1 a2 => x_up_o _ (by omega)) (by rw [x_up_o _ (by omega)]; omega) _
    exact K _ _ hRel
  · have y64 : (x_up X (-1) 0 n_) 64 = X 64 := x_up_o _ (by omega)
    have hcf : CFr X (x_up X (-1) 0 n_) := fun a a1 a2 => x_up_o _ (by omega)
    have hTY := hTT.cf hcf hT h8
    have hr1 : 0 ≤ (x_up X (-1) 0 n_) 64 1 ∧ (x_up X (-1) 0 n_) 64 1 ≤ 64 := by rw [y64, hR.1]; exact hC.2.2.2.2.2.1
    refine x_istw_5 B dL_law_1378 (by first | rfl | exact x_cr _ _) ?_
    refine x_aload_n B dL_law_1380 rfl ?_
    refine x_aldr B dL_law_1381 rfl ?_
    refine x_iload B dL_law_1382 rfl ?_
    refine x_iconst B dL_law_1384 ?_
    refine x_iadd B dL_law_1385 ?_
    refine x_sld B hX hb hE ⟨by omega, by omega⟩ hL3 dL_law_1386 ?_
    refine x_goP (x_rV B h8 (show x_cl[7]? = some _ from rfl) (c_X8_row hTY.1.1.1 hTY.1.1.2.1 hr1 a1) (lw_V q1921 q1922 q1923 q122 q1924) hv_X8_row ⟨Nat.le_of_ble_eq_true rfl, Nat.le_of_ble_eq_true rfl⟩ ⟨by show _ ≤ 601024; omega, by show _ ≤ 7293034; omega⟩ rfl rfl (by simp [x_cr, x_c1, x_c2]) dL_law_1387) ?_
    refine x_lstw_6 B dL_law_1390 (by first | rfl | exact x_cr _ _) ?_
    refine x_aload_n B dL_law_1392 rfl ?_
    refine x_goP (x_rV B h8 (show x_cl[7]? = some _ from rfl) (c_X8_thrown hTY.1.1.1 hTY.1.1.2.1) (lw_V q1456 q1457 q1458 q122 q1459) hv_X8_thrown ⟨Nat.le_of_ble_eq_true rfl, Nat.le_of_ble_eq_true rfl⟩ ⟨by show _ ≤ 601024; omega, by show _ ≤ 7293034; omega⟩ rfl rfl (by simp [x_cr, x_c1, x_c2]) dL_law_1393) ?_
    refine x_iload B dL_law_1396 rfl ?_
    refine x_icmpS B (tgt := 1403) dL_law_1398 (by decide) (by rw [x_up_s, y64, hR.1, hx1]; rfl) ?_
    refine x_iload B dL_law_1403 rfl ?_
    refine x_if_ne B (tgt := 1419) dL_law_1405 (by decide) ⟨by omega, by omega⟩ (fun h_1405 => ?_) (fun h_1405 => (by exfalso; omega))
    refine x_goto B (tgt := 1422) dL_law_1419 (by decide) ?_
    refine x_wide (cells' := 90 + 4000 * (j + 1)) (slots' := 247453 + 8000 * (j + 1)) (by omega) (by omega) ?_
    refine x_Lw (L' := [some (Value.ref b), some (x_rf E 0), some (x_rf E 64), some (x_rf E 87), some (vi (5 * (j : Int))), none, none, none]) rfl (fun i v hv => ?_) ?_
    · rcases (show i = 0 ∨ i = 1 ∨ i = 2 ∨ i = 3 ∨ i = 4 ∨ i = 5 ∨ i = 6 ∨ i = 7 ∨ 8 ≤ i by omega) with e | e | e | e | e | e | e | e | e <;> first | (subst e; first | exact hv | exact absurd hv (by simp)) | exact absurd hv (by rw [List.getElem?_eq_none (by simpa using e)]; simp)
    have hRel : Rel κ (x_up (x_up X (-1) 0 n_) 64 0 (1 - x_in (z_S xs (5 * (j : Int) + 1)) 0 ((x_up X (-1) 0 n_) 64 1 - 1))) ((j + 1 : Nat) : Int) := Rel_row hr hj0 (fun a a1 a2 => x_up_o _ (by omega)) (by rw [x_up_s]; exact hn_) _
    exact K _ _ hRel
