theorem lc_19 {p : Program} {l : Launch} {e : Env} {s : State} {m : MethodId} {below : List Frame} {meth : Method} {c : Code} {b Ln : Nat} {xs : Nat → Int32} {E : x_E} {κ : x_Ka} {X : x_X} {j : Nat} (B : x_B p s m #[Value.ref b] meth c code "NextLoadLaw" 8 ret E) (hX : va_X b Ln xs s s.heap) (hb : b < E.1) (hE : E.1 = s.heap.size) (hst : l.stackTraces = false) (hj : 5 * j + 5 ≤ Ln) (hL3 : Ln ≤ 320) (hr : Rel κ X j) (K : ∀ (κ' : x_Ka) (X' : x_X), Rel κ' X' ((j + 1 : Nat) : Int) → x_G p l e room_1 s m #[Value.ref b] below meth c 8 E (90 + 4000 * (j + 1)) (247453 + 8000 * (j + 1)) (lw_Z below #[Value.ref b] s) κ' 1422 [some (Value.ref b), some (x_rf E 0), some (x_rf E 64), some (x_rf E 87), some (vi (5 * (j : Int))), none, none, none] [] X') : x_G p l e room_1 s m #[Value.ref b] below meth c 8 E (90 + 4000 * j) (247453 + 8000 * j) (lw_Z below #[Value.ref b] s) κ 783 [some (Value.ref b), some (x_rf E 0), some (x_rf E 64), some (x_rf E 87), some (vi (5 * (j : Int))), none, none, none] [] X := by
  obtain ⟨hC, hTT, hV, hG, hS, hR⟩ := id hr
  have hn := hC.1.1
  have hT := hn.1.1
  have h0 := hn.1.2.1
  have h8 := hTT.1.1.2.1
  have k87 := hC.1.2.2
  have hlo := hC.1.2.1
  have hj0 : (0 : Int) ≤ (j : Int) := by omega
  have hn6 := hn.1.2.2.1
  have hFB := hC.2.2.1.b (by omega)
  have a1 := z_S_R xs (5 * (j : Int) + 1)
  have a2 := z_S_R xs (5 * (j : Int) + 2)
  have a3 := z_S_R xs (5 * (j : Int) + 3)
  have a4 := z_S_R xs (5 * (j : Int) + 4)
  refine x_aload_n B dL_law_783 rfl ?_
  refine x_aldr B dL_law_784 rfl ?_
  refine x_iload B dL_law_785 rfl ?_
  refine x_iconst B dL_law_787 ?_
  refine x_iadd B dL_law_788 ?_
  refine x_sld B hX hb hE ⟨by omega, by omega⟩ hL3 dL_law_789 ?_
  refine x_go (x_rV B h0 (show x_cl[0]? = some _ from rfl) (c_X1_likeliest hn k87 a1) (lw_V q1085 q1086 q1087 q110 q1088) hv_X1_likeliest ⟨Nat.le_of_ble_eq_true rfl, Nat.le_of_ble_eq_true rfl⟩ ⟨by show _ ≤ 601024; omega, by show _ ≤ 7293034; omega⟩ rfl rfl (by simp [x_cr, x_c1, x_c2]) dL_law_790) (fun v_790 X_790 p_790 => ?_)
  obtain ⟨hk, hfe, hif⟩ := p_790
  obtain ⟨an, rfl, hy, hno⟩ := if_ans hif
  have hcf := hk.cf hlo
  have hTY := hTT.cf hcf hT h8
  have hVY := hV.t (teq.cf hcf)
  refine x_aload_n B dL_law_793 rfl ?_
  refine x_aldr B dL_law_794 rfl ?_
  refine x_iload B dL_law_795 rfl ?_
  refine x_iconst B dL_law_797 ?_
  refine x_iadd B dL_law_798 ?_
  refine x_sld B hX hb hE ⟨by omega, by omega⟩ hL3 dL_law_799 ?_
  refine x_go (x_rV B h8 (show x_cl[7]? = some _ from rfl) (c_X8_likeliest hTY.1 a1) (lw_V q1734 q1735 q1736 q122 q1737) hv_X8_likeliest ⟨Nat.le_of_ble_eq_true rfl, Nat.le_of_ble_eq_true rfl⟩ ⟨by show _ ≤ 601024; omega, by show _ ≤ 7293034; omega⟩ rfl rfl (by simp [x_cr, x_c1, x_c2]) dL_law_800) (fun v_800 X_800 p_800 => ?_)
  obtain ⟨hh, hif8⟩ := p_800
  obtain ⟨bn, rfl, hz, hno8⟩ := if_ans hif8
  have hfin : bn = an ∧ ER X_790 X_800 ∧ (0 ≤ X_790 0 7 ∧ X_790 0 7 ≤ 64) := by
    rw [hVY.1] at hz hno8
    by_cases q : x_in (z_S xs (5 * (j : Int) + 1)) 0 (X 1 2 - 1) = 1
    · have h1 := hy q
      have h2 := hz q
      refine ⟨by rw [h1.1, h2.1]; exact congrArg (fun d => l_b d 121) (q8_d_eq hVY hn (x_in_i q)), ⟨by rw [h2.2.1, h1.2.1], fun k k1 k2 => ?_⟩, by rw [h1.2.1]; omega⟩
      rw [h1.2.1] at k2
      rcases (show k = 0 ∨ k = 1 by omega) with e | e <;> rw [e]
      · rw [h1.2.2.1, h2.2.2.1]; exact congrArg (fun d => l_m d 121) (q8_d_eq hVY hn (x_in_i q))
      · rw [h1.2.2.2, h2.2.2.2]; exact q8_ch_eq hVY hn (x_in_i q) _
    · have hrr := ER.q hr hk (hno q).2 (hno8 q).2
      exact ⟨by rw [(hno q).1, (hno8 q).1], hrr⟩
  refine x_icmpS B (tgt := 1422) dL_law_803 (by decide) hfin.1 ?_
  refine x_wide (cells' := 90 + 4000 * (j + 1)) (slots' := 247453 + 8000 * (j + 1)) (by omega) (by omega) ?_
  exact K _ _ (Rel_q hr hj0 hk (Or.inl hfe) hh hfin.2.2 hfin.2.1)
theorem lc_21 {p : Program} {l : Launch} {e : Env} {s : State} {m : MethodId} {below : List Frame} {meth : Method} {c : Code} {b Ln : Nat} {xs : Nat → Int32} {E : x_E} {κ : x_Ka} {X : x_X} {j : Nat} (B : x_B p s m #[Value.ref b] meth c code "NextLoadLaw" 8 ret E) (hX : va_X b Ln xs s s.heap) (hb : b < E.1) (hE : E.1 = s.heap.size) (hst : l.stackTraces = false) (hj : 5 * j + 5 ≤ Ln) (hL3 : Ln ≤ 320) (hr : Rel κ X j) (K : ∀ (κ' : x_Ka) (X' : x_X), Rel κ' X' ((j + 1 : Nat) : Int) → x_G p l e room_1 s m #[Value.ref b] below meth c 8 E (90 + 4000 * (j + 1)) (247453 + 8000 * (j + 1)) (lw_Z below #[Value.ref b] s) κ' 1422 [some (Value.ref b), some (x_rf E 0), some (x_rf E 64), some (x_rf E 87), some (vi (5 * (j : Int))), none, none, none] [] X') : x_G p l e room_1 s m #[Value.ref b] below meth c 8 E (90 + 4000 * j) (247453 + 8000 * j) (lw_Z below #[Value.ref b] s) κ 845 [some (Value.ref b), some (x_rf E 0), some (x_rf E 64), some (x_rf E 87), some (vi (5 * (j : Int))), none, none, none] [] X := by
  obtain ⟨hC, hTT, hV, hG, hS, hR⟩ := id hr
  have hn := hC.1.1
  have hT := hn.1.1
  have h0 := hn.1.2.1
  have h8 := hTT.1.1.2.1
  have k87 := hC.1.2.2
  have hlo := hC.1.2.1
  have hj0 : (0 : Int) ≤ (j : Int) := by omega
  have hn6 := hn.1.2.2.1
  have hFB := hC.2.2.1.b (by omega)
  have a1 := z_S_R xs (5 * (j : Int) + 1)
  have a2 := z_S_R xs (5 * (j : Int) + 2)
  have a3 := z_S_R xs (5 * (j : Int) + 3)
  have a4 := z_S_R xs (5 * (j : Int) + 4)
  refine x_aload_n B dL_law_845 rfl ?_
  refine x_aldr B dL_law_846 rfl ?_
  refine x_iload B dL_law_847 rfl ?_
  refine x_iconst B dL_law_849 ?_
  refine x_iadd B dL_law_850 ?_
  refine x_sld B hX hb hE ⟨by omega, by omega⟩ hL3 dL_law_851 ?_
  refine x_go (x_rV B h0 (show x_cl[0]? = some _ from rfl) (c_X1_wins hn k87 a1) (lw_V q1119 q1120 q1121 q110 q1122) hv_X1_wins ⟨Nat.le_of_ble_eq_true rfl, Nat.le_of_ble_eq_true rfl⟩ ⟨by show _ ≤ 601024; omega, by show _ ≤ 7293034; omega⟩ rfl rfl (by simp [x_cr, x_c1, x_c2]) dL_law_852) (fun v_852 X_852 p_852 => ?_)
  obtain ⟨hk, hfe, hif⟩ := p_852
  obtain ⟨an, rfl, hy, hno⟩ := if_ans hif
  have hcf := hk.cf hlo
  have hTY := hTT.cf hcf hT h8
  have hVY := hV.t (teq.cf hcf)
  refine x_aload_n B dL_law_855 rfl ?_
  refine x_aldr B dL_law_856 rfl ?_
  refine x_iload B dL_law_857 rfl ?_
  refine x_iconst B dL_law_859 ?_
  refine x_iadd B dL_law_860 ?_
  refine x_sld B hX hb hE ⟨by omega, by omega⟩ hL3 dL_law_861 ?_
  refine x_go (x_rV B h8 (show x_cl[7]? = some _ from rfl) (c_X8_wins hTY.1 a1) (lw_V q1754 q1755 q1756 q122 q1757) hv_X8_wins ⟨Nat.le_of_ble_eq_true rfl, Nat.le_of_ble_eq_true rfl⟩ ⟨by show _ ≤ 601024; omega, by show _ ≤ 7293034; omega⟩ rfl rfl (by simp [x_cr, x_c1, x_c2]) dL_law_862) (fun v_862 X_862 p_862 => ?_)
  obtain ⟨hh, hif8⟩ := p_862
  obtain ⟨bn, rfl, hz, hno8⟩ := if_ans hif8
  have hfin : bn = an ∧ ER X_852 X_862 ∧ (0 ≤ X_852 0 7 ∧ X_852 0 7 ≤ 64) := by
    rw [hVY.1] at hz hno8
    by_cases q : x_in (z_S xs (5 * (j : Int) + 1)) 0 (X 1 2 - 1) = 1
    · have h1 := hy q
      have h2 := hz q
      have hw : ∀ l, 0 ≤ l → l < X 1 2 → q8_pl X_852 (g_wn (q8_bt X_852) (X_852 64 3) l) l = q_plan X (q_wn X l) l := fun l l1 l2 => q8_eq hVY hn ⟨l1, l2⟩ (fun v _ _ => by rw [q8_wn_eq hVY hn])
      rw [← hVY.1] at h2
      refine ⟨by rw [h1.1, h2.1]; exact hw _ (x_in_i q).1 (x_in_i q).2, ⟨by rw [h2.2.1, h1.2.1, hVY.1], fun k k1 k2 => ?_⟩, by rw [h1.2.1]; omega⟩
      rw [h1.2.1] at k2
      rw [h1.2.2 k k1 k2, h2.2.2 k k1 (by rw [hVY.1]; exact k2)]; exact hw k k1 k2
    · have hrr := ER.q hr hk (hno q).2 (hno8 q).2
      exact ⟨by rw [(hno q).1, (hno8 q).1], hrr⟩
  refine x_icmpS B (tgt := 1422) dL_law_865 (by decide) hfin.1 ?_
  refine x_wide (cells' := 90 + 4000 * (j + 1)) (slots' := 247453 + 8000 * (j + 1)) (by omega) (by omega) ?_
  exact K _ _ (Rel_q hr hj0 hk (Or.inl hfe) hh hfin.2.2 hfin.2.1)
theorem lc_22 {p : Program} {l : Launch} {e : Env} {s : State} {m : MethodId} {below : List Frame} {meth : Method} {c : Code} {b Ln : Nat} {xs : Nat → Int32} {E : x_E} {κ : x_Ka} {X : x_X} {j : Nat} (B : x_B p s m #[Value.ref b] meth c code "NextLoadLaw" 8 ret E) (hX : va_X b Ln xs s s.heap) (hb : b < E.1) (hE : E.1 = s.heap.size) (hst : l.stackTraces = false) (hj : 5 * j + 5 ≤ Ln) (hL3 : Ln ≤ 320) (hr : Rel κ X j) (K : ∀ (κ' : x_Ka) (X' : x_X), Rel κ' X' ((j + 1 : Nat) : Int) → x_G p l e room_1 s m #[Value.ref b] below meth c 8 E (90 + 4000 * (j + 1)) (247453 + 8000 * (j + 1)) (lw_Z below #[Value.ref b] s) κ' 1422 [some (Value.ref b), some (x_rf E 0), some (x_rf E 64), some (x_rf E 87), some (vi (5 * (j : Int))), none, none, none] [] X') : x_G p l e room_1 s m #[Value.ref b] below meth c 8 E (90 + 4000 * j) (247453 + 8000 * j) (lw_Z below #[Value.ref b] s) κ 870 [some (Value.ref b), some (x_rf E 0), some (x_rf E 64), some (x_rf E 87), some (vi (5 * (j : Int))), none, none, none] [] X := by
  obtain ⟨hC, hTT, hV, hG, hS, hR⟩ := id hr
  have hn := hC.1.1
  have hT := hn.1.1
  have h0 := hn.1.2.1
  have h8 := hTT.1.1.2.1
  have k87 := hC.1.2.2
  have hlo := hC.1.2.1
  have hj0 : (0 : Int) ≤ (j : Int) := by omega
  have hn6 := hn.1.2.2.1
  have hFB := hC.2.2.1.b (by omega)
  have a1 := z_S_R xs (5 * (j : Int) + 1)
  have a2 := z_S_R xs (5 * (j : Int) + 2)
  have a3 := z_S_R xs (5 * (j : Int) + 3)
  have a4 := z_S_R xs (5 * (j : Int) + 4)
  refine x_aload_n B dL_law_870 rfl ?_
  refine x_aldr B dL_law_871 rfl ?_
  refine x_iload B dL_law_872 rfl ?_
  refine x_iconst B dL_law_874 ?_
  refine x_iadd B dL_law_875 ?_
  refine x_sld B hX hb hE ⟨by omega, by omega⟩ hL3 dL_law_876 ?_
  refine x_go (x_rV B h0 (show x_cl[0]? = some _ from rfl) (c_X1_bombs hn k87 a1) (lw_V q1141 q1142 q1143 q110 q1144) hv_X1_bombs ⟨Nat.le_of_ble_eq_true rfl, Nat.le_of_ble_eq_true rfl⟩ ⟨by show _ ≤ 601024; omega, by show _ ≤ 7293034; omega⟩ rfl rfl (by simp [x_cr, x_c1, x_c2]) dL_law_877) (fun v_877 X_877 p_877 => ?_)
  obtain ⟨hk, hfe, hif⟩ := p_877
  obtain ⟨an, rfl, hy, hno⟩ := if_ans hif
  have hcf := hk.cf hlo
  have hTY := hTT.cf hcf hT h8
  have hVY := hV.t (teq.cf hcf)
  refine x_aload_n B dL_law_880 rfl ?_
  refine x_aldr B dL_law_881 rfl ?_
  refine x_iload B dL_law_882 rfl ?_
  refine x_iconst B dL_law_884 ?_
  refine x_iadd B dL_law_885 ?_
  refine x_sld B hX hb hE ⟨by omega, by omega⟩ hL3 dL_law_886 ?_
  refine x_go (x_rV B h8 (show x_cl[7]? = some _ from rfl) (c_X8_bombs hTY.1 a1) (lw_V q1767 q1768 q1769 q122 q1770) hv_X8_bombs ⟨Nat.le_of_ble_eq_true rfl, Nat.le_of_ble_eq_true rfl⟩ ⟨by show _ ≤ 601024; omega, by show _ ≤ 7293034; omega⟩ rfl rfl (by simp [x_cr, x_c1, x_c2]) dL_law_887) (fun v_887 X_887 p_887 => ?_)
  obtain ⟨hh, hif8⟩ := p_887
  obtain ⟨bn, rfl, hz, hno8⟩ := if_ans hif8
  have hfin : bn = an ∧ ER X_877 X_887 ∧ (0 ≤ X_877 0 7 ∧ X_877 0 7 ≤ 64) := by
    rw [hVY.1] at hz hno8
    by_cases q : x_in (z_S xs (5 * (j : Int) + 1)) 0 (X 1 2 - 1) = 1
    · have h1 := hy q
      have h2 := hz q
      refine ⟨by rw [h1.1, h2.1, q8_ch_eq hVY hn (x_in_i q)], ⟨by rw [h2.2.1, h1.2.1], fun k k1 k2 => ?_⟩, by rw [h1.2.1]; omega⟩
      rw [h1.2.1] at k2
      rw [h1.2.2 k k1 k2, h2.2.2 k k1 k2]; exact q8_ms_eq hVY ⟨k1, k2⟩
    · have hrr := ER.q hr hk (hno q).2 (hno8 q).2
      exact ⟨by rw [(hno q).1, (hno8 q).1], hrr⟩
  refine x_icmpS B (tgt := 1422) dL_law_890 (by decide) hfin.1 ?_
  refine x_wide (cells' := 90 + 4000 * (j + 1)) (slots' := 247453 + 8000 * (j + 1)) (by omega) (by omega) ?_
  exact K _ _ (Rel_q hr hj0 hk (Or.inl hfe) hh hfin.2.2 hfin.2.1)
theorem lc_24 {p : Program} {l : Launch} {e : Env} {s : State} {m : MethodId} {below : List Frame} {meth : Method} {c : Code} {b Ln : Nat} {xs : Nat → Int32} {E : x_E} {κ : x_Ka} {X : x_X} {j : Nat} (B : x_B p s m #[Value.ref b] meth c code "NextLoadLaw" 8 ret E) (hX : va_X b Ln xs s s.heap) (hb : b < E.1) (hE : E.1 = s.heap.size) (hst : l.stackTraces = false) (hj : 5 * j + 5 ≤ Ln) (hL3 : Ln ≤ 320) (hr : Rel κ X j) (K : ∀ (κ' : x_Ka) (X' : x_X), Rel κ' X' ((j + 1 : Nat) : Int) → x_G p l e room_1 s m #[Value.ref b] below meth c 8 E (90 + 4000 * (j + 1)) (247453 + 8000 * (j + 1)) (lw_Z below #[Value.ref b] s) κ' 1422 [some (Value.ref b), some (x_rf E 0), some (x_rf E 64), some (x_rf E 87), some (vi (5 * (j : Int))), none, none, none] [] X') : x_G p l e room_1 s m #[Value.ref b] below meth c 8 E (90 + 4000 * j) (247453 + 8000 * j) (lw_Z below #[Value.ref b] s) κ 944 [some (Value.ref b), some (x_rf E 0), some (x_rf E 64), some (x_rf E 87), some (vi (5 * (j : Int))), none, none, none] [] X := by
  obtain ⟨hC, hTT, hV, hG, hS, hR⟩ := id hr
  have hn := hC.1.1
  have hT := hn.1.1
  have h0 := hn.1.2.1
  have h8 := hTT.1.1.2.1
  have k87 := hC.1.2.2
  have hlo := hC.1.2.1
  have hj0 : (0 : Int) ≤ (j : Int) := by omega
  have hn6 := hn.1.2.2.1
  have hFB := hC.2.2.1.b (by omega)
  have a1 := z_S_R xs (5 * (j : Int) + 1)
  have a2 := z_S_R xs (5 * (j : Int) + 2)
  have a3 := z_S_R xs (5 * (j : Int) + 3)
  have a4 := z_S_R xs (5 * (j : Int) + 4)
  refine x_aload_n B dL_law_944 rfl ?_
  refine x_aldr B dL_law_945 rfl ?_
  refine x_iload B dL_law_946 rfl ?_
  refine x_iconst B dL_law_948 ?_
  refine x_iadd B dL_law_949 ?_
  refine x_sld B hX hb hE ⟨by omega, by omega⟩ hL3 dL_law_950 ?_
  refine x_go (x_rV B h0 (show x_cl[0]? = some _ from rfl) (c_X1_heavy hn k87 hFB.1 a1) (lw_V q1154 q1155 q1156 q110 q1157) hv_X1_heavy ⟨Nat.le_of_ble_eq_true rfl, Nat.le_of_ble_eq_true rfl⟩ ⟨by show _ ≤ 601024; omega, by show _ ≤ 7293034; omega⟩ rfl rfl (by simp [x_cr, x_c1, x_c2]) dL_law_951) (fun v_951 X_951 p_951 => ?_)
  obtain ⟨hk, hfe, hif⟩ := p_951
  obtain ⟨an, rfl, hy, hno⟩ := if_ans hif
  have hcf := hk.cf hlo
  have hTY := hTT.cf hcf hT h8
  have hVY := hV.t (teq.cf hcf)
  have hQY : m_Q (X_951 64 3) (t_M X_951) := by rw [hVY.1, hVY.2.1]; exact hC.2.2.2.2.2.2.2.2
  refine x_aload_n B dL_law_954 rfl ?_
  refine x_aldr B dL_law_955 rfl ?_
  refine x_iload B dL_law_956 rfl ?_
  refine x_iconst B dL_law_958 ?_
  refine x_iadd B dL_law_959 ?_
  refine x_sld B hX hb hE ⟨by omega, by omega⟩ hL3 dL_law_960 ?_
  refine x_go (x_rV B h8 (show x_cl[7]? = some _ from rfl) (c_X8_heavy hTY.1 hQY a1) (lw_V q1778 q1779 q1780 q122 q1781) hv_X8_heavy ⟨Nat.le_of_ble_eq_true rfl, Nat.le_of_ble_eq_true rfl⟩ ⟨by show _ ≤ 601024; omega, by show _ ≤ 7293034; omega⟩ rfl rfl (by simp [x_cr, x_c1, x_c2]) dL_law_961) (fun v_961 X_961 p_961 => ?_)
  obtain ⟨hh, hif8⟩ := p_961
  obtain ⟨bn, rfl, hz, hno8⟩ := if_ans hif8
  have hfin : bn = an ∧ ER X_951 X_961 ∧ (0 ≤ X_951 0 7 ∧ X_951 0 7 ≤ 64) := by
    rw [hVY.1] at hz hno8
    by_cases q : x_in (z_S xs (5 * (j : Int) + 1)) 0 (X 1 2 - 1) = 1
    · have h1 := hy q
      have h2 := hz q
      refine ⟨by rw [h1.1, h2.1]; exact (q8_fr_eq hVY _ _).1, ⟨by rw [h2.2.1, h1.2.1], fun k k1 k2 => ?_⟩, by rw [h1.2.1]; omega⟩
      rw [h1.2.1] at k2
      rcases (show k = 0 ∨ k = 1 by omega) with e | e <;> rw [e]
      · rw [h1.2.2.1, h2.2.2.1]; exact (q8_fr_eq hVY _ _).2
      · rw [h1.2.2.2, h2.2.2.2]; exact q8_eq hVY hn (x_in_i q) (fun _ _ _ => rfl)
    · have hrr := ER.q hr hk (hno q).2 (hno8 q).2
      exact ⟨by rw [(hno q).1, (hno8 q).1], hrr⟩
  refine x_icmpS B (tgt := 1422) dL_law_964 (by decide) hfin.1 ?_
  refine x_wide (cells' := 90 + 4000 * (j + 1)) (slots' := 247453 + 8000 * (j + 1)) (by omega) (by omega) ?_
  exact K _ _ (Rel_q hr hj0 hk (Or.inr hfe) hh hfin.2.2 hfin.2.1)
theorem lc_25 {p : Program} {l : Launch} {e : Env} {s : State} {m : MethodId} {below : List Frame} {meth : Method} {c : Code} {b Ln : Nat} {xs : Nat → Int32} {E : x_E} {κ : x_Ka} {X : x_X} {j : Nat} (B : x_B p s m #[Value.ref b] meth c code "NextLoadLaw" 8 ret E) (hX : va_X b Ln xs s s.heap) (hb : b < E.1) (hE : E.1 = s.heap.size) (hst : l.stackTraces = false) (hj : 5 * j + 5 ≤ Ln) (hL3 : Ln ≤ 320) (hr : Rel κ X j) (K : ∀ (κ' : x_Ka) (X' : x_X), Rel κ' X' ((j + 1 : Nat) : Int) → x_G p l e room_1 s m #[Value.ref b] below meth c 8 E (90 + 4000 * (j + 1)) (247453 + 8000 * (j + 1)) (lw_Z below #[Value.ref b] s) κ' 1422 [some (Value.ref b), some (x_rf E 0), some (x_rf E 64), some (x_rf E 87), some (vi (5 * (j : Int))), none, none, none] [] X') : x_G p l e room_1 s m #[Value.ref b] below meth c 8 E (90 + 4000 * j) (247453 + 8000 * j) (lw_Z below #[Value.ref b] s) κ 969 [some (Value.ref b), some (x_rf E 0), some (x_rf E 64), some (x_rf E 87), some (vi (5 * (j : Int))), none, none, none] [] X := by
  obtain ⟨hC, hTT, hV, hG, hS, hR⟩ := id hr
  have hn := hC.1.1
  have hT := hn.1.1
  have h0 := hn.1.2.1
  have h8 := hTT.1.1.2.1
  have k87 := hC.1.2.2
  have hlo := hC.1.2.1
  have hj0 : (0 : Int) ≤ (j : Int) := by omega
  have hn6 := hn.1.2.2.1
  have hFB := hC.2.2.1.b (by omega)
  have a1 := z_S_R xs (5 * (j : Int) + 1)
  have a2 := z_S_R xs (5 * (j : Int) + 2)
  have a3 := z_S_R xs (5 * (j : Int) + 3)
  have a4 := z_S_R xs (5 * (j : Int) + 4)
  refine x_aload_n B dL_law_969 rfl ?_
  refine x_aldr B dL_law_970 rfl ?_
  refine x_iload B dL_law_971 rfl ?_
  refine x_iconst B dL_law_973 ?_
  refine x_iadd B dL_law_974 ?_
  refine x_sld B hX hb hE ⟨by omega, by omega⟩ hL3 dL_law_975 ?_
  refine x_aldr B dL_law_976 rfl ?_
  refine x_iload B dL_law_977 rfl ?_
  refine x_iconst B dL_law_979 ?_
  refine x_iadd B dL_law_980 ?_
  refine x_sld B hX hb hE ⟨by omega, by omega⟩ hL3 dL_law_981 ?_
  refine x_go (x_rV B h0 (show x_cl[0]? = some _ from rfl) (c_X1_reach hn k87 hFB.1 a1 a2) (lw_V q1185 q1186 q1187 q110 q1188) hv_X1_reach ⟨Nat.le_of_ble_eq_true rfl, Nat.le_of_ble_eq_true rfl⟩ ⟨by show _ ≤ 601024; omega, by show _ ≤ 7293034; omega⟩ rfl rfl (by simp [x_cr, x_c1, x_c2]) dL_law_982) (fun v_982 X_982 p_982 => ?_)
  obtain ⟨hk, hfe, hif⟩ := p_982
  obtain ⟨an, rfl, hy, hno⟩ := if_ans hif
  have hcf := hk.cf hlo
  have hTY := hTT.cf hcf hT h8
  have hVY := hV.t (teq.cf hcf)
  have hQY : m_Q (X_982 64 3) (t_M X_982) := by rw [hVY.1, hVY.2.1]; exact hC.2.2.2.2.2.2.2.2
  refine x_aload_n B dL_law_985 rfl ?_
  refine x_aldr B dL_law_986 rfl ?_
  refine x_iload B dL_law_987 rfl ?_
  refine x_iconst B dL_law_989 ?_
  refine x_iadd B dL_law_990 ?_
  refine x_sld B hX hb hE ⟨by omega, by omega⟩ hL3 dL_law_991 ?_
  refine x_aldr B dL_law_992 rfl ?_
  refine x_iload B dL_law_993 rfl ?_
  refine x_iconst B dL_law_995 ?_
  refine x_iadd B dL_law_996 ?_
  refine x_sld B hX hb hE ⟨by omega, by omega⟩ hL3 dL_law_997 ?_
  refine x_go (x_rV B h8 (show x_cl[7]? = some _ from rfl) (c_X8_reach hTY.1 hQY a1 a2) (lw_V q1817 q1818 q1819 q122 q1820) hv_X8_reach ⟨Nat.le_of_ble_eq_true rfl, Nat.le_of_ble_eq_true rfl⟩ ⟨by show _ ≤ 601024; omega, by show _ ≤ 7293034; omega⟩ rfl rfl (by simp [x_cr, x_c1, x_c2]) dL_law_998) (fun v_998 X_998 p_998 => ?_)
  obtain ⟨hh, hif8⟩ := p_998
  obtain ⟨bn, rfl, hz, hno8⟩ := if_ans hif8
  have hfin : bn = an ∧ ER X_982 X_998 ∧ (0 ≤ X_982 0 7 ∧ X_982 0 7 ≤ 64) := by
    rw [hVY.1] at hz hno8
    by_cases q : x_in (z_S xs (5 * (j : Int) + 1)) 0 (X 1 2 - 1) = 1 ∧ x_in (z_S xs (5 * (j : Int) + 2)) 0 121 = 1
    · have h1 := hy q
      have h2 := hz q
      refine ⟨by rw [h1.1, h2.1]; exact (q8_fr_eq hVY _ _).1, ⟨by rw [h2.2.1, h1.2.1], fun k k1 k2 => ?_⟩, by rw [h1.2.1]; omega⟩
      rw [h1.2.1] at k2
      rcases (show k = 0 ∨ k = 1 by omega) with e | e <;> rw [e]
      · rw [h1.2.2.1, h2.2.2.1]; exact (q8_fr_eq hVY _ _).2
      · rw [h1.2.2.2, h2.2.2.2]; exact q8_eq hVY hn (x_in_i q.1) (fun _ _ _ => rfl)
    · have hrr := ER.q hr hk (hno q).2 (hno8 q).2
      exact ⟨by rw [(hno q).1, (hno8 q).1], hrr⟩
  refine x_icmpS B (tgt := 1422) dL_law_1001 (by decide) hfin.1 ?_
  refine x_wide (cells' := 90 + 4000 * (j + 1)) (slots' := 247453 + 8000 * (j + 1)) (by omega) (by omega) ?_
  exact K _ _ (Rel_q hr hj0 hk (Or.inr hfe) hh hfin.2.2 hfin.2.1)
theorem lc_26 {p : Program} {l : Launch} {e : Env} {s : State} {m : MethodId} {below : List Frame} {meth : Method} {c : Code} {b Ln : Nat} {xs : Nat → Int32} {E : x_E} {κ : x_Ka} {X : x_X} {j : Nat} (B : x_B p s m #[Value.ref b] meth c code "NextLoadLaw" 8 ret E) (hX : va_X b Ln xs s s.heap) (hb : b < E.1) (hE : E.1 = s.heap.size) (hst : l.stackTraces = false) (hj : 5 * j + 5 ≤ Ln) (hL3 : Ln ≤ 320) (hr : Rel κ X j) (K : ∀ (κ' : x_Ka) (X' : x_X), Rel κ' X' ((j + 1 : Nat) : Int) → x_G p l e room_1 s m #[Value.ref b] below meth c 8 E (90 + 4000 * (j + 1)) (247453 + 8000 * (j + 1)) (lw_Z below #[Value.ref b] s) κ' 1422 [some (Value.ref b), some (x_rf E 0), some (x_rf E 64), some (x_rf E 87), some (vi (5 * (j : Int))), none, none, none] [] X') : x_G p l e room_1 s m #[Value.ref b] below meth c 8 E (90 + 4000 * j) (247453 + 8000 * j) (lw_Z below #[Value.ref b] s) κ 1006 [some (Value.ref b), some (x_rf E 0), some (x_rf E 64), some (x_rf E 87), some (vi (5 * (j : Int))), none, none, none] [] X := by
  obtain ⟨hC, hTT, hV, hG, hS, hR⟩ := id hr
  have hn := hC.1.1
  have hT := hn.1.1
  have h0 := hn.1.2.1
  have h8 := hTT.1.1.2.1
  have k87 := hC.1.2.2
  have hlo := hC.1.2.1
  have hj0 : (0 : Int) ≤ (j : Int) := by omega
  have hn6 := hn.1.2.2.1
  have hFB := hC.2.2.1.b (by omega)
  have a1 := z_S_R xs (5 * (j : Int) + 1)
  have a2 := z_S_R xs (5 * (j : Int) + 2)
  have a3 := z_S_R xs (5 * (j : Int) + 3)
  have a4 := z_S_R xs (5 * (j : Int) + 4)
  refine x_aload_n B dL_law_1006 rfl ?_
  refine x_aldr B dL_law_1007 rfl ?_
  refine x_iload B dL_law_1008 rfl ?_
  refine x_iconst B dL_law_1010 ?_
  refine x_iadd B dL_law_1011 ?_
  refine x_sld B hX hb hE ⟨by omega, by omega⟩ hL3 dL_law_1012 ?_
  refine x_aldr B dL_law_1013 rfl ?_
  refine x_iload B dL_law_1014 rfl ?_
  refine x_iconst B dL_law_1016 ?_
  refine x_iadd B dL_law_1017 ?_
  refine x_sld B hX hb hE ⟨by omega, by omega⟩ hL3 dL_law_1018 ?_
  refine x_go (x_rV B h0 (show x_cl[0]? = some _ from rfl) (c_X1_aim hn k87 hFB.1 hFB.2 a1 a2) (lw_V q1189 q1190 q1191 q110 q1192) hv_X1_aim ⟨Nat.le_of_ble_eq_true rfl, Nat.le_of_ble_eq_true rfl⟩ ⟨by show _ ≤ 601024; omega, by show _ ≤ 7293034; omega⟩ rfl rfl (by simp [x_cr, x_c1, x_c2]) dL_law_1019) (fun v_1019 X_1019 p_1019 => ?_)
  obtain ⟨hk, hfe, hif⟩ := p_1019
  obtain ⟨an, rfl, hy, hno⟩ := if_ans hif
  have hcf := hk.cf hlo
  have hTY := hTT.cf hcf hT h8
  have hVY := hV.t (teq.cf hcf)
  have hQY : m_Q (X_1019 64 3) (t_M X_1019) := by rw [hVY.1, hVY.2.1]; exact hC.2.2.2.2.2.2.2.2
  refine x_aload_n B dL_law_1022 rfl ?_
  refine x_aldr B dL_law_1023 rfl ?_
  refine x_iload B dL_law_1024 rfl ?_
  refine x_iconst B dL_law_1026 ?_
  refine x_iadd B dL_law_1027 ?_
  refine x_sld B hX hb hE ⟨by omega, by omega⟩ hL3 dL_law_1028 ?_
  refine x_aldr B dL_law_1029 rfl ?_
  refine x_iload B dL_law_1030 rfl ?_
  refine x_iconst B dL_law_1032 ?_
  refine x_iadd B dL_law_1033 ?_
  refine x_sld B hX hb hE ⟨by omega, by omega⟩ hL3 dL_law_1034 ?_
  refine x_go (x_rV B h8 (show x_cl[7]? = some _ from rfl) (c_X8_aim hTY.1 hQY a1 a2) (lw_V q1821 q1822 q1823 q122 q1824) hv_X8_aim ⟨Nat.le_of_ble_eq_true rfl, Nat.le_of_ble_eq_true rfl⟩ ⟨by show _ ≤ 601024; omega, by show _ ≤ 7293034; omega⟩ rfl rfl (by simp [x_cr, x_c1, x_c2]) dL_law_1035) (fun v_1035 X_1035 p_1035 => ?_)
  obtain ⟨hh, hif8⟩ := p_1035
  obtain ⟨bn, rfl, hz, hno8⟩ := if_ans hif8
  have hfin : bn = an ∧ ER X_1019 X_1035 ∧ (0 ≤ X_1019 0 7 ∧ X_1019 0 7 ≤ 64) := by
    rw [hVY.1] at hz hno8
    by_cases q : x_in (z_S xs (5 * (j : Int) + 1)) 0 (X 1 2 - 1) = 1 ∧ x_in (z_S xs (5 * (j : Int) + 2)) 1 1000000 = 1
    · have h1 := hy q
      have h2 := hz q
      refine ⟨by rw [h1.1, h2.1]; exact q8_aim_eq hVY _ _, ⟨by rw [h2.2.1, h1.2.1], fun k k1 k2 => ?_⟩, by rw [h1.2.1]; omega⟩
      rw [h1.2.1] at k2
      rw [show k = 0 by omega, h1.2.2, h2.2.2]
      rw [q8_aim_eq hVY]; exact (q8_fr_eq hVY _ _).1
    · have hrr := ER.q hr hk (hno q).2 (hno8 q).2
      exact ⟨by rw [(hno q).1, (hno8 q).1], hrr⟩
  refine x_icmpS B (tgt := 1422) dL_law_1038 (by decide) hfin.1 ?_
  refine x_wide (cells' := 90 + 4000 * (j + 1)) (slots' := 247453 + 8000 * (j + 1)) (by omega) (by omega) ?_
  exact K _ _ (Rel_q hr hj0 hk (Or.inr hfe) hh hfin.2.2 hfin.2.1)
theorem lc_27 {p : Program} {l : Launch} {e : Env} {s : State} {m : MethodId} {below : List Frame} {meth : Method} {c : Code} {b Ln : Nat} {xs : Nat → Int32} {E : x_E} {κ : x_Ka} {X : x_X} {j : Nat} (B : x_B p s m #[Value.ref b] meth c code "NextLoadLaw" 8 ret E) (hX : va_X b Ln xs s s.heap) (hb : b < E.1) (hE : E.1 = s.heap.size) (hst : l.stackTraces = false) (hj : 5 * j + 5 ≤ Ln) (hL3 : Ln ≤ 320) (hr : Rel κ X j) (K : ∀ (κ' : x_Ka) (X' : x_X), Rel κ' X' ((j + 1 : Nat) : Int) → x_G p l e room_1 s m #[Value.ref b] below meth c 8 E (90 + 4000 * (j + 1)) (247453 + 8000 * (j + 1)) (lw_Z below #[Value.ref b] s) κ' 1422 [some (Value.ref b), some (x_rf E 0), some (x_rf E 64), some (x_rf E 87), some (vi (5 * (j : Int))), none, none, none] [] X') : x_G p l e room_1 s m #[Value.ref b] below meth c 8 E (90 + 4000 * j) (247453 + 8000 * j) (lw_Z below #[Value.ref b] s) κ 1043 [some (Value.ref b), some (x_rf E 0), some (x_rf E 64), some (x_rf E 87), some (vi (5 * (j : Int))), none, none, none] [] X := by
  obtain ⟨hC, hTT, hV, hG, hS, hR⟩ := id hr
  have hn := hC.1.1
  have hT := hn.1.1
  have h0 := hn.1.2.1
  have h8 := hTT.1.1.2.1
  have k87 := hC.1.2.2
  have hlo := hC.1.2.1
  have hj0 : (0 : Int) ≤ (j : Int) := by omega
  have hn6 := hn.1.2.2.1
  have hFB := hC.2.2.1.b (by omega)
  have a1 := z_S_R xs (5 * (j : Int) + 1)
  have a2 := z_S_R xs (5 * (j : Int) + 2)
  have a3 := z_S_R xs (5 * (j : Int) + 3)
  have a4 := z_S_R xs (5 * (j : Int) + 4)
  refine x_aload_n B dL_law_1043 rfl ?_
  refine x_aldr B dL_law_1044 rfl ?_
  refine x_iload B dL_law_1045 rfl ?_
  refine x_iconst B dL_law_1047 ?_
  refine x_iadd B dL_law_1048 ?_
  refine x_sld B hX hb hE ⟨by omega, by omega⟩ hL3 dL_law_1049 ?_
  refine x_aldr B dL_law_1050 rfl ?_
  refine x_iload B dL_law_1051 rfl ?_
  refine x_iconst B dL_law_1053 ?_
  refine x_iadd B dL_law_1054 ?_
  refine x_sld B hX hb hE ⟨by omega, by omega⟩ hL3 dL_law_1055 ?_
  refine x_go (x_rV B h0 (show x_cl[0]? = some _ from rfl) (c_X1_against hn k87 hFB.1 a1 a2) (lw_V q1193 q1194 q1195 q110 q1196) hv_X1_against ⟨Nat.le_of_ble_eq_true rfl, Nat.le_of_ble_eq_true rfl⟩ ⟨by show _ ≤ 601024; omega, by show _ ≤ 7293034; omega⟩ rfl rfl (by simp [x_cr, x_c1, x_c2]) dL_law_1056) (fun v_1056 X_1056 p_1056 => ?_)
  obtain ⟨hk, hfe, hif⟩ := p_1056
  obtain ⟨an, rfl, hy, hno⟩ := if_ans hif
  have hcf := hk.cf hlo
  have hTY := hTT.cf hcf hT h8
  have hVY := hV.t (teq.cf hcf)
  have hQY : m_Q (X_1056 64 3) (t_M X_1056) := by rw [hVY.1, hVY.2.1]; exact hC.2.2.2.2.2.2.2.2
  refine x_aload_n B dL_law_1059 rfl ?_
  refine x_aldr B dL_law_1060 rfl ?_
  refine x_iload B dL_law_1061 rfl ?_
  refine x_iconst B dL_law_1063 ?_
  refine x_iadd B dL_law_1064 ?_
  refine x_sld B hX hb hE ⟨by omega, by omega⟩ hL3 dL_law_1065 ?_
  refine x_aldr B dL_law_1066 rfl ?_
  refine x_iload B dL_law_1067 rfl ?_
  refine x_iconst B dL_law_1069 ?_
  refine x_iadd B dL_law_1070 ?_
  refine x_sld B hX hb hE ⟨by omega, by omega⟩ hL3 dL_law_1071 ?_
  refine x_go (x_rV B h8 (show x_cl[7]? = some _ from rfl) (c_X8_against hTY.1 hQY a1 a2) (lw_V q1825 q1826 q1827 q122 q1828) hv_X8_against ⟨Nat.le_of_ble_eq_true rfl, Nat.le_of_ble_eq_true rfl⟩ ⟨by show _ ≤ 601024; omega, by show _ ≤ 7293034; omega⟩ rfl rfl (by simp [x_cr, x_c1, x_c2]) dL_law_1072) (fun v_1072 X_1072 p_1072 => ?_)
  obtain ⟨hh, hif8⟩ := p_1072
  obtain ⟨bn, rfl, hz, hno8⟩ := if_ans hif8
  have hfin : bn = an ∧ ER X_1056 X_1072 ∧ (0 ≤ X_1056 0 7 ∧ X_1056 0 7 ≤ 64) := by
    rw [hVY.1] at hz hno8
    by_cases q : x_in (z_S xs (5 * (j : Int) + 1)) 0 (X 1 2 - 1) = 1 ∧ x_in (z_S xs (5 * (j : Int) + 2)) 0 (X 1 2 - 1) = 1 ∧ (z_S xs (5 * (j : Int) + 1)) ≠ (z_S xs (5 * (j : Int) + 2))
    · have h1 := hy q
      have h2 := hz q
      refine ⟨by rw [h1.1, h2.1]; rw [q8_bt_eq hVY hn (x_in_i q.2.1)]; exact (q8_fr_eq hVY _ _).1, ⟨by rw [h2.2.1, h1.2.1], fun k k1 k2 => ?_⟩, by rw [h1.2.1]; omega⟩
      rw [h1.2.1] at k2
      rcases (show k = 0 ∨ k = 1 by omega) with e | e <;> rw [e]
      · rw [h1.2.2.1, h2.2.2.1]; rw [q8_bt_eq hVY hn (x_in_i q.2.1)]; exact (q8_fr_eq hVY _ _).2
      · rw [h1.2.2.2, h2.2.2.2]; rw [q8_bt_eq hVY hn (x_in_i q.2.1)]; exact q8_eq hVY hn (x_in_i q.1) (fun _ _ _ => rfl)
    · have hrr := ER.q hr hk (hno q).2 (hno8 q).2
      exact ⟨by rw [(hno q).1, (hno8 q).1], hrr⟩
  refine x_icmpS B (tgt := 1422) dL_law_1075 (by decide) hfin.1 ?_
  refine x_wide (cells' := 90 + 4000 * (j + 1)) (slots' := 247453 + 8000 * (j + 1)) (by omega) (by omega) ?_
  exact K _ _ (Rel_q hr hj0 hk (Or.inr hfe) hh hfin.2.2 hfin.2.1)
theorem lc_28 {p : Program} {l : Launch} {e : Env} {s : State} {m : MethodId} {below : List Frame} {meth : Method} {c : Code} {b Ln : Nat} {xs : Nat → Int32} {E : x_E} {κ : x_Ka} {X : x_X} {j : Nat} (B : x_B p s m #[Value.ref b] meth c code "NextLoadLaw" 8 ret E) (hX : va_X b Ln xs s s.heap) (hb : b < E.1) (hE : E.1 = s.heap.size) (hst : l.stackTraces = false) (hj : 5 * j + 5 ≤ Ln) (hL3 : Ln ≤ 320) (hr : Rel κ X j) (K : ∀ (κ' : x_Ka) (X' : x_X), Rel κ' X' ((j + 1 : Nat) : Int) → x_G p l e room_1 s m #[Value.ref b] below meth c 8 E (90 + 4000 * (j + 1)) (247453 + 8000 * (j + 1)) (lw_Z below #[Value.ref b] s) κ' 1422 [some (Value.ref b), some (x_rf E 0), some (x_rf E 64), some (x_rf E 87), some (vi (5 * (j : Int))), none, none, none] [] X') : x_G p l e room_1 s m #[Value.ref b] below meth c 8 E (90 + 4000 * j) (247453 + 8000 * j) (lw_Z below #[Value.ref b] s) κ 1080 [some (Value.ref b), some (x_rf E 0), some (x_rf E 64), some (x_rf E 87), some (vi (5 * (j : Int))), none, none, none] [] X := by
  obtain ⟨hC, hTT, hV, hG, hS, hR⟩ := id hr
  have hn := hC.1.1
  have hT := hn.1.1
  have h0 := hn.1.2.1
  have h8 := hTT.1.1.2.1
  have k87 := hC.1.2.2
  have hlo := hC.1.2.1
  have hj0 : (0 : Int) ≤ (j : Int) := by omega
  have hn6 := hn.1.2.2.1
  have hFB := hC.2.2.1.b (by omega)
  have a1 := z_S_R xs (5 * (j : Int) + 1)
  have a2 := z_S_R xs (5 * (j : Int) + 2)
  have a3 := z_S_R xs (5 * (j : Int) + 3)
  have a4 := z_S_R xs (5 * (j : Int) + 4)
  refine x_aload_n B dL_law_1080 rfl ?_
  refine x_aldr B dL_law_1081 rfl ?_
  refine x_iload B dL_law_1082 rfl ?_
  refine x_iconst B dL_law_1084 ?_
  refine x_iadd B dL_law_1085 ?_
  refine x_sld B hX hb hE ⟨by omega, by omega⟩ hL3 dL_law_1086 ?_
  refine x_go (x_rV B h0 (show x_cl[0]? = some _ from rfl) (c_X1_gold hn k87 hFB.1 a1) (lw_V q1197 q1198 q1199 q110 q1200) hv_X1_gold ⟨Nat.le_of_ble_eq_true rfl, Nat.le_of_ble_eq_true rfl⟩ ⟨by show _ ≤ 601024; omega, by show _ ≤ 7293034; omega⟩ rfl rfl (by simp [x_cr, x_c1, x_c2]) dL_law_1087) (fun v_1087 X_1087 p_1087 => ?_)
  obtain ⟨hk, hfe, hif⟩ := p_1087
  obtain ⟨an, rfl, hy, hno⟩ := if_ans hif
  have hcf := hk.cf hlo
  have hTY := hTT.cf hcf hT h8
  have hVY := hV.t (teq.cf hcf)
  have hQY : m_Q (X_1087 64 3) (t_M X_1087) := by rw [hVY.1, hVY.2.1]; exact hC.2.2.2.2.2.2.2.2
  refine x_aload_n B dL_law_1090 rfl ?_
  refine x_aldr B dL_law_1091 rfl ?_
  refine x_iload B dL_law_1092 rfl ?_
  refine x_iconst B dL_law_1094 ?_
  refine x_iadd B dL_law_1095 ?_
  refine x_sld B hX hb hE ⟨by omega, by omega⟩ hL3 dL_law_1096 ?_
  refine x_go (x_rV B h8 (show x_cl[7]? = some _ from rfl) (c_X8_gold hTY.1 hQY a1) (lw_V q1829 q1830 q1831 q122 q1832) hv_X8_gold ⟨Nat.le_of_ble_eq_true rfl, Nat.le_of_ble_eq_true rfl⟩ ⟨by show _ ≤ 601024; omega, by show _ ≤ 7293034; omega⟩ rfl rfl (by simp [x_cr, x_c1, x_c2]) dL_law_1097) (fun v_1097 X_1097 p_1097 => ?_)
  obtain ⟨hh, hif8⟩ := p_1097
  obtain ⟨bn, rfl, hz, hno8⟩ := if_ans hif8
  have hfin : bn = an ∧ ER X_1087 X_1097 ∧ (0 ≤ X_1087 0 7 ∧ X_1087 0 7 ≤ 64) := by
    rw [hVY.1] at hz hno8
    by_cases q : x_in (z_S xs (5 * (j : Int) + 1)) 0 (X 1 2 - 1) = 1
    · have h1 := hy q
      have h2 := hz q
      refine ⟨by rw [h1.1, h2.1]; rw [← hVY.1, q8_wn_eq hVY hn]; exact (q8_fr_eq hVY _ _).1, ⟨by rw [h2.2.1, h1.2.1], fun k k1 k2 => ?_⟩, by rw [h1.2.1]; omega⟩
      rw [h1.2.1] at k2
      rcases (show k = 0 ∨ k = 1 by omega) with e | e <;> rw [e]
      · rw [h1.2.2.1, h2.2.2.1]; rw [← hVY.1, q8_wn_eq hVY hn]; exact (q8_fr_eq hVY _ _).2
      · rw [h1.2.2.2, h2.2.2.2]; rw [← hVY.1, q8_wn_eq hVY hn]; exact q8_eq hVY hn (x_in_i q) (fun _ _ _ => rfl)
    · have hrr := ER.q hr hk (hno q).2 (hno8 q).2
      exact ⟨by rw [(hno q).1, (hno8 q).1], hrr⟩
  refine x_icmpS B (tgt := 1422) dL_law_1100 (by decide) hfin.1 ?_
  refine x_wide (cells' := 90 + 4000 * (j + 1)) (slots' := 247453 + 8000 * (j + 1)) (by omega) (by omega) ?_
  exact K _ _ (Rel_q hr hj0 hk (Or.inr hfe) hh hfin.2.2 hfin.2.1)
theorem lc_30 {p : Program} {l : Launch} {e : Env} {s : State} {m : MethodId} {below : List Frame} {meth : Method} {c : Code} {b Ln : Nat} {xs : Nat → Int32} {E : x_E} {κ : x_Ka} {X : x_X} {j : Nat} (B : x_B p s m #[Value.ref b] meth c code "NextLoadLaw" 8 ret E) (hX : va_X b Ln xs s s.heap) (hb : b < E.1) (hE : E.1 = s.heap.size) (hst : l.stackTraces = false) (hj : 5 * j + 5 ≤ Ln) (hL3 : Ln ≤ 320) (hr : Rel κ X j) (K : ∀ (κ' : x_Ka) (X' : x_X), Rel κ' X' ((j + 1 : Nat) : Int) → x_G p l e room_1 s m #[Value.ref b] below meth c 8 E (90 + 4000 * (j + 1)) (247453 + 8000 * (j + 1)) (lw_Z below #[Value.ref b] s) κ' 1422 [some (Value.ref b), some (x_rf E 0), some (x_rf E 64), some (x_rf E 87), some (vi (5 * (j : Int))), none, none, none] [] X') : x_G p l e room_1 s m #[Value.ref b] below meth c 8 E (90 + 4000 * j) (247453 + 8000 * j) (lw_Z below #[Value.ref b] s) κ 1170 [some (Value.ref b), some (x_rf E 0), some (x_rf E 64), some (x_rf E 87), some (vi (5 * (j : Int))), none, none, none] [] X := by
  obtain ⟨hC, hTT, hV, hG, hS, hR⟩ := id hr
  have hn := hC.1.1
  have hT := hn.1.1
  have h0 := hn.1.2.1
  have h8 := hTT.1.1.2.1
  have k87 := hC.1.2.2
  have hlo := hC.1.2.1
  have hj0 : (0 : Int) ≤ (j : Int) := by omega
  have hn6 := hn.1.2.2.1
  have hFB := hC.2.2.1.b (by omega)
  have a1 := z_S_R xs (5 * (j : Int) + 1)
  have a2 := z_S_R xs (5 * (j : Int) + 2)
  have a3 := z_S_R xs (5 * (j : Int) + 3)
  have a4 := z_S_R xs (5 * (j : Int) + 4)
  refine x_aload_n B dL_law_1170 rfl ?_
  refine x_aldr B dL_law_1171 rfl ?_
  refine x_iload B dL_law_1172 rfl ?_
  refine x_iconst B dL_law_1174 ?_
  refine x_iadd B dL_law_1175 ?_
  refine x_sld B hX hb hE ⟨by omega, by omega⟩ hL3 dL_law_1176 ?_
  refine x_aldr B dL_law_1177 rfl ?_
  refine x_iload B dL_law_1178 rfl ?_
  refine x_iconst B dL_law_1180 ?_
  refine x_iadd B dL_law_1181 ?_
  refine x_sld B hX hb hE ⟨by omega, by omega⟩ hL3 dL_law_1182 ?_
  refine x_go (x_rV B h0 (show x_cl[0]? = some _ from rfl) (c_X1_duel hn k87 a1 a2) (lw_V q1210 q1211 q1212 q110 q1213) hv_X1_duel ⟨Nat.le_of_ble_eq_true rfl, Nat.le_of_ble_eq_true rfl⟩ ⟨by show _ ≤ 601024; omega, by show _ ≤ 7293034; omega⟩ rfl rfl (by simp [x_cr, x_c1, x_c2]) dL_law_1183) (fun v_1183 X_1183 p_1183 => ?_)
  obtain ⟨hk, hfe, hif⟩ := p_1183
  obtain ⟨an, rfl, hy, hy2, hno⟩ := if_ans2 hif
  have hcf := hk.cf hlo
  have hTY := hTT.cf hcf hT h8
  have hVY := hV.t (teq.cf hcf)
  refine x_aload_n B dL_law_1186 rfl ?_
  refine x_aldr B dL_law_1187 rfl ?_
  refine x_iload B dL_law_1188 rfl ?_
  refine x_iconst B dL_law_1190 ?_
  refine x_iadd B dL_law_1191 ?_
  refine x_sld B hX hb hE ⟨by omega, by omega⟩ hL3 dL_law_1192 ?_
  refine x_aldr B dL_law_1193 rfl ?_
  refine x_iload B dL_law_1194 rfl ?_
  refine x_iconst B dL_law_1196 ?_
  refine x_iadd B dL_law_1197 ?_
  refine x_sld B hX hb hE ⟨by omega, by omega⟩ hL3 dL_law_1198 ?_
  refine x_go (x_rV B h8 (show x_cl[7]? = some _ from rfl) (c_X8_duel hTY.1 a1 a2) (lw_V q1841 q1842 q1843 q122 q1844) hv_X8_duel ⟨Nat.le_of_ble_eq_true rfl, Nat.le_of_ble_eq_true rfl⟩ ⟨by show _ ≤ 601024; omega, by show _ ≤ 7293034; omega⟩ rfl rfl (by simp [x_cr, x_c1, x_c2]) dL_law_1199) (fun v_1199 X_1199 p_1199 => ?_)
  obtain ⟨hh, hif8⟩ := p_1199
  obtain ⟨bn, rfl, hz, hz2, hno8⟩ := if_ans2 hif8
  have hfin : bn = an ∧ ER X_1183 X_1199 ∧ (0 ≤ X_1183 0 7 ∧ X_1183 0 7 ≤ 64) := by
    rw [hVY.1] at hz hz2 hno8
    by_cases q : x_in (z_S xs (5 * (j : Int) + 1)) 0 (X 1 2 - 1) = 1 ∧ x_in (z_S xs (5 * (j : Int) + 2)) 0 (X 1 2 - 1) = 1 ∧ (z_S xs (5 * (j : Int) + 1)) ≠ (z_S xs (5 * (j : Int) + 2))
    · by_cases d : q_nd (c_M X 3) (z_S xs (5 * (j : Int) + 1)) (z_S xs (5 * (j : Int) + 2)) ≠ 0
      · rw [hVY.2.1] at hz
        have h1 := hy q d
        have h2 := hz q d
        have hrr := ER.q hr hk h1.2 h2.2
        exact ⟨by rw [h1.1, h2.1], hrr⟩
      · rw [hVY.2.1] at hz2
        have h1 := hy2 q d
        have h2 := hz2 q d
        rw [hVY.2.2.2.1, q8_dv_eq hVY] at h2
        refine ⟨by rw [h1.1, h2.1], ⟨by rw [h2.2.1, h1.2.1], fun k k1 k2 => ?_⟩, by rw [h1.2.1]; omega⟩
        rw [h1.2.1] at k2
        rcases (show k = 0 ∨ k = 1 ∨ k = 2 by omega) with e | e | e <;> rw [e]
        · rw [h1.2.2.1, h2.2.2.1]
        · rw [h1.2.2.2.1, h2.2.2.2.1]
        · rw [h1.2.2.2.2, h2.2.2.2.2]
    · have hrr := ER.q hr hk (hno q).2 (hno8 q).2
      exact ⟨by rw [(hno q).1, (hno8 q).1], hrr⟩
  refine x_icmpS B (tgt := 1422) dL_law_1202 (by decide) hfin.1 ?_
  refine x_wide (cells' := 90 + 4000 * (j + 1)) (slots' := 247453 + 8000 * (j + 1)) (by omega) (by omega) ?_
  exact K _ _ (Rel_q hr hj0 hk (Or.inl hfe) hh hfin.2.2 hfin.2.1)
theorem lc_31 {p : Program} {l : Launch} {e : Env} {s : State} {m : MethodId} {below : List Frame} {meth : Method} {c : Code} {b Ln : Nat} {xs : Nat → Int32} {E : x_E} {κ : x_Ka} {X : x_X} {j : Nat} (B : x_B p s m #[Value.ref b] meth c code "NextLoadLaw" 8 ret E) (hX : va_X b Ln xs s s.heap) (hb : b < E.1) (hE : E.1 = s.heap.size) (hst : l.stackTraces = false) (hj : 5 * j + 5 ≤ Ln) (hL3 : Ln ≤ 320) (hr : Rel κ X j) (K : ∀ (κ' : x_Ka) (X' : x_X), Rel κ' X' ((j + 1 : Nat) : Int) → x_G p l e room_1 s m #[Value.ref b] below meth c 8 E (90 + 4000 * (j + 1)) (247453 + 8000 * (j + 1)) (lw_Z below #[Value.ref b] s) κ' 1422 [some (Value.ref b), some (x_rf E 0), some (x_rf E 64), some (x_rf E 87), some (vi (5 * (j : Int))), none, none, none] [] X') : x_G p l e room_1 s m #[Value.ref b] below meth c 8 E (90 + 4000 * j) (247453 + 8000 * j) (lw_Z below #[Value.ref b] s) κ 1207 [some (Value.ref b), some (x_rf E 0), some (x_rf E 64), some (x_rf E 87), some (vi (5 * (j : Int))), none, none, none] [] X := by
  obtain ⟨hC, hTT, hV, hG, hS, hR⟩ := id hr
  have hn := hC.1.1
  have hT := hn.1.1
  have h0 := hn.1.2.1
  have h8 := hTT.1.1.2.1
  have k87 := hC.1.2.2
  have hlo := hC.1.2.1
  have hj0 : (0 : Int) ≤ (j : Int) := by omega
  have hn6 := hn.1.2.2.1
  have hFB := hC.2.2.1.b (by omega)
  have a1 := z_S_R xs (5 * (j : Int) + 1)
  have a2 := z_S_R xs (5 * (j : Int) + 2)
  have a3 := z_S_R xs (5 * (j : Int) + 3)
  have a4 := z_S_R xs (5 * (j : Int) + 4)
  refine x_aload_n B dL_law_1207 rfl ?_
  refine x_aldr B dL_law_1208 rfl ?_
  refine x_iload B dL_law_1209 rfl ?_
  refine x_iconst B dL_law_1211 ?_
  refine x_iadd B dL_law_1212 ?_
  refine x_sld B hX hb hE ⟨by omega, by omega⟩ hL3 dL_law_1213 ?_
  refine x_aldr B dL_law_1214 rfl ?_
  refine x_iload B dL_law_1215 rfl ?_
  refine x_iconst B dL_law_1217 ?_
  refine x_iadd B dL_law_1218 ?_
  refine x_sld B hX hb hE ⟨by omega, by omega⟩ hL3 dL_law_1219 ?_
  refine x_aldr B dL_law_1220 rfl ?_
  refine x_iload B dL_law_1221 rfl ?_
  refine x_iconst B dL_law_1223 ?_
  refine x_iadd B dL_law_1224 ?_
  refine x_sld B hX hb hE ⟨by omega, by omega⟩ hL3 dL_law_1225 ?_
  refine x_aldr B dL_law_1226 rfl ?_
  refine x_iload B dL_law_1227 rfl ?_
  refine x_iconst B dL_law_1229 ?_
  refine x_iadd B dL_law_1230 ?_
  refine x_sld B hX hb hE ⟨by omega, by omega⟩ hL3 dL_law_1231 ?_
  refine x_go (x_rV B h0 (show x_cl[0]? = some _ from rfl) (c_X1_bluff hn k87 a1 a2 a3 a4) (lw_V q1268 q1269 q1270 q110 q1271) hv_X1_bluff ⟨Nat.le_of_ble_eq_true rfl, Nat.le_of_ble_eq_true rfl⟩ ⟨by show _ ≤ 601024; omega, by show _ ≤ 7293034; omega⟩ rfl rfl (by simp [x_cr, x_c1, x_c2]) dL_law_1232) (fun v_1232 X_1232 p_1232 => ?_)
  obtain ⟨hk, hfe, hif⟩ := p_1232
  obtain ⟨an, rfl, hy, hy2, hno⟩ := if_ans2 hif
  have hcf := hk.cf hlo
  have hTY := hTT.cf hcf hT h8
  have hVY := hV.t (teq.cf hcf)
  refine x_aload_n B dL_law_1235 rfl ?_
  refine x_aldr B dL_law_1236 rfl ?_
  refine x_iload B dL_law_1237 rfl ?_
  refine x_iconst B dL_law_1239 ?_
  refine x_iadd B dL_law_1240 ?_
  refine x_sld B hX hb hE ⟨by omega, by omega⟩ hL3 dL_law_1241 ?_
  refine x_aldr B dL_law_1242 rfl ?_
  refine x_iload B dL_law_1243 rfl ?_
  refine x_iconst B dL_law_1245 ?_
  refine x_iadd B dL_law_1246 ?_
  refine x_sld B hX hb hE ⟨by omega, by omega⟩ hL3 dL_law_1247 ?_
  refine x_aldr B dL_law_1248 rfl ?_
  refine x_iload B dL_law_1249 rfl ?_
  refine x_iconst B dL_law_1251 ?_
  refine x_iadd B dL_law_1252 ?_
  refine x_sld B hX hb hE ⟨by omega, by omega⟩ hL3 dL_law_1253 ?_
  refine x_aldr B dL_law_1254 rfl ?_
  refine x_iload B dL_law_1255 rfl ?_
  refine x_iconst B dL_law_1257 ?_
  refine x_iadd B dL_law_1258 ?_
  refine x_sld B hX hb hE ⟨by omega, by omega⟩ hL3 dL_law_1259 ?_
  refine x_go (x_rV B h8 (show x_cl[7]? = some _ from rfl) (c_X8_bluff hTY.1 a1 a2 a3 a4) (lw_V q1891 q1892 q1893 q122 q1894) hv_X8_bluff ⟨Nat.le_of_ble_eq_true rfl, Nat.le_of_ble_eq_true rfl⟩ ⟨by show _ ≤ 601024; omega, by show _ ≤ 7293034; omega⟩ rfl rfl (by simp [x_cr, x_c1, x_c2]) dL_law_1260) (fun v_1260 X_1260 p_1260 => ?_)
  obtain ⟨hh, hif8⟩ := p_1260
  obtain ⟨bn, rfl, hz, hz2, hno8⟩ := if_ans2 hif8
  have hfin : bn = an ∧ ER X_1232 X_1260 ∧ (0 ≤ X_1232 0 7 ∧ X_1232 0 7 ≤ 64) := by
    rw [hVY.1] at hz hz2 hno8
    by_cases q : (x_in (z_S xs (5 * (j : Int) + 1)) 0 (X 1 2 - 1) = 1 ∧ x_in (z_S xs (5 * (j : Int) + 2)) 0 (X 1 2 - 1) = 1 ∧ (z_S xs (5 * (j : Int) + 1)) ≠ (z_S xs (5 * (j : Int) + 2))) ∧ x_in (z_S xs (5 * (j : Int) + 3)) 0 2 = 1 ∧ x_in (z_S xs (5 * (j : Int) + 4)) 0 2 = 1
    · by_cases d : q_nd (c_M X 3) (z_S xs (5 * (j : Int) + 1)) (z_S xs (5 * (j : Int) + 2)) ≠ 0
      · rw [hVY.2.1] at hz
        have h1 := hy q d
        have h2 := hz q d
        have hrr := ER.q hr hk h1.2 h2.2
        exact ⟨by rw [h1.1, h2.1], hrr⟩
      · rw [hVY.2.1] at hz2
        have h1 := hy2 q d
        have h2 := hz2 q d
        rw [hVY.2.2.2.1, q8_dv_eq hVY] at h2
        refine ⟨by rw [h1.1, h2.1], ⟨by rw [h2.2.1, h1.2.1], fun k k1 k2 => ?_⟩, by rw [h1.2.1]; omega⟩
        rw [h1.2.1] at k2
        rcases (show k = 0 ∨ k = 1 by omega) with e | e <;> rw [e]
        · rw [h1.2.2.1, h2.2.2.1]
        · rw [h1.2.2.2, h2.2.2.2]
    · have hrr := ER.q hr hk (hno q).2 (hno8 q).2
      exact ⟨by rw [(hno q).1, (hno8 q).1], hrr⟩
  refine x_icmpS B (tgt := 1422) dL_law_1263 (by decide) hfin.1 ?_
  refine x_wide (cells' := 90 + 4000 * (j + 1)) (slots' := 247453 + 8000 * (j + 1)) (by omega) (by omega) ?_
  exact K _ _ (Rel_q hr hj0 hk (Or.inl hfe) hh hfin.2.2 hfin.2.1)
