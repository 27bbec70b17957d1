theorem Rel_skip {κ : x_Ka} {X : x_X} {j : Int} (h : Rel κ X j) (hj : 0 ≤ j) : Rel κ X (j + 1) := ⟨h.1.q hj (k_eq.rf X) (Or.inl (fun _ _ _ => rfl)) h.1.2.2.2.2.2.1, h.2⟩
theorem r8_eq {κ : x_Ka} {X Y : x_X} {j : Int} (h : Rel κ X j) (hcf : CFr X Y) : r_lif (r8_num (Y 75) (Y 64 18)) (Y 75) (Y 64 18) (Y 67) (Y 64 3) = r_lif (r_num (c_T X) (X 0 5)) (c_T X) (X 0 5) (c_lot X) (X 1 2) := by
  obtain ⟨hC, hT, hV, hG, hS, hR⟩ := h
  rw [r8_lif, hcf 64 (by omega) (by omega), hcf 75 (by omega) (by omega), hcf 67 (by omega) (by omega), hS.2.1, hV.1]
  refine r_lif_c (fun p hp => hS.2.2 p hp) (fun k k1 k2 => ?_)
  have e := congrFun hV.2.2.2.1 k
  unfold t_lot at e
  rw [if_pos ⟨k1, by rw [hV.1]; exact k2⟩] at e
  exact e
theorem lc_3 {p : Program} {l : Launch} {e : Env} {s : State} {m : MethodId} {below : List Frame} {meth : Method} {c : Code} {b Ln : Nat} {xs : Nat → Int32} {E : x_E} {κ : x_Ka} {X : x_X} {j : Nat} (B : x_B p s m #[Value.ref b] meth c code "NextLoadLaw" 8 ret E) (hX : va_X b Ln xs s s.heap) (hb : b < E.1) (hE : E.1 = s.heap.size) (hst : l.stackTraces = false) (hj : 5 * j + 5 ≤ Ln) (hL3 : Ln ≤ 320) (hr : Rel κ X j) (K : ∀ (κ' : x_Ka) (X' : x_X), Rel κ' X' ((j + 1 : Nat) : Int) → x_G p l e room_1 s m #[Value.ref b] below meth c 8 E (90 + 4000 * (j + 1)) (247453 + 8000 * (j + 1)) (lw_Z below #[Value.ref b] s) κ' 1422 [some (Value.ref b), some (x_rf E 0), some (x_rf E 64), some (x_rf E 87), some (vi (5 * (j : Int))), none, none, none] [] X') : x_G p l e room_1 s m #[Value.ref b] below meth c 8 E (90 + 4000 * j) (247453 + 8000 * j) (lw_Z below #[Value.ref b] s) κ 259 [some (Value.ref b), some (x_rf E 0), some (x_rf E 64), some (x_rf E 87), some (vi (5 * (j : Int))), none, none, none] [] X := by
  obtain ⟨hC, hTT, hV, hG, hS, hR⟩ := id hr
  have hn := hC.1.1
  have hT := hn.1.1
  have h0 := hn.1.2.1
  have h8 := hTT.1.1.2.1
  have k87 := hC.1.2.2
  have hlo := hC.1.2.1
  have hj0 : (0 : Int) ≤ (j : Int) := by omega
  have hn6 := hn.1.2.2.1
  have hFB := hC.2.2.1.b (by omega)
  have a1 := z_S_R xs (5 * (j : Int) + 1)
  have a2 := z_S_R xs (5 * (j : Int) + 2)
  have a3 := z_S_R xs (5 * (j : Int) + 3)
  have a4 := z_S_R xs (5 * (j : Int) + 4)
  refine x_aload_n B dL_law_259 rfl ?_
  refine x_go (x_rV B h0 (show x_cl[0]? = some _ from rfl) (c_X1_leaves hn.1 ⟨hC.2.2.2.1.1, by have := hC.2.2.2.1.2; omega⟩) (lw_V q714 q715 q716 q110 q717) hv_X1_leaves ⟨Nat.le_of_ble_eq_true rfl, Nat.le_of_ble_eq_true rfl⟩ ⟨by show _ ≤ 601024; omega, by show _ ≤ 7293034; omega⟩ rfl rfl (by simp [x_cr, x_c1, x_c2]) dL_law_260) (fun v_260 X_260 p_260 => ?_)
  obtain ⟨an, rfl, hy, hno⟩ := if_ans p_260
  have hcf : CFr X X_260 := by
    by_cases q : X 1 2 = 0
    · rw [(hy q).2]; exact fun _ _ _ => rfl
    · exact fun a q1 q2 => ((hno q).2.1 a (by omega) (by omega)).trans (by rw [x_up_o _ (by omega), x_up_o _ (by omega), x_up_o _ (by omega)])
  have hTY := hTT.cf hcf hT h8
  have hVY := hV.t (teq.cf hcf)
  refine x_aload_n B dL_law_263 rfl ?_
  refine x_go (x_rV B h8 (show x_cl[7]? = some _ from rfl) (c_X8_leaves hTY.1) (lw_V q1545 q1546 q1547 q122 q1548) hv_X8_leaves ⟨Nat.le_of_ble_eq_true rfl, Nat.le_of_ble_eq_true rfl⟩ ⟨by show _ ≤ 601024; omega, by show _ ≤ 7293034; omega⟩ rfl rfl (by simp [x_cr, x_c1, x_c2]) dL_law_264) (fun v_264 X_264 p_264 => ?_)
  obtain ⟨bn, rfl, hz, hno8⟩ := if_ans p_264
  have hfin : bn = an ∧ Rel κ X_264 ((j + 1 : Nat) : Int) := by
    by_cases q : X 1 2 = 0
    · have q8 := hz (by rw [hVY.1]; exact q)
      have q1 := hy q
      refine ⟨by rw [q8.1, q1.1], ?_⟩
      rw [q8.2, q1.2]; exact Rel_row hr hj0 (fun _ _ _ => rfl) (Int.le_refl _) 0
    · have q8 := hno8 (by rw [hVY.1]; exact q)
      have q1 := hno q
      exact ⟨by rw [q8.1, q1.1, hVY.1], Rel_lv hr hj0 q rfl q1.2 rfl q8.2⟩
  refine x_icmpS B (tgt := 1422) dL_law_267 (by decide) hfin.1 ?_
  refine x_wide (cells' := 90 + 4000 * (j + 1)) (slots' := 247453 + 8000 * (j + 1)) (by omega) (by omega) ?_
  exact K _ _ (hfin.2)
theorem lc_4 {p : Program} {l : Launch} {e : Env} {s : State} {m : MethodId} {below : List Frame} {meth : Method} {c : Code} {b Ln : Nat} {xs : Nat → Int32} {E : x_E} {κ : x_Ka} {X : x_X} {j : Nat} (B : x_B p s m #[Value.ref b] meth c code "NextLoadLaw" 8 ret E) (hX : va_X b Ln xs s s.heap) (hb : b < E.1) (hE : E.1 = s.heap.size) (hst : l.stackTraces = false) (hj : 5 * j + 5 ≤ Ln) (hL3 : Ln ≤ 320) (hr : Rel κ X j) (K : ∀ (κ' : x_Ka) (X' : x_X), Rel κ' X' ((j + 1 : Nat) : Int) → x_G p l e room_1 s m #[Value.ref b] below meth c 8 E (90 + 4000 * (j + 1)) (247453 + 8000 * (j + 1)) (lw_Z below #[Value.ref b] s) κ' 1422 [some (Value.ref b), some (x_rf E 0), some (x_rf E 64), some (x_rf E 87), some (vi (5 * (j : Int))), none, none, none] [] X') : x_G p l e room_1 s m #[Value.ref b] below meth c 8 E (90 + 4000 * j) (247453 + 8000 * j) (lw_Z below #[Value.ref b] s) κ 272 [some (Value.ref b), some (x_rf E 0), some (x_rf E 64), some (x_rf E 87), some (vi (5 * (j : Int))), none, none, none] [] X := by
  obtain ⟨hC, hTT, hV, hG, hS, hR⟩ := id hr
  have hn := hC.1.1
  have hT := hn.1.1
  have h0 := hn.1.2.1
  have h8 := hTT.1.1.2.1
  have k87 := hC.1.2.2
  have hlo := hC.1.2.1
  have hj0 : (0 : Int) ≤ (j : Int) := by omega
  have hn6 := hn.1.2.2.1
  have hFB := hC.2.2.1.b (by omega)
  have a1 := z_S_R xs (5 * (j : Int) + 1)
  have a2 := z_S_R xs (5 * (j : Int) + 2)
  have a3 := z_S_R xs (5 * (j : Int) + 3)
  have a4 := z_S_R xs (5 * (j : Int) + 4)
  refine x_aload_n B dL_law_272 rfl ?_
  refine x_aldr B dL_law_273 rfl ?_
  refine x_iload B dL_law_274 rfl ?_
  refine x_iconst B dL_law_276 ?_
  refine x_iadd B dL_law_277 ?_
  refine x_sld B hX hb hE ⟨by omega, by omega⟩ hL3 dL_law_278 ?_
  refine x_aldr B dL_law_279 rfl ?_
  refine x_iload B dL_law_280 rfl ?_
  refine x_iconst B dL_law_282 ?_
  refine x_iadd B dL_law_283 ?_
  refine x_sld B hX hb hE ⟨by omega, by omega⟩ hL3 dL_law_284 ?_
  refine x_aldr B dL_law_285 rfl ?_
  refine x_iload B dL_law_286 rfl ?_
  refine x_iconst B dL_law_288 ?_
  refine x_iadd B dL_law_289 ?_
  refine x_sld B hX hb hE ⟨by omega, by omega⟩ hL3 dL_law_290 ?_
  refine x_aldr B dL_law_291 rfl ?_
  refine x_iload B dL_law_292 rfl ?_
  refine x_iconst B dL_law_294 ?_
  refine x_iadd B dL_law_295 ?_
  refine x_sld B hX hb hE ⟨by omega, by omega⟩ hL3 dL_law_296 ?_
  refine x_go (x_rV B h0 (show x_cl[0]? = some _ from rfl) (c_X1_plans hn a1 a2 a3 a4) (lw_V q731 q732 q733 q110 q734) hv_X1_plans ⟨Nat.le_of_ble_eq_true rfl, Nat.le_of_ble_eq_true rfl⟩ ⟨by show _ ≤ 601024; omega, by show _ ≤ 7293034; omega⟩ rfl rfl (by simp [x_cr, x_c1, x_c2]) dL_law_297) (fun v_297 X_297 p_297 => ?_)
  obtain ⟨an, rfl, hy, hno⟩ := if_ans p_297
  have hcf : CFr X X_297 := by
    by_cases q : x_in (z_S xs (5 * (j : Int) + 1)) 0 (X 1 2 - 1) = 1 ∧ x_in (z_S xs (5 * (j : Int) + 2)) 0 2 = 1 ∧ x_in (z_S xs (5 * (j : Int) + 3)) 0 2 = 1 ∧ x_in (z_S xs (5 * (j : Int) + 4)) (if (z_S xs (5 * (j : Int) + 3)) = 2 then 0 else 1) (if (z_S xs (5 * (j : Int) + 3)) = 0 then 40 else 9) = 1
    · have hi := x_in_i q.1
      have h88 := hn.1.2.2.2.2 _ hi.1 hi.2
      have hw : 0 ≤ (z_S xs (5 * (j : Int) + 3)) ∧ (z_S xs (5 * (j : Int) + 3)) ≤ 2 := (by have z := q.2.2.1; unfold x_in at z; split at z <;> omega)
      exact fun a q1 q2 => ((hy q).2.1 a (by omega) (by omega)).trans (x_up_o _ (by omega))
    · rw [(hno q).2]; exact fun _ _ _ => rfl
  have hTY := hTT.cf hcf hT h8
  have hVY := hV.t (teq.cf hcf)
  refine x_aload_n B dL_law_300 rfl ?_
  refine x_aldr B dL_law_301 rfl ?_
  refine x_iload B dL_law_302 rfl ?_
  refine x_iconst B dL_law_304 ?_
  refine x_iadd B dL_law_305 ?_
  refine x_sld B hX hb hE ⟨by omega, by omega⟩ hL3 dL_law_306 ?_
  refine x_aldr B dL_law_307 rfl ?_
  refine x_iload B dL_law_308 rfl ?_
  refine x_iconst B dL_law_310 ?_
  refine x_iadd B dL_law_311 ?_
  refine x_sld B hX hb hE ⟨by omega, by omega⟩ hL3 dL_law_312 ?_
  refine x_aldr B dL_law_313 rfl ?_
  refine x_iload B dL_law_314 rfl ?_
  refine x_iconst B dL_law_316 ?_
  refine x_iadd B dL_law_317 ?_
  refine x_sld B hX hb hE ⟨by omega, by omega⟩ hL3 dL_law_318 ?_
  refine x_aldr B dL_law_319 rfl ?_
  refine x_iload B dL_law_320 rfl ?_
  refine x_iconst B dL_law_322 ?_
  refine x_iadd B dL_law_323 ?_
  refine x_sld B hX hb hE ⟨by omega, by omega⟩ hL3 dL_law_324 ?_
  refine x_go (x_rV B h8 (show x_cl[7]? = some _ from rfl) (c_X8_plans hTY.1 a1 a2 a3 a4) (lw_V q1549 q1550 q1551 q122 q1552) hv_X8_plans ⟨Nat.le_of_ble_eq_true rfl, Nat.le_of_ble_eq_true rfl⟩ ⟨by show _ ≤ 601024; omega, by show _ ≤ 7293034; omega⟩ rfl rfl (by simp [x_cr, x_c1, x_c2]) dL_law_325) (fun v_325 X_325 p_325 => ?_)
  obtain ⟨bn, rfl, hz, hno8⟩ := if_ans p_325
  have hfin : bn = an ∧ Rel κ X_325 ((j + 1 : Nat) : Int) := by
    by_cases q : x_in (z_S xs (5 * (j : Int) + 1)) 0 (X 1 2 - 1) = 1 ∧ x_in (z_S xs (5 * (j : Int) + 2)) 0 2 = 1 ∧ x_in (z_S xs (5 * (j : Int) + 3)) 0 2 = 1 ∧ x_in (z_S xs (5 * (j : Int) + 4)) (if (z_S xs (5 * (j : Int) + 3)) = 2 then 0 else 1) (if (z_S xs (5 * (j : Int) + 3)) = 0 then 40 else 9) = 1
    · have q8 := hz (by rw [hVY.1]; exact q)
      have q1 := hy q
      have hw : 0 ≤ (z_S xs (5 * (j : Int) + 3)) ∧ (z_S xs (5 * (j : Int) + 3)) ≤ 2 := (by have z := q.2.2.1; unfold x_in at z; split at z <;> omega)
      have ht : 0 ≤ (z_S xs (5 * (j : Int) + 2)) ∧ (z_S xs (5 * (j : Int) + 2)) ≤ 2 := (by have z := q.2.1; unfold x_in at z; split at z <;> omega)
      have hvv : (if (z_S xs (5 * (j : Int) + 3)) = 2 then 0 else 1) ≤ (z_S xs (5 * (j : Int) + 4)) ∧ (z_S xs (5 * (j : Int) + 4)) ≤ (if (z_S xs (5 * (j : Int) + 3)) = 0 then 40 else 9) := by
        have z := q.2.2.2
        unfold x_in at z
        by_cases zz : (if (z_S xs (5 * (j : Int) + 3)) = 2 then 0 else 1) ≤ (z_S xs (5 * (j : Int) + 4)) ∧ (z_S xs (5 * (j : Int) + 4)) ≤ (if (z_S xs (5 * (j : Int) + 3)) = 0 then 40 else 9)
        · exact zz
        · rw [if_neg zz] at z; omega
      exact ⟨by rw [q8.1, q1.1, hVY.2.2.2.2.1], Rel_pl hr hj0 (x_in_i q.1) ht hw hvv rfl q1.2 rfl q8.2⟩
    · have q8 := hno8 (by rw [hVY.1]; exact q)
      have q1 := hno q
      refine ⟨by rw [q8.1, q1.1], ?_⟩
      rw [q8.2, q1.2]; exact Rel_row hr hj0 (fun _ _ _ => rfl) (Int.le_refl _) 0
  refine x_icmpS B (tgt := 1422) dL_law_328 (by decide) hfin.1 ?_
  refine x_wide (cells' := 90 + 4000 * (j + 1)) (slots' := 247453 + 8000 * (j + 1)) (by omega) (by omega) ?_
  exact K _ _ (hfin.2)
theorem lc_2 {p : Program} {l : Launch} {e : Env} {s : State} {m : MethodId} {below : List Frame} {meth : Method} {c : Code} {b Ln : Nat} {xs : Nat → Int32} {E : x_E} {κ : x_Ka} {X : x_X} {j : Nat} (B : x_B p s m #[Value.ref b] meth c code "NextLoadLaw" 8 ret E) (hX : va_X b Ln xs s s.heap) (hb : b < E.1) (hE : E.1 = s.heap.size) (hst : l.stackTraces = false) (hj : 5 * j + 5 ≤ Ln) (hL3 : Ln ≤ 320) (hr : Rel κ X j) (K : ∀ (κ' : x_Ka) (X' : x_X), Rel κ' X' ((j + 1 : Nat) : Int) → x_G p l e room_1 s m #[Value.ref b] below meth c 8 E (90 + 4000 * (j + 1)) (247453 + 8000 * (j + 1)) (lw_Z below #[Value.ref b] s) κ' 1422 [some (Value.ref b), some (x_rf E 0), some (x_rf E 64), some (x_rf E 87), some (vi (5 * (j : Int))), none, none, none] [] X') : x_G p l e room_1 s m #[Value.ref b] below meth c 8 E (90 + 4000 * j) (247453 + 8000 * j) (lw_Z below #[Value.ref b] s) κ 246 [some (Value.ref b), some (x_rf E 0), some (x_rf E 64), some (x_rf E 87), some (vi (5 * (j : Int))), none, none, none] [] X := by
  obtain ⟨hC, hTT, hV, hG, hS, hR⟩ := id hr
  have hn := hC.1.1
  have hT := hn.1.1
  have h0 := hn.1.2.1
  have h8 := hTT.1.1.2.1
  have k87 := hC.1.2.2
  have hlo := hC.1.2.1
  have hj0 : (0 : Int) ≤ (j : Int) := by omega
  have hn6 := hn.1.2.2.1
  have hFB := hC.2.2.1.b (by omega)
  have a1 := z_S_R xs (5 * (j : Int) + 1)
  have a2 := z_S_R xs (5 * (j : Int) + 2)
  have a3 := z_S_R xs (5 * (j : Int) + 3)
  have a4 := z_S_R xs (5 * (j : Int) + 4)
  refine x_aload_n B dL_law_246 rfl ?_
  refine x_goK (x_rVH B h0 (show x_cl[0]? = some _ from rfl) (c_X1_enters hn.1 ⟨hC.2.2.2.1.1, by have := hC.2.2.2.1.2; omega⟩ hC.2.2.2.2.1 hlo.1) (lw_VW q467 q468 q469 q110 q470) hv_X1_enters ⟨Nat.le_of_ble_eq_true rfl, Nat.le_of_ble_eq_true rfl⟩ ⟨by show _ ≤ 601024; omega, by show _ ≤ 7293034; omega⟩ rfl rfl (by simp [x_cr, x_c1, x_c2]) dL_law_247) (fun v_247 κ_247 X_247 p_247 => ?_)
  have h88 := hlo.1
  have h5 := hC.2.2.2.2.1
  rcases r_lif_f (r_num (c_T X) (X 0 5)) (c_T X) (X 0 5) (c_lot X) (X 1 2) with e0 | e1
  · obtain ⟨rfl, hκ, hef⟩ := p_247.1 e0
    rw [hκ]
    have hcf : CFr X X_247 := fun a q1 q2 => hef.1 a (by omega) (by omega)
    have hTY := hTT.cf hcf hT h8
    have e8 := r8_eq hr hcf
    have h18 : 0 ≤ X_247 64 18 ∧ X_247 64 18 ≤ 240 := by rw [hcf 64 (by omega) (by omega), hS.2.1]; exact h5
    have n3 : X_247 64 3 = X 1 2 := by rw [hcf 64 (by omega) (by omega)]; exact hV.1
    refine x_aload_n B dL_law_250 rfl ?_
    refine x_go (x_rV B h8 (show x_cl[7]? = some _ from rfl) (c_X8_enters hTY.1.1 hTY.1.2.1 h18) (lw_V q1471 q1472 q1473 q122 q1474) hv_X8_enters ⟨Nat.le_of_ble_eq_true rfl, Nat.le_of_ble_eq_true rfl⟩ ⟨by show _ ≤ 601024; omega, by show _ ≤ 7293034; omega⟩ rfl rfl (by simp [x_cr, x_c1, x_c2]) dL_law_251) (fun v_251 X_251 p_251 => ?_)
    obtain ⟨rfl, h8j⟩ := p_251.1 (by rw [e8]; exact e0)
    refine x_icmpS B (tgt := 1422) dL_law_254 (by decide) (by rw [e8]) ?_
    refine x_wide (cells' := 90 + 4000 * (j + 1)) (slots' := 247453 + 8000 * (j + 1)) (by omega) (by omega) ?_
    exact K _ _ (Rel_ef hr hj0 hef h8j)
  · by_cases q6 : X 1 2 = 6
    · obtain ⟨rfl, hκ, hef⟩ := p_247.2.1 e1 q6
      rw [hκ]
      have hcf : CFr X X_247 := fun a q1 q2 => hef.1 a (by omega) (by omega)
      have hTY := hTT.cf hcf hT h8
      have e8 := r8_eq hr hcf
      have h18 : 0 ≤ X_247 64 18 ∧ X_247 64 18 ≤ 240 := by rw [hcf 64 (by omega) (by omega), hS.2.1]; exact h5
      have n3 : X_247 64 3 = X 1 2 := by rw [hcf 64 (by omega) (by omega)]; exact hV.1
      refine x_aload_n B dL_law_250 rfl ?_
      refine x_go (x_rV B h8 (show x_cl[7]? = some _ from rfl) (c_X8_enters hTY.1.1 hTY.1.2.1 h18) (lw_V q1471 q1472 q1473 q122 q1474) hv_X8_enters ⟨Nat.le_of_ble_eq_true rfl, Nat.le_of_ble_eq_true rfl⟩ ⟨by show _ ≤ 601024; omega, by show _ ≤ 7293034; omega⟩ rfl rfl (by simp [x_cr, x_c1, x_c2]) dL_law_251) (fun v_251 X_251 p_251 => ?_)
      obtain ⟨rfl, h8j⟩ := p_251.2.1 (by rw [e8]; exact e1) (by rw [n3]; exact q6)
      refine x_icmpS B (tgt := 1422) dL_law_254 (by decide) rfl ?_
      refine x_wide (cells' := 90 + 4000 * (j + 1)) (slots' := 247453 + 8000 * (j + 1)) (by omega) (by omega) ?_
      exact K _ _ (Rel_ef hr hj0 hef h8j)
    · obtain ⟨rfl, W, hκ, hW, hb⟩ := p_247.2.2 e1 q6
      have h8b := hκ.2.1 _ _ h8
      have hcf : CFr X X_247 := fun a q1 q2 => (hb.1 a (by omega) (by omega)).trans (hW.1 a (by omega) (by omega))
      have hTY := hTT.cf hcf hκ.1 h8b
      have e8 := r8_eq hr hcf
      have h18 : 0 ≤ X_247 64 18 ∧ X_247 64 18 ≤ 240 := by rw [hcf 64 (by omega) (by omega), hS.2.1]; exact h5
      have n3 : X_247 64 3 = X 1 2 := by rw [hcf 64 (by omega) (by omega)]; exact hV.1
      refine x_aload_n B dL_law_250 rfl ?_
      refine x_go (x_rV B h8b (show x_cl[7]? = some _ from rfl) (c_X8_enters hTY.1.1 hTY.1.2.1 h18) (lw_V q1471 q1472 q1473 q122 q1474) hv_X8_enters ⟨Nat.le_of_ble_eq_true rfl, Nat.le_of_ble_eq_true rfl⟩ ⟨by show _ ≤ 601024; omega, by show _ ≤ 7293034; omega⟩ rfl rfl (by simp [x_cr, x_c1, x_c2]) dL_law_251) (fun v_251 X_251 p_251 => ?_)
      obtain ⟨rfl, V, hV8, hb8⟩ := p_251.2.2 (by rw [e8]; exact e1) (by rw [n3]; exact q6)
      refine x_icmpS B (tgt := 1422) dL_law_254 (by decide) n3 ?_
      rw [e8] at hV8
      have hok := r_lif_ok (r_num_r (c_T X) (X 0 5)) h5.1 e1
      have hlt : ∀ l, 0 ≤ l → l < X 1 2 → c_lot X l ≠ (r_lif (r_num (c_T X) (X 0 5)) (c_T X) (X 0 5) (c_lot X) (X 1 2)).2.2 0 1 := fun l l1 l2 => r_has_n (X 1 2).toNat (by have z := r_has_01 (c_lot X) (X 1 2).toNat ((r_lif (r_num (c_T X) (X 0 5)) (c_T X) (X 0 5) (c_lot X) (X 1 2)).2.2 0 1); have z2 := hok.2.2.2; omega) l l1 (by omega)
      refine x_wide (cells' := 90 + 4000 * (j + 1)) (slots' := 247453 + 8000 * (j + 1)) (by omega) (by omega) ?_
      exact K _ _ (Rel_en hr hj0 q6 hκ hok.1 hlt hW hb hV8 hb8)
