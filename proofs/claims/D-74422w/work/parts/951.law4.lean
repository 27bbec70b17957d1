theorem lc_0 {p : Program} {l : Launch} {e : Env} {s : State} {m : MethodId} {below : List Frame} {meth : Method} {c : Code} {b Ln : Nat} {xs : Nat → Int32} {E : x_E} {κ : x_Ka} {X : x_X} {j : Nat} (B : x_B p s m #[Value.ref b] meth c code "NextLoadLaw" 8 ret E) (hX : va_X b Ln xs s s.heap) (hb : b < E.1) (hE : E.1 = s.heap.size) (hst : l.stackTraces = false) (hj : 5 * j + 5 ≤ Ln) (hL3 : Ln ≤ 320) (hr : Rel κ X j) (K : ∀ (κ' : x_Ka) (X' : x_X), Rel κ' X' ((j + 1 : Nat) : Int) → x_G p l e room_1 s m #[Value.ref b] below meth c 8 E (90 + 4000 * (j + 1)) (247453 + 8000 * (j + 1)) (lw_Z below #[Value.ref b] s) κ' 1422 [some (Value.ref b), some (x_rf E 0), some (x_rf E 64), some (x_rf E 87), some (vi (5 * (j : Int))), none, none, none] [] X') : x_G p l e room_1 s m #[Value.ref b] below meth c 8 E (90 + 4000 * j) (247453 + 8000 * j) (lw_Z below #[Value.ref b] s) κ 196 [some (Value.ref b), some (x_rf E 0), some (x_rf E 64), some (x_rf E 87), some (vi (5 * (j : Int))), none, none, none] [] X := by
  obtain ⟨hC, hTT, hV, hG, hS, hR⟩ := id hr
  have hn := hC.1.1
  have hT := hn.1.1
  have h0 := hn.1.2.1
  have h8 := hTT.1.1.2.1
  have k87 := hC.1.2.2
  have hlo := hC.1.2.1
  have hj0 : (0 : Int) ≤ (j : Int) := by omega
  have hn6 := hn.1.2.2.1
  have hFB := hC.2.2.1.b (by omega)
  have a1 := z_S_R xs (5 * (j : Int) + 1)
  have a2 := z_S_R xs (5 * (j : Int) + 2)
  have a3 := z_S_R xs (5 * (j : Int) + 3)
  have a4 := z_S_R xs (5 * (j : Int) + 4)
  refine x_aload_n B dL_law_196 rfl ?_
  refine x_aldr B dL_law_197 rfl ?_
  refine x_iload B dL_law_198 rfl ?_
  refine x_iconst B dL_law_200 ?_
  refine x_iadd B dL_law_201 ?_
  refine x_sld B hX hb hE ⟨by omega, by omega⟩ hL3 dL_law_202 ?_
  refine x_go (x_rV B h0 (show x_cl[0]? = some _ from rfl) (c_X1_sign hT h0 hC.2.2.2.2.1 a1) (lw_V q456 q457 q458 q110 q459) hv_X1_sign ⟨Nat.le_of_ble_eq_true rfl, Nat.le_of_ble_eq_true rfl⟩ ⟨by show _ ≤ 601024; omega, by show _ ≤ 7293034; omega⟩ rfl rfl (by simp [x_cr, x_c1, x_c2]) dL_law_203) (fun v_203 X_203 p_203 => ?_)
  obtain ⟨an, rfl, hy, hno⟩ := if_ans p_203
  have y64 : X_203 64 = X 64 := by
    by_cases q : X 0 5 + 4 > 240
    · rw [(hy q).2]
    · rw [(hno q).2]; funext i; unfold g_sg; rw [if_neg (by omega), if_neg (by omega)]
  have e18 : X_203 64 18 = X 0 5 := by rw [y64]; exact hS.2.1
  have h18 : 0 ≤ X_203 64 18 ∧ X_203 64 18 ≤ 240 := by rw [e18]; exact hC.2.2.2.2.1
  refine x_aload_n B dL_law_206 rfl ?_
  refine x_aldr B dL_law_207 rfl ?_
  refine x_iload B dL_law_208 rfl ?_
  refine x_iconst B dL_law_210 ?_
  refine x_iadd B dL_law_211 ?_
  refine x_sld B hX hb hE ⟨by omega, by omega⟩ hL3 dL_law_212 ?_
  refine x_go (x_rV B h8 (show x_cl[7]? = some _ from rfl) (c_X8_sign hT h8 h18 a1) (lw_V q1460 q1461 q1462 q122 q1463) hv_X8_sign ⟨Nat.le_of_ble_eq_true rfl, Nat.le_of_ble_eq_true rfl⟩ ⟨by show _ ≤ 601024; omega, by show _ ≤ 7293034; omega⟩ rfl rfl (by simp [x_cr, x_c1, x_c2]) dL_law_213) (fun v_213 X_213 p_213 => ?_)
  obtain ⟨bn, rfl, hz, hno8⟩ := if_ans p_213
  have hfin : bn = an ∧ Rel κ X_213 ((j + 1 : Nat) : Int) := by
    by_cases q : X 0 5 + 4 > 240
    · have q8 := hz (by rw [e18]; omega)
      have q1 := hy q
      refine ⟨by rw [q8.1, q1.1], ?_⟩
      rw [q8.2, q1.2]; exact Rel_row hr hj0 (fun _ _ _ => rfl) (Int.le_refl _) 0
    · have q8 := hno8 (by rw [e18]; omega)
      have q1 := hno q
      exact ⟨by rw [q8.1, q1.1, e18], Rel_sg hr hj0 q q1.2 q8.2⟩
  refine x_icmpS B (tgt := 1422) dL_law_216 (by decide) hfin.1 ?_
  refine x_wide (cells' := 90 + 4000 * (j + 1)) (slots' := 247453 + 8000 * (j + 1)) (by omega) (by omega) ?_
  exact K _ _ (hfin.2)
theorem lc_1 {p : Program} {l : Launch} {e : Env} {s : State} {m : MethodId} {below : List Frame} {meth : Method} {c : Code} {b Ln : Nat} {xs : Nat → Int32} {E : x_E} {κ : x_Ka} {X : x_X} {j : Nat} (B : x_B p s m #[Value.ref b] meth c code "NextLoadLaw" 8 ret E) (hX : va_X b Ln xs s s.heap) (hb : b < E.1) (hE : E.1 = s.heap.size) (hst : l.stackTraces = false) (hj : 5 * j + 5 ≤ Ln) (hL3 : Ln ≤ 320) (hr : Rel κ X j) (K : ∀ (κ' : x_Ka) (X' : x_X), Rel κ' X' ((j + 1 : Nat) : Int) → x_G p l e room_1 s m #[Value.ref b] below meth c 8 E (90 + 4000 * (j + 1)) (247453 + 8000 * (j + 1)) (lw_Z below #[Value.ref b] s) κ' 1422 [some (Value.ref b), some (x_rf E 0), some (x_rf E 64), some (x_rf E 87), some (vi (5 * (j : Int))), none, none, none] [] X') : x_G p l e room_1 s m #[Value.ref b] below meth c 8 E (90 + 4000 * j) (247453 + 8000 * j) (lw_Z below #[Value.ref b] s) κ 221 [some (Value.ref b), some (x_rf E 0), some (x_rf E 64), some (x_rf E 87), some (vi (5 * (j : Int))), none, none, none] [] X := by
  obtain ⟨hC, hTT, hV, hG, hS, hR⟩ := id hr
  have hn := hC.1.1
  have hT := hn.1.1
  have h0 := hn.1.2.1
  have h8 := hTT.1.1.2.1
  have k87 := hC.1.2.2
  have hlo := hC.1.2.1
  have hj0 : (0 : Int) ≤ (j : Int) := by omega
  have hn6 := hn.1.2.2.1
  have hFB := hC.2.2.1.b (by omega)
  have a1 := z_S_R xs (5 * (j : Int) + 1)
  have a2 := z_S_R xs (5 * (j : Int) + 2)
  have a3 := z_S_R xs (5 * (j : Int) + 3)
  have a4 := z_S_R xs (5 * (j : Int) + 4)
  refine x_aload_n B dL_law_221 rfl ?_
  refine x_aldr B dL_law_222 rfl ?_
  refine x_iload B dL_law_223 rfl ?_
  refine x_iconst B dL_law_225 ?_
  refine x_iadd B dL_law_226 ?_
  refine x_sld B hX hb hE ⟨by omega, by omega⟩ hL3 dL_law_227 ?_
  refine x_go (x_rV B h0 (show x_cl[0]? = some _ from rfl) (c_X1_end hT h0 hC.2.2.2.2.1 a1) (lw_V q460 q461 q462 q110 q463) hv_X1_end ⟨Nat.le_of_ble_eq_true rfl, Nat.le_of_ble_eq_true rfl⟩ ⟨by show _ ≤ 601024; omega, by show _ ≤ 7293034; omega⟩ rfl rfl (by simp [x_cr, x_c1, x_c2]) dL_law_228) (fun v_228 X_228 p_228 => ?_)
  obtain ⟨an, rfl, hy, hno⟩ := if_ans p_228
  have y64 : X_228 64 = X 64 := by
    by_cases q : x_in (z_S xs (5 * (j : Int) + 1)) 0 (X 0 5) = 1
    · rw [(hy q).2]; exact x_up_o _ (by omega)
    · rw [(hno q).2]
  have e18 : X_228 64 18 = X 0 5 := by rw [y64]; exact hS.2.1
  have h18 : 0 ≤ X_228 64 18 ∧ X_228 64 18 ≤ 240 := by rw [e18]; exact hC.2.2.2.2.1
  refine x_aload_n B dL_law_231 rfl ?_
  refine x_aldr B dL_law_232 rfl ?_
  refine x_iload B dL_law_233 rfl ?_
  refine x_iconst B dL_law_235 ?_
  refine x_iadd B dL_law_236 ?_
  refine x_sld B hX hb hE ⟨by omega, by omega⟩ hL3 dL_law_237 ?_
  refine x_go (x_rV B h8 (show x_cl[7]? = some _ from rfl) (c_X8_end hT h8 h18 a1) (lw_V q1464 q1465 q1466 q122 q1467) hv_X8_end ⟨Nat.le_of_ble_eq_true rfl, Nat.le_of_ble_eq_true rfl⟩ ⟨by show _ ≤ 601024; omega, by show _ ≤ 7293034; omega⟩ rfl rfl (by simp [x_cr, x_c1, x_c2]) dL_law_238) (fun v_238 X_238 p_238 => ?_)
  obtain ⟨bn, rfl, hz, hno8⟩ := if_ans p_238
  rw [e18] at hz hno8
  have hfin : bn = an ∧ Rel κ X_238 ((j + 1 : Nat) : Int) := by
    by_cases q : x_in (z_S xs (5 * (j : Int) + 1)) 0 (X 0 5) = 1
    · have q8 := hz q
      have q1 := hy q
      refine ⟨by rw [q8.1, q1.1], ?_⟩
      rw [q8.2, q1.2]; exact Rel_end hr hj0 q
    · have q8 := hno8 q
      have q1 := hno q
      refine ⟨by rw [q8.1, q1.1], ?_⟩
      rw [q8.2, q1.2]; exact Rel_row hr hj0 (fun _ _ _ => rfl) (Int.le_refl _) 0
  refine x_icmpS B (tgt := 1422) dL_law_241 (by decide) hfin.1 ?_
  refine x_wide (cells' := 90 + 4000 * (j + 1)) (slots' := 247453 + 8000 * (j + 1)) (by omega) (by omega) ?_
  exact K _ _ (hfin.2)
theorem lc_5 {p : Program} {l : Launch} {e : Env} {s : State} {m : MethodId} {below : List Frame} {meth : Method} {c : Code} {b Ln : Nat} {xs : Nat → Int32} {E : x_E} {κ : x_Ka} {X : x_X} {j : Nat} (B : x_B p s m #[Value.ref b] meth c code "NextLoadLaw" 8 ret E) (hX : va_X b Ln xs s s.heap) (hb : b < E.1) (hE : E.1 = s.heap.size) (hst : l.stackTraces = false) (hj : 5 * j + 5 ≤ Ln) (hL3 : Ln ≤ 320) (hr : Rel κ X j) (K : ∀ (κ' : x_Ka) (X' : x_X), Rel κ' X' ((j + 1 : Nat) : Int) → x_G p l e room_1 s m #[Value.ref b] below meth c 8 E (90 + 4000 * (j + 1)) (247453 + 8000 * (j + 1)) (lw_Z below #[Value.ref b] s) κ' 1422 [some (Value.ref b), some (x_rf E 0), some (x_rf E 64), some (x_rf E 87), some (vi (5 * (j : Int))), none, none, none] [] X') : x_G p l e room_1 s m #[Value.ref b] below meth c 8 E (90 + 4000 * j) (247453 + 8000 * j) (lw_Z below #[Value.ref b] s) κ 333 [some (Value.ref b), some (x_rf E 0), some (x_rf E 64), some (x_rf E 87), some (vi (5 * (j : Int))), none, none, none] [] X := by
  obtain ⟨hC, hTT, hV, hG, hS, hR⟩ := id hr
  have hn := hC.1.1
  have hT := hn.1.1
  have h0 := hn.1.2.1
  have h8 := hTT.1.1.2.1
  have k87 := hC.1.2.2
  have hlo := hC.1.2.1
  have hj0 : (0 : Int) ≤ (j : Int) := by omega
  have hn6 := hn.1.2.2.1
  have hFB := hC.2.2.1.b (by omega)
  have a1 := z_S_R xs (5 * (j : Int) + 1)
  have a2 := z_S_R xs (5 * (j : Int) + 2)
  have a3 := z_S_R xs (5 * (j : Int) + 3)
  have a4 := z_S_R xs (5 * (j : Int) + 4)
  refine x_aload_n B dL_law_333 rfl ?_
  refine x_aldr B dL_law_334 rfl ?_
  refine x_iload B dL_law_335 rfl ?_
  refine x_iconst B dL_law_337 ?_
  refine x_iadd B dL_law_338 ?_
  refine x_sld B hX hb hE ⟨by omega, by omega⟩ hL3 dL_law_339 ?_
  refine x_go (x_rV B h0 (show x_cl[0]? = some _ from rfl) (c_X1_tires hT h0 a1) (lw_V q751 q752 q753 q110 q754) hv_X1_tires ⟨Nat.le_of_ble_eq_true rfl, Nat.le_of_ble_eq_true rfl⟩ ⟨by show _ ≤ 601024; omega, by show _ ≤ 7293034; omega⟩ rfl rfl (by simp [x_cr, x_c1, x_c2]) dL_law_340) (fun v_340 X_340 p_340 => ?_)
  obtain ⟨an, rfl, hy, hno⟩ := if_ans p_340
  have y64 : X_340 64 = X 64 := by
    by_cases q : x_in (z_S xs (5 * (j : Int) + 1)) 0 300 = 1
    · rw [(hy q).2]; exact x_up_o _ (by omega)
    · rw [(hno q).2]
  refine x_aload_n B dL_law_343 rfl ?_
  refine x_aldr B dL_law_344 rfl ?_
  refine x_iload B dL_law_345 rfl ?_
  refine x_iconst B dL_law_347 ?_
  refine x_iadd B dL_law_348 ?_
  refine x_sld B hX hb hE ⟨by omega, by omega⟩ hL3 dL_law_349 ?_
  refine x_go (x_rV B h8 (show x_cl[7]? = some _ from rfl) (c_X8_tires hT h8 a1) (lw_V q1563 q1564 q1565 q122 q1566) hv_X8_tires ⟨Nat.le_of_ble_eq_true rfl, Nat.le_of_ble_eq_true rfl⟩ ⟨by show _ ≤ 601024; omega, by show _ ≤ 7293034; omega⟩ rfl rfl (by simp [x_cr, x_c1, x_c2]) dL_law_350) (fun v_350 X_350 p_350 => ?_)
  obtain ⟨bn, rfl, hz, hno8⟩ := if_ans p_350
  have hfin : bn = an ∧ Rel κ X_350 ((j + 1 : Nat) : Int) := by
    by_cases q : x_in (z_S xs (5 * (j : Int) + 1)) 0 300 = 1
    · have q8 := hz q
      have q1 := hy q
      refine ⟨by rw [q8.1, q1.1, y64]; exact hS.1, ?_⟩
      rw [q8.2, q1.2]; exact Rel_t hr hj0 (by unfold x_in at q; split at q <;> omega)
    · have q8 := hno8 q
      have q1 := hno q
      refine ⟨by rw [q8.1, q1.1], ?_⟩
      rw [q8.2, q1.2]; exact Rel_row hr hj0 (fun _ _ _ => rfl) (Int.le_refl _) 0
  refine x_icmpS B (tgt := 1422) dL_law_353 (by decide) hfin.1 ?_
  refine x_wide (cells' := 90 + 4000 * (j + 1)) (slots' := 247453 + 8000 * (j + 1)) (by omega) (by omega) ?_
  exact K _ _ (hfin.2)
theorem lc_6 {p : Program} {l : Launch} {e : Env} {s : State} {m : MethodId} {below : List Frame} {meth : Method} {c : Code} {b Ln : Nat} {xs : Nat → Int32} {E : x_E} {κ : x_Ka} {X : x_X} {j : Nat} (B : x_B p s m #[Value.ref b] meth c code "NextLoadLaw" 8 ret E) (hX : va_X b Ln xs s s.heap) (hb : b < E.1) (hE : E.1 = s.heap.size) (hst : l.stackTraces = false) (hj : 5 * j + 5 ≤ Ln) (hL3 : Ln ≤ 320) (hr : Rel κ X j) (K : ∀ (κ' : x_Ka) (X' : x_X), Rel κ' X' ((j + 1 : Nat) : Int) → x_G p l e room_1 s m #[Value.ref b] below meth c 8 E (90 + 4000 * (j + 1)) (247453 + 8000 * (j + 1)) (lw_Z below #[Value.ref b] s) κ' 1422 [some (Value.ref b), some (x_rf E 0), some (x_rf E 64), some (x_rf E 87), some (vi (5 * (j : Int))), none, none, none] [] X') : x_G p l e room_1 s m #[Value.ref b] below meth c 8 E (90 + 4000 * j) (247453 + 8000 * j) (lw_Z below #[Value.ref b] s) κ 358 [some (Value.ref b), some (x_rf E 0), some (x_rf E 64), some (x_rf E 87), some (vi (5 * (j : Int))), none, none, none] [] X := by
  obtain ⟨hC, hTT, hV, hG, hS, hR⟩ := id hr
  have hn := hC.1.1
  have hT := hn.1.1
  have h0 := hn.1.2.1
  have h8 := hTT.1.1.2.1
  have k87 := hC.1.2.2
  have hlo := hC.1.2.1
  have hj0 : (0 : Int) ≤ (j : Int) := by omega
  have hn6 := hn.1.2.2.1
  have hFB := hC.2.2.1.b (by omega)
  have a1 := z_S_R xs (5 * (j : Int) + 1)
  have a2 := z_S_R xs (5 * (j : Int) + 2)
  have a3 := z_S_R xs (5 * (j : Int) + 3)
  have a4 := z_S_R xs (5 * (j : Int) + 4)
  refine x_aload_n B dL_law_358 rfl ?_
  refine x_go (x_rV B h0 (show x_cl[0]? = some _ from rfl) (c_X1_begins hn.1) (lw_V q756 q757 q758 q110 q759) hv_X1_begins ⟨Nat.le_of_ble_eq_true rfl, Nat.le_of_ble_eq_true rfl⟩ ⟨by show _ ≤ 601024; omega, by show _ ≤ 7293034; omega⟩ rfl rfl (by simp [x_cr, x_c1, x_c2]) dL_law_359) (fun v_359 X_359 p_359 => ?_)
  obtain ⟨rfl, hb⟩ := p_359
  have hcf : CFr X X_359 := fun a a1 a2 => hb.1 a (by omega) (by omega)
  have hTY := hTT.cf hcf hT h8
  refine x_aload_n B dL_law_362 rfl ?_
  refine x_go (x_rV B h8 (show x_cl[7]? = some _ from rfl) (c_X8_begins hTY.1) (lw_V q1568 q1569 q1570 q122 q1571) hv_X8_begins ⟨Nat.le_of_ble_eq_true rfl, Nat.le_of_ble_eq_true rfl⟩ ⟨by show _ ≤ 601024; omega, by show _ ≤ 7293034; omega⟩ rfl rfl (by simp [x_cr, x_c1, x_c2]) dL_law_363) (fun v_363 X_363 p_363 => ?_)
  obtain ⟨rfl, hb8⟩ := p_363
  refine x_icmpS B (tgt := 1422) dL_law_366 (by decide) (by rw [hcf 64 (by omega) (by omega)]; exact hV.1) ?_
  refine x_wide (cells' := 90 + 4000 * (j + 1)) (slots' := 247453 + 8000 * (j + 1)) (by omega) (by omega) ?_
  exact K _ _ (Rel_beg hr hj0 hb hb8)
theorem lc_33 {p : Program} {l : Launch} {e : Env} {s : State} {m : MethodId} {below : List Frame} {meth : Method} {c : Code} {b Ln : Nat} {xs : Nat → Int32} {E : x_E} {κ : x_Ka} {X : x_X} {j : Nat} (B : x_B p s m #[Value.ref b] meth c code "NextLoadLaw" 8 ret E) (hX : va_X b Ln xs s s.heap) (hb : b < E.1) (hE : E.1 = s.heap.size) (hst : l.stackTraces = false) (hj : 5 * j + 5 ≤ Ln) (hL3 : Ln ≤ 320) (hr : Rel κ X j) (K : ∀ (κ' : x_Ka) (X' : x_X), Rel κ' X' ((j + 1 : Nat) : Int) → x_G p l e room_1 s m #[Value.ref b] below meth c 8 E (90 + 4000 * (j + 1)) (247453 + 8000 * (j + 1)) (lw_Z below #[Value.ref b] s) κ' 1422 [some (Value.ref b), some (x_rf E 0), some (x_rf E 64), some (x_rf E 87), some (vi (5 * (j : Int))), none, none, none] [] X') : x_G p l e room_1 s m #[Value.ref b] below meth c 8 E (90 + 4000 * j) (247453 + 8000 * j) (lw_Z below #[Value.ref b] s) κ 1293 [some (Value.ref b), some (x_rf E 0), some (x_rf E 64), some (x_rf E 87), some (vi (5 * (j : Int))), none, none, none] [] X := by
  obtain ⟨hC, hTT, hV, hG, hS, hR⟩ := id hr
  have hn := hC.1.1
  have hT := hn.1.1
  have h0 := hn.1.2.1
  have h8 := hTT.1.1.2.1
  have k87 := hC.1.2.2
  have hlo := hC.1.2.1
  have hj0 : (0 : Int) ≤ (j : Int) := by omega
  have hn6 := hn.1.2.2.1
  have hFB := hC.2.2.1.b (by omega)
  have a1 := z_S_R xs (5 * (j : Int) + 1)
  have a2 := z_S_R xs (5 * (j : Int) + 2)
  have a3 := z_S_R xs (5 * (j : Int) + 3)
  have a4 := z_S_R xs (5 * (j : Int) + 4)
  refine x_aload_n B dL_law_1293 rfl ?_
  refine x_aldr B dL_law_1294 rfl ?_
  refine x_iload B dL_law_1295 rfl ?_
  refine x_iconst B dL_law_1297 ?_
  refine x_iadd B dL_law_1298 ?_
  refine x_sld B hX hb hE ⟨by omega, by omega⟩ hL3 dL_law_1299 ?_
  refine x_aldr B dL_law_1300 rfl ?_
  refine x_iload B dL_law_1301 rfl ?_
  refine x_iconst B dL_law_1303 ?_
  refine x_iadd B dL_law_1304 ?_
  refine x_sld B hX hb hE ⟨by omega, by omega⟩ hL3 dL_law_1305 ?_
  refine x_aldr B dL_law_1306 rfl ?_
  refine x_iload B dL_law_1307 rfl ?_
  refine x_iconst B dL_law_1309 ?_
  refine x_iadd B dL_law_1310 ?_
  refine x_sld B hX hb hE ⟨by omega, by omega⟩ hL3 dL_law_1311 ?_
  refine x_go (x_rV B h0 (show x_cl[0]? = some _ from rfl) (c_X1_often hn k87 a1 a2 a3) (lw_V q1281 q1282 q1283 q110 q1284) hv_X1_often ⟨Nat.le_of_ble_eq_true rfl, Nat.le_of_ble_eq_true rfl⟩ ⟨by show _ ≤ 601024; omega, by show _ ≤ 7293034; omega⟩ rfl rfl (by simp [x_cr, x_c1, x_c2]) dL_law_1312) (fun v_1312 X_1312 p_1312 => ?_)
  obtain ⟨an, rfl, hy, hno⟩ := if_ans p_1312
  have hk : k_eq X X_1312 := by
    by_cases q : x_in (z_S xs (5 * (j : Int) + 1)) 0 (X 1 2 - 1) = 1 ∧ x_in (z_S xs (5 * (j : Int) + 2)) 1 50 = 1
    · exact (hy q).2.1
    · rw [(hno q).2]; exact k_eq.rf X
  have hfe : f_eq X X_1312 := by
    by_cases q : x_in (z_S xs (5 * (j : Int) + 1)) 0 (X 1 2 - 1) = 1 ∧ x_in (z_S xs (5 * (j : Int) + 2)) 1 50 = 1
    · exact (hy q).2.2.1
    · rw [(hno q).2]; exact fun _ _ _ => rfl
  have hcf := hk.cf hlo
  have hTY := hTT.cf hcf hT h8
  have hVY := hV.t (teq.cf hcf)
  have h13 : 0 ≤ X_1312 64 13 ∧ X_1312 64 13 ≤ m_T (X_1312 64 3) (t_M X_1312) ∧ X_1312 64 13 ≤ 54 := by rw [hVY.1, hVY.2.1, hcf 64 (by omega) (by omega), hG.2]; have := hC.2.2.2.2.2.2.1; omega
  refine x_aload_n B dL_law_1315 rfl ?_
  refine x_aldr B dL_law_1316 rfl ?_
  refine x_iload B dL_law_1317 rfl ?_
  refine x_iconst B dL_law_1319 ?_
  refine x_iadd B dL_law_1320 ?_
  refine x_sld B hX hb hE ⟨by omega, by omega⟩ hL3 dL_law_1321 ?_
  refine x_aldr B dL_law_1322 rfl ?_
  refine x_iload B dL_law_1323 rfl ?_
  refine x_iconst B dL_law_1325 ?_
  refine x_iadd B dL_law_1326 ?_
  refine x_sld B hX hb hE ⟨by omega, by omega⟩ hL3 dL_law_1327 ?_
  refine x_aldr B dL_law_1328 rfl ?_
  refine x_iload B dL_law_1329 rfl ?_
  refine x_iconst B dL_law_1331 ?_
  refine x_iadd B dL_law_1332 ?_
  refine x_sld B hX hb hE ⟨by omega, by omega⟩ hL3 dL_law_1333 ?_
  refine x_go (x_rV B h8 (show x_cl[7]? = some _ from rfl) (c_X8_often hTY.1 h13 hTY.2 a1 a2 a3) (lw_V q1908 q1909 q1910 q122 q1911) hv_X8_often ⟨Nat.le_of_ble_eq_true rfl, Nat.le_of_ble_eq_true rfl⟩ ⟨by show _ ≤ 601024; omega, by show _ ≤ 7293034; omega⟩ rfl rfl (by simp [x_cr, x_c1, x_c2]) dL_law_1334) (fun v_1334 X_1334 p_1334 => ?_)
  obtain ⟨bn, rfl, hz, hno8⟩ := if_ans p_1334
  rw [hVY.1, hVY.2.1, q8_ru_eq hVY, li_eq hVY] at hz
  rw [hVY.1] at hno8
  have hfin : bn = an ∧ Rel κ X_1334 ((j + 1 : Nat) : Int) := by
    by_cases q : x_in (z_S xs (5 * (j : Int) + 1)) 0 (X 1 2 - 1) = 1 ∧ x_in (z_S xs (5 * (j : Int) + 2)) 1 50 = 1
    · have h1 := hy q
      have h2 := hz q
      refine ⟨by rw [h1.1, h2.1], Rel_o hr hj0 hk hfe (by rw [h1.2.2.2.1]; omega) h2.2.1 h2.2.2.1 h2.2.2.2.1 h2.2.2.2.2.1 ⟨by rw [h2.2.2.2.2.2.1, h1.2.2.2.1], fun k k1 k2 => ?_⟩⟩
      rw [h1.2.2.2.1] at k2
      rcases (show k = 0 ∨ k = 1 by omega) with e | e <;> rw [e]
      · rw [h1.2.2.2.2.1, h2.2.2.2.2.2.2.1]
      · rw [h1.2.2.2.2.2, h2.2.2.2.2.2.2.2]
    · have q8 := hno8 q
      have q1 := hno q
      refine ⟨by rw [q8.1, q1.1], ?_⟩
      rw [q8.2, q1.2]; exact Rel_row hr hj0 (fun _ _ _ => rfl) (Int.le_refl _) 0
  refine x_icmpS B (tgt := 1422) dL_law_1337 (by decide) hfin.1 ?_
  refine x_wide (cells' := 90 + 4000 * (j + 1)) (slots' := 247453 + 8000 * (j + 1)) (by omega) (by omega) ?_
  exact K _ _ (hfin.2)
theorem lc_11 {p : Program} {l : Launch} {e : Env} {s : State} {m : MethodId} {below : List Frame} {meth : Method} {c : Code} {b Ln : Nat} {xs : Nat → Int32} {E : x_E} {κ : x_Ka} {X : x_X} {j : Nat} (B : x_B p s m #[Value.ref b] meth c code "NextLoadLaw" 8 ret E) (hX : va_X b Ln xs s s.heap) (hb : b < E.1) (hE : E.1 = s.heap.size) (hst : l.stackTraces = false) (hj : 5 * j + 5 ≤ Ln) (hL3 : Ln ≤ 320) (hr : Rel κ X j) (K : ∀ (κ' : x_Ka) (X' : x_X), Rel κ' X' ((j + 1 : Nat) : Int) → x_G p l e room_1 s m #[Value.ref b] below meth c 8 E (90 + 4000 * (j + 1)) (247453 + 8000 * (j + 1)) (lw_Z below #[Value.ref b] s) κ' 1422 [some (Value.ref b), some (x_rf E 0), some (x_rf E 64), some (x_rf E 87), some (vi (5 * (j : Int))), none, none, none] [] X') : x_G p l e room_1 s m #[Value.ref b] below meth c 8 E (90 + 4000 * j) (247453 + 8000 * j) (lw_Z below #[Value.ref b] s) κ 507 [some (Value.ref b), some (x_rf E 0), some (x_rf E 64), some (x_rf E 87), some (vi (5 * (j : Int))), none, none, none] [] X := by
  obtain ⟨hC, hTT, hV, hG, hS, hR⟩ := id hr
  have hn := hC.1.1
  have hT := hn.1.1
  have h0 := hn.1.2.1
  have h8 := hTT.1.1.2.1
  have k87 := hC.1.2.2
  have hlo := hC.1.2.1
  have hj0 : (0 : Int) ≤ (j : Int) := by omega
  have hn6 := hn.1.2.2.1
  have hFB := hC.2.2.1.b (by omega)
  have a1 := z_S_R xs (5 * (j : Int) + 1)
  have a2 := z_S_R xs (5 * (j : Int) + 2)
  have a3 := z_S_R xs (5 * (j : Int) + 3)
  have a4 := z_S_R xs (5 * (j : Int) + 4)
  refine x_aload_n B dL_law_507 rfl ?_
  refine x_aldr B dL_law_508 rfl ?_
  refine x_iload B dL_law_509 rfl ?_
  refine x_iconst B dL_law_511 ?_
  refine x_iadd B dL_law_512 ?_
  refine x_sld B hX hb hE ⟨by omega, by omega⟩ hL3 dL_law_513 ?_
  refine x_aldr B dL_law_514 rfl ?_
  refine x_iload B dL_law_515 rfl ?_
  refine x_iconst B dL_law_517 ?_
  refine x_iadd B dL_law_518 ?_
  refine x_sld B hX hb hE ⟨by omega, by omega⟩ hL3 dL_law_519 ?_
  refine x_go (x_rV B h0 (show x_cl[0]? = some _ from rfl) (c_X1_asks hn a1 a2) (lw_V q828 q829 q830 q110 q831) hv_X1_asks ⟨Nat.le_of_ble_eq_true rfl, Nat.le_of_ble_eq_true rfl⟩ ⟨by show _ ≤ 601024; omega, by show _ ≤ 7293034; omega⟩ rfl rfl (by simp [x_cr, x_c1, x_c2]) dL_law_520) (fun v_520 X_520 p_520 => ?_)
  obtain ⟨rfl, hY⟩ := p_520
  have hcf : CFr X X_520 := by
    intro a a1 a2
    by_cases q : 0 ≤ u_asks (X 1 2) (c_M X 3) (z_S xs (5 * (j : Int) + 1)) (z_S xs (5 * (j : Int) + 2))
    · have hi := (u_asks_i q).1
      rw [hY, if_pos q, x_up_o _ (by omega), x_up_o _ (by omega)]
    · rw [hY, if_neg q]
  have hTY := hTT.cf hcf hT h8
  have hVY := hV.t (teq.cf hcf)
  refine x_aload_n B dL_law_523 rfl ?_
  refine x_aldr B dL_law_524 rfl ?_
  refine x_iload B dL_law_525 rfl ?_
  refine x_iconst B dL_law_527 ?_
  refine x_iadd B dL_law_528 ?_
  refine x_sld B hX hb hE ⟨by omega, by omega⟩ hL3 dL_law_529 ?_
  refine x_aldr B dL_law_530 rfl ?_
  refine x_iload B dL_law_531 rfl ?_
  refine x_iconst B dL_law_533 ?_
  refine x_iadd B dL_law_534 ?_
  refine x_sld B hX hb hE ⟨by omega, by omega⟩ hL3 dL_law_535 ?_
  refine x_go (x_rV B h8 (show x_cl[7]? = some _ from rfl) (c_X8_asks hTY.1 a1 a2) (lw_V q1628 q1629 q1630 q122 q1631) hv_X8_asks ⟨Nat.le_of_ble_eq_true rfl, Nat.le_of_ble_eq_true rfl⟩ ⟨by show _ ≤ 601024; omega, by show _ ≤ 7293034; omega⟩ rfl rfl (by simp [x_cr, x_c1, x_c2]) dL_law_536) (fun v_536 X_536 p_536 => ?_)
  obtain ⟨rfl, hZ⟩ := p_536
  rw [hVY.1, hVY.2.1] at hZ
  have hRel : Rel κ X_536 ((j + 1 : Nat) : Int) := by
    by_cases q : 0 ≤ u_asks (X 1 2) (c_M X 3) (z_S xs (5 * (j : Int) + 1)) (z_S xs (5 * (j : Int) + 2))
    · rw [if_pos q] at hY hZ
      exact Rel_as hr hj0 rfl q hY hZ
    · rw [if_neg q] at hY hZ
      rw [hZ, hY]; exact Rel_row hr hj0 (fun _ _ _ => rfl) (Int.le_refl _) 0
  refine x_icmpS B (tgt := 1422) dL_law_539 (by decide) (by rw [hVY.1, hVY.2.1]) ?_
  refine x_wide (cells' := 90 + 4000 * (j + 1)) (slots' := 247453 + 8000 * (j + 1)) (by omega) (by omega) ?_
  exact K _ _ (hRel)
theorem lc_12 {p : Program} {l : Launch} {e : Env} {s : State} {m : MethodId} {below : List Frame} {meth : Method} {c : Code} {b Ln : Nat} {xs : Nat → Int32} {E : x_E} {κ : x_Ka} {X : x_X} {j : Nat} (B : x_B p s m #[Value.ref b] meth c code "NextLoadLaw" 8 ret E) (hX : va_X b Ln xs s s.heap) (hb : b < E.1) (hE : E.1 = s.heap.size) (hst : l.stackTraces = false) (hj : 5 * j + 5 ≤ Ln) (hL3 : Ln ≤ 320) (hr : Rel κ X j) (K : ∀ (κ' : x_Ka) (X' : x_X), Rel κ' X' ((j + 1 : Nat) : Int) → x_G p l e room_1 s m #[Value.ref b] below meth c 8 E (90 + 4000 * (j + 1)) (247453 + 8000 * (j + 1)) (lw_Z below #[Value.ref b] s) κ' 1422 [some (Value.ref b), some (x_rf E 0), some (x_rf E 64), some (x_rf E 87), some (vi (5 * (j : Int))), none, none, none] [] X') : x_G p l e room_1 s m #[Value.ref b] below meth c 8 E (90 + 4000 * j) (247453 + 8000 * j) (lw_Z below #[Value.ref b] s) κ 544 [some (Value.ref b), some (x_rf E 0), some (x_rf E 64), some (x_rf E 87), some (vi (5 * (j : Int))), none, none, none] [] X := by
  obtain ⟨hC, hTT, hV, hG, hS, hR⟩ := id hr
  have hn := hC.1.1
  have hT := hn.1.1
  have h0 := hn.1.2.1
  have h8 := hTT.1.1.2.1
  have k87 := hC.1.2.2
  have hlo := hC.1.2.1
  have hj0 : (0 : Int) ≤ (j : Int) := by omega
  have hn6 := hn.1.2.2.1
  have hFB := hC.2.2.1.b (by omega)
  have a1 := z_S_R xs (5 * (j : Int) + 1)
  have a2 := z_S_R xs (5 * (j : Int) + 2)
  have a3 := z_S_R xs (5 * (j : Int) + 3)
  have a4 := z_S_R xs (5 * (j : Int) + 4)
  refine x_aload_n B dL_law_544 rfl ?_
  refine x_aldr B dL_law_545 rfl ?_
  refine x_iload B dL_law_546 rfl ?_
  refine x_iconst B dL_law_548 ?_
  refine x_iadd B dL_law_549 ?_
  refine x_sld B hX hb hE ⟨by omega, by omega⟩ hL3 dL_law_550 ?_
  refine x_if_eq B (tgt := 558) dL_law_551 (by decide) a1 (fun h_551 => ?_) (fun h_551 => ?_)
  · refine x_iconst B dL_law_558 ?_
    refine x_go (x_rV B h0 (show x_cl[0]? = some _ from rfl) (c_X1_tries (g := 0) hn k87 (fun q => by have := m_T_53 hn6 hn.2.2.2.1 q; have := hC.2.2.2.2.2.2.1; omega) ⟨by decide, by decide⟩) (lw_V q832 q833 q834 q110 q835) hv_X1_tries ⟨Nat.le_of_ble_eq_true rfl, Nat.le_of_ble_eq_true rfl⟩ ⟨by show _ ≤ 601024; omega, by show _ ≤ 7293034; omega⟩ rfl rfl (by simp [x_cr, x_c1, x_c2]) dL_law_559) (fun v_559 X_559 p_559 => ?_)
    obtain ⟨an, rfl, hy, hno⟩ := if_ans p_559
    have hcf : CFr X X_559 := by
      by_cases q : m_cal (X 1 2) (c_lot X) (c_M X 3) = -1
      · rw [(hy q).2]; exact fun _ _ _ => rfl
      · obtain ⟨Y1, f1, f2, f3, f4⟩ := (hno q).2
        exact (tr_fr f1 f4).1.cf
    have hTY := hTT.cf hcf hT h8
    have hVY := hV.t (teq.cf hcf)
    have e13 : X_559 64 13 = X 0 12 := by rw [hcf 64 (by omega) (by omega)]; exact hG.2
    have h12 := hC.2.2.2.2.2.2.1
    have h14 := t_gd_r hTY.2 (by omega)
    refine x_aload_n B dL_law_562 rfl ?_
    refine x_aldr B dL_law_563 rfl ?_
    refine x_iload B dL_law_564 rfl ?_
    refine x_iconst B dL_law_566 ?_
    refine x_iadd B dL_law_567 ?_
    refine x_sld B hX hb hE ⟨by omega, by omega⟩ hL3 dL_law_568 ?_
    refine x_if_eq B (tgt := 576) dL_law_569 (by decide) a1 (fun h_569 => ?_) (fun h_569 => (by exfalso; omega))
    refine x_iconst B dL_law_576 ?_
    refine x_go (x_rV B h8 (show x_cl[7]? = some _ from rfl) (c_X8_tries (g := 0) hTY.1 ⟨by decide, by decide⟩ (fun _ => by omega) (by omega)) (lw_V q1632 q1633 q1634 q122 q1635) hv_X8_tries ⟨Nat.le_of_ble_eq_true rfl, Nat.le_of_ble_eq_true rfl⟩ ⟨by show _ ≤ 601024; omega, by show _ ≤ 7293034; omega⟩ rfl rfl (by simp [x_cr, x_c1, x_c2]) dL_law_577) (fun v_577 X_577 p_577 => ?_)
    obtain ⟨bn, rfl, hz, hno8⟩ := if_ans p_577
    have em : m_cal (X_559 64 3) (t_lot X_559) (t_M X_559) = m_cal (X 1 2) (c_lot X) (c_M X 3) := by rw [hVY.1, hVY.2.2.2.1, hVY.2.1]
    have hfin : bn = an ∧ Rel κ X_577 ((j + 1 : Nat) : Int) := by
      by_cases q : m_cal (X 1 2) (c_lot X) (c_M X 3) = -1
      · have q8 := hz (by rw [em]; exact q)
        have q1 := hy q
        refine ⟨by rw [q8.1, q1.1], ?_⟩
        rw [q8.2, q1.2]; exact Rel_row hr hj0 (fun _ _ _ => rfl) (Int.le_refl _) 0
      · have q8 := hno8 (by rw [em]; exact q)
        have q1 := hno q
        obtain ⟨Y1, f1, f2, f3, f4⟩ := q1.2
        obtain ⟨Z1, hz1⟩ := q8.2
        exact ⟨by rw [q8.1, q1.1, em], Rel_tr hr hj0 ⟨by decide, by decide⟩ q f1 f2 f3 f4 hz1⟩
    refine x_icmpS B (tgt := 1422) dL_law_580 (by decide) hfin.1 ?_
    refine x_wide (cells' := 90 + 4000 * (j + 1)) (slots' := 247453 + 8000 * (j + 1)) (by omega) (by omega) ?_
    exact K _ _ (hfin.2)
  · refine x_iconst B dL_law_554 ?_
    refine x_goto B (tgt := 559) dL_law_555 (by decide) ?_
    refine x_go (x_rV B h0 (show x_cl[0]? = some _ from rfl) (c_X1_tries (g := 1) hn k87 (fun q => by have := m_T_53 hn6 hn.2.2.2.1 q; have := hC.2.2.2.2.2.2.1; omega) ⟨by decide, by decide⟩) (lw_V q832 q833 q834 q110 q835) hv_X1_tries ⟨Nat.le_of_ble_eq_true rfl, Nat.le_of_ble_eq_true rfl⟩ ⟨by show _ ≤ 601024; omega, by show _ ≤ 7293034; omega⟩ rfl rfl (by simp [x_cr, x_c1, x_c2]) dL_law_559) (fun v_559 X_559 p_559 => ?_)
    obtain ⟨an, rfl, hy, hno⟩ := if_ans p_559
    have hcf : CFr X X_559 := by
      by_cases q : m_cal (X 1 2) (c_lot X) (c_M X 3) = -1
      · rw [(hy q).2]; exact fun _ _ _ => rfl
      · obtain ⟨Y1, f1, f2, f3, f4⟩ := (hno q).2
        exact (tr_fr f1 f4).1.cf
    have hTY := hTT.cf hcf hT h8
    have hVY := hV.t (teq.cf hcf)
    have e13 : X_559 64 13 = X 0 12 := by rw [hcf 64 (by omega) (by omega)]; exact hG.2
    have h12 := hC.2.2.2.2.2.2.1
    have h14 := t_gd_r hTY.2 (by omega)
    refine x_aload_n B dL_law_562 rfl ?_
    refine x_aldr B dL_law_563 rfl ?_
    refine x_iload B dL_law_564 rfl ?_
    refine x_iconst B dL_law_566 ?_
    refine x_iadd B dL_law_567 ?_
    refine x_sld B hX hb hE ⟨by omega, by omega⟩ hL3 dL_law_568 ?_
    refine x_if_eq B (tgt := 576) dL_law_569 (by decide) a1 (fun h_569 => (by exfalso; omega)) (fun h_569 => ?_)
    refine x_iconst B dL_law_572 ?_
    refine x_goto B (tgt := 577) dL_law_573 (by decide) ?_
    refine x_go (x_rV B h8 (show x_cl[7]? = some _ from rfl) (c_X8_tries (g := 1) hTY.1 ⟨by decide, by decide⟩ (fun _ => by omega) (by omega)) (lw_V q1632 q1633 q1634 q122 q1635) hv_X8_tries ⟨Nat.le_of_ble_eq_true rfl, Nat.le_of_ble_eq_true rfl⟩ ⟨by show _ ≤ 601024; omega, by show _ ≤ 7293034; omega⟩ rfl rfl (by simp [x_cr, x_c1, x_c2]) dL_law_577) (fun v_577 X_577 p_577 => ?_)
    obtain ⟨bn, rfl, hz, hno8⟩ := if_ans p_577
    have em : m_cal (X_559 64 3) (t_lot X_559) (t_M X_559) = m_cal (X 1 2) (c_lot X) (c_M X 3) := by rw [hVY.1, hVY.2.2.2.1, hVY.2.1]
    have hfin : bn = an ∧ Rel κ X_577 ((j + 1 : Nat) : Int) := by
      by_cases q : m_cal (X 1 2) (c_lot X) (c_M X 3) = -1
      · have q8 := hz (by rw [em]; exact q)
        have q1 := hy q
        refine ⟨by rw [q8.1, q1.1], ?_⟩
        rw [q8.2, q1.2]; exact Rel_row hr hj0 (fun _ _ _ => rfl) (Int.le_refl _) 0
      · have q8 := hno8 (by rw [em]; exact q)
        have q1 := hno q
        obtain ⟨Y1, f1, f2, f3, f4⟩ := q1.2
        obtain ⟨Z1, hz1⟩ := q8.2
        exact ⟨by rw [q8.1, q1.1, em], Rel_tr hr hj0 ⟨by decide, by decide⟩ q f1 f2 f3 f4 hz1⟩
    refine x_icmpS B (tgt := 1422) dL_law_580 (by decide) hfin.1 ?_
    refine x_wide (cells' := 90 + 4000 * (j + 1)) (slots' := 247453 + 8000 * (j + 1)) (by omega) (by omega) ?_
    exact K _ _ (hfin.2)
theorem lc_32 {p : Program} {l : Launch} {e : Env} {s : State} {m : MethodId} {below : List Frame} {meth : Method} {c : Code} {b Ln : Nat} {xs : Nat → Int32} {E : x_E} {κ : x_Ka} {X : x_X} {j : Nat} (B : x_B p s m #[Value.ref b] meth c code "NextLoadLaw" 8 ret E) (hX : va_X b Ln xs s s.heap) (hb : b < E.1) (hE : E.1 = s.heap.size) (hst : l.stackTraces = false) (hj : 5 * j + 5 ≤ Ln) (hL3 : Ln ≤ 320) (hr : Rel κ X j) (K : ∀ (κ' : x_Ka) (X' : x_X), Rel κ' X' ((j + 1 : Nat) : Int) → x_G p l e room_1 s m #[Value.ref b] below meth c 8 E (90 + 4000 * (j + 1)) (247453 + 8000 * (j + 1)) (lw_Z below #[Value.ref b] s) κ' 1422 [some (Value.ref b), some (x_rf E 0), some (x_rf E 64), some (x_rf E 87), some (vi (5 * (j : Int))), none, none, none] [] X') : x_G p l e room_1 s m #[Value.ref b] below meth c 8 E (90 + 4000 * j) (247453 + 8000 * j) (lw_Z below #[Value.ref b] s) κ 1268 [some (Value.ref b), some (x_rf E 0), some (x_rf E 64), some (x_rf E 87), some (vi (5 * (j : Int))), none, none, none] [] X := by
  obtain ⟨hC, hTT, hV, hG, hS, hR⟩ := id hr
  have hn := hC.1.1
  have hT := hn.1.1
  have h0 := hn.1.2.1
  have h8 := hTT.1.1.2.1
  have k87 := hC.1.2.2
  have hlo := hC.1.2.1
  have hj0 : (0 : Int) ≤ (j : Int) := by omega
  have hn6 := hn.1.2.2.1
  have hFB := hC.2.2.1.b (by omega)
  have a1 := z_S_R xs (5 * (j : Int) + 1)
  have a2 := z_S_R xs (5 * (j : Int) + 2)
  have a3 := z_S_R xs (5 * (j : Int) + 3)
  have a4 := z_S_R xs (5 * (j : Int) + 4)
  refine x_aload_n B dL_law_1268 rfl ?_
  refine x_aldr B dL_law_1269 rfl ?_
  refine x_iload B dL_law_1270 rfl ?_
  refine x_iconst B dL_law_1272 ?_
  refine x_iadd B dL_law_1273 ?_
  refine x_sld B hX hb hE ⟨by omega, by omega⟩ hL3 dL_law_1274 ?_
  refine x_go (x_rV B h0 (show x_cl[0]? = some _ from rfl) (c_X1_plays hn (fun M hM => (m_pl (body := c_body X) (lot := c_lot X) (M := M) hn6 hC.2.2.2.2.2.2.2.1 (fun l l1 l2 => (hM.2.1 l l1 l2).2.2.2.2.2.1)).1) ⟨hC.2.2.2.2.2.2.1.1, hC.2.2.2.2.2.2.1.2.2⟩ a1) (lw_V q1272 q1273 q1274 q110 q1275) hv_X1_plays ⟨Nat.le_of_ble_eq_true rfl, Nat.le_of_ble_eq_true rfl⟩ ⟨by show _ ≤ 601024; omega, by show _ ≤ 7293034; omega⟩ rfl rfl (by simp [x_cr, x_c1, x_c2]) dL_law_1275) (fun v_1275 X_1275 p_1275 => ?_)
  obtain ⟨an, rfl, hy, hno⟩ := if_ans p_1275
  have hcf : CFr X X_1275 := by
    by_cases q : m_cal (X 1 2) (c_lot X) (c_M X 3) = -1
    · rw [(hy q).2]; exact fun _ _ _ => rfl
    · exact (hno q).2.1.cf
  have hTY := hTT.cf hcf hT h8
  have hVY := hV.t (teq.cf hcf)
  have e13 : X_1275 64 13 = X 0 12 := by rw [hcf 64 (by omega) (by omega)]; exact hG.2
  have h13 : 0 ≤ X_1275 64 13 ∧ X_1275 64 13 ≤ m_T (X_1275 64 3) (t_M X_1275) ∧ X_1275 64 13 ≤ 54 := by rw [hVY.1, hVY.2.1, e13]; have := hC.2.2.2.2.2.2.1; omega
  refine x_aload_n B dL_law_1278 rfl ?_
  refine x_aldr B dL_law_1279 rfl ?_
  refine x_iload B dL_law_1280 rfl ?_
  refine x_iconst B dL_law_1282 ?_
  refine x_iadd B dL_law_1283 ?_
  refine x_sld B hX hb hE ⟨by omega, by omega⟩ hL3 dL_law_1284 ?_
  refine x_go (x_rV B h8 (show x_cl[7]? = some _ from rfl) (c_X8_plays hTY.1 h13 hTY.2 a1) (lw_V q1895 q1896 q1897 q122 q1898) hv_X8_plays ⟨Nat.le_of_ble_eq_true rfl, Nat.le_of_ble_eq_true rfl⟩ ⟨by show _ ≤ 601024; omega, by show _ ≤ 7293034; omega⟩ rfl rfl (by simp [x_cr, x_c1, x_c2]) dL_law_1285) (fun v_1285 X_1285 p_1285 => ?_)
  obtain ⟨bn, rfl, hz, hno8⟩ := if_ans p_1285
  have em : m_cal (X_1275 64 3) (t_lot X_1275) (t_M X_1275) = m_cal (X 1 2) (c_lot X) (c_M X 3) := by rw [hVY.1, hVY.2.2.2.1, hVY.2.1]
  have eG : t_G X_1275 = c_G X := by rw [t_G_e (congrFun (hcf 64 (by omega) (by omega)) 13) (hcf 74 (by omega) (by omega))]; exact hG.1
  have hfin : bn = an ∧ Rel κ X_1285 ((j + 1 : Nat) : Int) := by
    by_cases q : m_cal (X 1 2) (c_lot X) (c_M X 3) = -1
    · have q8 := hz (by rw [em]; exact q)
      have q1 := hy q
      refine ⟨by rw [q8.1, q1.1], ?_⟩
      rw [q8.2, q1.2]; exact Rel_row hr hj0 (fun _ _ _ => rfl) (Int.le_refl _) 0
    · have q8 := hno8 (by rw [em]; exact q)
      have q1 := hno q
      refine ⟨by rw [q8.1, q1.1, q8_ru_eq hVY, hVY.2.1, e13, eG], Rel_pp hr hj0 q1.2.1 q1.2.2 q8.2⟩
  refine x_icmpS B (tgt := 1422) dL_law_1288 (by decide) hfin.1 ?_
  refine x_wide (cells' := 90 + 4000 * (j + 1)) (slots' := 247453 + 8000 * (j + 1)) (by omega) (by omega) ?_
  exact K _ _ (hfin.2)
