theorem if_ans {c : Prop} [Decidable c] {v : Option Value} {a d : Int} {P Q : Prop} (h : if c then (v = some (vi a) ∧ P) else (v = some (vi d) ∧ Q)) : ∃ an, v = some (vi an) ∧ (c → an = a ∧ P) ∧ (¬ c → an = d ∧ Q) := by
  by_cases q : c
  · rw [if_pos q] at h; exact ⟨a, h.1, fun _ => ⟨rfl, h.2⟩, fun z => absurd q z⟩
  · rw [if_neg q] at h; exact ⟨d, h.1, fun z => absurd z q, fun _ => ⟨rfl, h.2⟩⟩
theorem if_ans2 {c d : Prop} [Decidable c] [Decidable d] {v : Option Value} {a1 a2 a3 : Int} {P1 P2 Q : Prop} (h : if c then (if d then (v = some (vi a1) ∧ P1) else (v = some (vi a2) ∧ P2)) else (v = some (vi a3) ∧ Q)) : ∃ an, v = some (vi an) ∧ (c → d → an = a1 ∧ P1) ∧ (c → ¬ d → an = a2 ∧ P2) ∧ (¬ c → an = a3 ∧ Q) := by
  by_cases q : c
  · rw [if_pos q] at h
    by_cases q2 : d
    · rw [if_pos q2] at h; exact ⟨a1, h.1, fun _ _ => ⟨rfl, h.2⟩, fun _ z => absurd q2 z, fun z => absurd q z⟩
    · rw [if_neg q2] at h; exact ⟨a2, h.1, fun _ z => absurd z q2, fun _ _ => ⟨rfl, h.2⟩, fun z => absurd q z⟩
  · rw [if_neg q] at h; exact ⟨a3, h.1, fun z => absurd z q, fun z => absurd z q, fun _ => ⟨rfl, h.2⟩⟩
theorem lc_7 {p : Program} {l : Launch} {e : Env} {s : State} {m : MethodId} {below : List Frame} {meth : Method} {c : Code} {b Ln : Nat} {xs : Nat → Int32} {E : x_E} {κ : x_Ka} {X : x_X} {j : Nat} (B : x_B p s m #[Value.ref b] meth c code "NextLoadLaw" 8 ret E) (hX : va_X b Ln xs s s.heap) (hb : b < E.1) (hE : E.1 = s.heap.size) (hst : l.stackTraces = false) (hj : 5 * j + 5 ≤ Ln) (hL3 : Ln ≤ 320) (hr : Rel κ X j) (K : ∀ (κ' : x_Ka) (X' : x_X), Rel κ' X' ((j + 1 : Nat) : Int) → x_G p l e room_1 s m #[Value.ref b] below meth c 8 E (90 + 4000 * (j + 1)) (247453 + 8000 * (j + 1)) (lw_Z below #[Value.ref b] s) κ' 1422 [some (Value.ref b), some (x_rf E 0), some (x_rf E 64), some (x_rf E 87), some (vi (5 * (j : Int))), none, none, none] [] X') : x_G p l e room_1 s m #[Value.ref b] below meth c 8 E (90 + 4000 * j) (247453 + 8000 * j) (lw_Z below #[Value.ref b] s) κ 371 [some (Value.ref b), some (x_rf E 0), some (x_rf E 64), some (x_rf E 87), some (vi (5 * (j : Int))), none, none, none] [] X := by
  obtain ⟨hC, hTT, hV, hG, hS, hR⟩ := id hr
  have hn := hC.1.1
  have hT := hn.1.1
  have h0 := hn.1.2.1
  have h8 := hTT.1.1.2.1
  have k87 := hC.1.2.2
  have hlo := hC.1.2.1
  have hj0 : (0 : Int) ≤ (j : Int) := by omega
  have hn6 := hn.1.2.2.1
  have hFB := hC.2.2.1.b (by omega)
  have a1 := z_S_R xs (5 * (j : Int) + 1)
  have a2 := z_S_R xs (5 * (j : Int) + 2)
  have a3 := z_S_R xs (5 * (j : Int) + 3)
  have a4 := z_S_R xs (5 * (j : Int) + 4)
  refine x_aload_n B dL_law_371 rfl ?_
  refine x_aldr B dL_law_372 rfl ?_
  refine x_iload B dL_law_373 rfl ?_
  refine x_iconst B dL_law_375 ?_
  refine x_iadd B dL_law_376 ?_
  refine x_sld B hX hb hE ⟨by omega, by omega⟩ hL3 dL_law_377 ?_
  refine x_aldr B dL_law_378 rfl ?_
  refine x_iload B dL_law_379 rfl ?_
  refine x_iconst B dL_law_381 ?_
  refine x_iadd B dL_law_382 ?_
  refine x_sld B hX hb hE ⟨by omega, by omega⟩ hL3 dL_law_383 ?_
  refine x_aldr B dL_law_384 rfl ?_
  refine x_iload B dL_law_385 rfl ?_
  refine x_iconst B dL_law_387 ?_
  refine x_iadd B dL_law_388 ?_
  refine x_sld B hX hb hE ⟨by omega, by omega⟩ hL3 dL_law_389 ?_
  refine x_aldr B dL_law_390 rfl ?_
  refine x_iload B dL_law_391 rfl ?_
  refine x_iconst B dL_law_393 ?_
  refine x_iadd B dL_law_394 ?_
  refine x_sld B hX hb hE ⟨by omega, by omega⟩ hL3 dL_law_395 ?_
  refine x_goP (x_rV B h0 (show x_cl[0]? = some _ from rfl) (c_X1_odds hn a1 a2 a3 a4) (lw_V q760 q761 q762 q110 q763) hv_X1_odds ⟨Nat.le_of_ble_eq_true rfl, Nat.le_of_ble_eq_true rfl⟩ ⟨by show _ ≤ 601024; omega, by show _ ≤ 7293034; omega⟩ rfl rfl (by simp [x_cr, x_c1, x_c2]) dL_law_396) ?_
  refine x_aload_n B dL_law_399 rfl ?_
  refine x_aldr B dL_law_400 rfl ?_
  refine x_iload B dL_law_401 rfl ?_
  refine x_iconst B dL_law_403 ?_
  refine x_iadd B dL_law_404 ?_
  refine x_sld B hX hb hE ⟨by omega, by omega⟩ hL3 dL_law_405 ?_
  refine x_aldr B dL_law_406 rfl ?_
  refine x_iload B dL_law_407 rfl ?_
  refine x_iconst B dL_law_409 ?_
  refine x_iadd B dL_law_410 ?_
  refine x_sld B hX hb hE ⟨by omega, by omega⟩ hL3 dL_law_411 ?_
  refine x_aldr B dL_law_412 rfl ?_
  refine x_iload B dL_law_413 rfl ?_
  refine x_iconst B dL_law_415 ?_
  refine x_iadd B dL_law_416 ?_
  refine x_sld B hX hb hE ⟨by omega, by omega⟩ hL3 dL_law_417 ?_
  refine x_aldr B dL_law_418 rfl ?_
  refine x_iload B dL_law_419 rfl ?_
  refine x_iconst B dL_law_421 ?_
  refine x_iadd B dL_law_422 ?_
  refine x_sld B hX hb hE ⟨by omega, by omega⟩ hL3 dL_law_423 ?_
  refine x_goP (x_rV B h8 (show x_cl[7]? = some _ from rfl) (c_X8_odds hTT.1 a1 a2 a3 a4) (lw_V q1572 q1573 q1574 q122 q1575) hv_X8_odds ⟨Nat.le_of_ble_eq_true rfl, Nat.le_of_ble_eq_true rfl⟩ ⟨by show _ ≤ 601024; omega, by show _ ≤ 7293034; omega⟩ rfl rfl (by simp [x_cr, x_c1, x_c2]) dL_law_424) ?_
  refine x_icmpS B (tgt := 1422) dL_law_427 (by decide) (by rw [hV.1, hV.2.2.2.2.2]) ?_
  have hrr := ER.q hr (k_eq.rf X) ⟨rfl, rfl⟩ hr8.z
  refine x_wide (cells' := 90 + 4000 * (j + 1)) (slots' := 247453 + 8000 * (j + 1)) (by omega) (by omega) ?_
  exact K _ _ (Rel_q hr hj0 (k_eq.rf X) (Or.inl (fun _ _ _ => rfl)) h_eq.z hrr.2 hrr.1)
theorem lc_8 {p : Program} {l : Launch} {e : Env} {s : State} {m : MethodId} {below : List Frame} {meth : Method} {c : Code} {b Ln : Nat} {xs : Nat → Int32} {E : x_E} {κ : x_Ka} {X : x_X} {j : Nat} (B : x_B p s m #[Value.ref b] meth c code "NextLoadLaw" 8 ret E) (hX : va_X b Ln xs s s.heap) (hb : b < E.1) (hE : E.1 = s.heap.size) (hst : l.stackTraces = false) (hj : 5 * j + 5 ≤ Ln) (hL3 : Ln ≤ 320) (hr : Rel κ X j) (K : ∀ (κ' : x_Ka) (X' : x_X), Rel κ' X' ((j + 1 : Nat) : Int) → x_G p l e room_1 s m #[Value.ref b] below meth c 8 E (90 + 4000 * (j + 1)) (247453 + 8000 * (j + 1)) (lw_Z below #[Value.ref b] s) κ' 1422 [some (Value.ref b), some (x_rf E 0), some (x_rf E 64), some (x_rf E 87), some (vi (5 * (j : Int))), none, none, none] [] X') : x_G p l e room_1 s m #[Value.ref b] below meth c 8 E (90 + 4000 * j) (247453 + 8000 * j) (lw_Z below #[Value.ref b] s) κ 432 [some (Value.ref b), some (x_rf E 0), some (x_rf E 64), some (x_rf E 87), some (vi (5 * (j : Int))), none, none, none] [] X := by
  obtain ⟨hC, hTT, hV, hG, hS, hR⟩ := id hr
  have hn := hC.1.1
  have hT := hn.1.1
  have h0 := hn.1.2.1
  have h8 := hTT.1.1.2.1
  have k87 := hC.1.2.2
  have hlo := hC.1.2.1
  have hj0 : (0 : Int) ≤ (j : Int) := by omega
  have hn6 := hn.1.2.2.1
  have hFB := hC.2.2.1.b (by omega)
  have a1 := z_S_R xs (5 * (j : Int) + 1)
  have a2 := z_S_R xs (5 * (j : Int) + 2)
  have a3 := z_S_R xs (5 * (j : Int) + 3)
  have a4 := z_S_R xs (5 * (j : Int) + 4)
  refine x_aload_n B dL_law_432 rfl ?_
  refine x_aldr B dL_law_433 rfl ?_
  refine x_iload B dL_law_434 rfl ?_
  refine x_iconst B dL_law_436 ?_
  refine x_iadd B dL_law_437 ?_
  refine x_sld B hX hb hE ⟨by omega, by omega⟩ hL3 dL_law_438 ?_
  refine x_aldr B dL_law_439 rfl ?_
  refine x_iload B dL_law_440 rfl ?_
  refine x_iconst B dL_law_442 ?_
  refine x_iadd B dL_law_443 ?_
  refine x_sld B hX hb hE ⟨by omega, by omega⟩ hL3 dL_law_444 ?_
  refine x_aldr B dL_law_445 rfl ?_
  refine x_iload B dL_law_446 rfl ?_
  refine x_iconst B dL_law_448 ?_
  refine x_iadd B dL_law_449 ?_
  refine x_sld B hX hb hE ⟨by omega, by omega⟩ hL3 dL_law_450 ?_
  refine x_goP (x_rV B h0 (show x_cl[0]? = some _ from rfl) (c_X1_lifter hn a1 a2 a3) (lw_V q773 q774 q775 q110 q776) hv_X1_lifter ⟨Nat.le_of_ble_eq_true rfl, Nat.le_of_ble_eq_true rfl⟩ ⟨by show _ ≤ 601024; omega, by show _ ≤ 7293034; omega⟩ rfl rfl (by simp [x_cr, x_c1, x_c2]) dL_law_451) ?_
  refine x_aload_n B dL_law_454 rfl ?_
  refine x_aldr B dL_law_455 rfl ?_
  refine x_iload B dL_law_456 rfl ?_
  refine x_iconst B dL_law_458 ?_
  refine x_iadd B dL_law_459 ?_
  refine x_sld B hX hb hE ⟨by omega, by omega⟩ hL3 dL_law_460 ?_
  refine x_aldr B dL_law_461 rfl ?_
  refine x_iload B dL_law_462 rfl ?_
  refine x_iconst B dL_law_464 ?_
  refine x_iadd B dL_law_465 ?_
  refine x_sld B hX hb hE ⟨by omega, by omega⟩ hL3 dL_law_466 ?_
  refine x_aldr B dL_law_467 rfl ?_
  refine x_iload B dL_law_468 rfl ?_
  refine x_iconst B dL_law_470 ?_
  refine x_iadd B dL_law_471 ?_
  refine x_sld B hX hb hE ⟨by omega, by omega⟩ hL3 dL_law_472 ?_
  refine x_goP (x_rV B h8 (show x_cl[7]? = some _ from rfl) (c_X8_lifter hTT.1 a1 a2 a3) (lw_V q1585 q1586 q1587 q122 q1588) hv_X8_lifter ⟨Nat.le_of_ble_eq_true rfl, Nat.le_of_ble_eq_true rfl⟩ ⟨by show _ ≤ 601024; omega, by show _ ≤ 7293034; omega⟩ rfl rfl (by simp [x_cr, x_c1, x_c2]) dL_law_473) ?_
  refine x_icmpS B (tgt := 1422) dL_law_476 (by decide) (u_lfr_eq hV _ _ _) ?_
  have hrr := ER.q hr (k_eq.rf X) ⟨rfl, rfl⟩ hr8.z
  refine x_wide (cells' := 90 + 4000 * (j + 1)) (slots' := 247453 + 8000 * (j + 1)) (by omega) (by omega) ?_
  exact K _ _ (Rel_q hr hj0 (k_eq.rf X) (Or.inl (fun _ _ _ => rfl)) h_eq.z hrr.2 hrr.1)
theorem lc_13 {p : Program} {l : Launch} {e : Env} {s : State} {m : MethodId} {below : List Frame} {meth : Method} {c : Code} {b Ln : Nat} {xs : Nat → Int32} {E : x_E} {κ : x_Ka} {X : x_X} {j : Nat} (B : x_B p s m #[Value.ref b] meth c code "NextLoadLaw" 8 ret E) (hX : va_X b Ln xs s s.heap) (hb : b < E.1) (hE : E.1 = s.heap.size) (hst : l.stackTraces = false) (hj : 5 * j + 5 ≤ Ln) (hL3 : Ln ≤ 320) (hr : Rel κ X j) (K : ∀ (κ' : x_Ka) (X' : x_X), Rel κ' X' ((j + 1 : Nat) : Int) → x_G p l e room_1 s m #[Value.ref b] below meth c 8 E (90 + 4000 * (j + 1)) (247453 + 8000 * (j + 1)) (lw_Z below #[Value.ref b] s) κ' 1422 [some (Value.ref b), some (x_rf E 0), some (x_rf E 64), some (x_rf E 87), some (vi (5 * (j : Int))), none, none, none] [] X') : x_G p l e room_1 s m #[Value.ref b] below meth c 8 E (90 + 4000 * j) (247453 + 8000 * j) (lw_Z below #[Value.ref b] s) κ 585 [some (Value.ref b), some (x_rf E 0), some (x_rf E 64), some (x_rf E 87), some (vi (5 * (j : Int))), none, none, none] [] X := by
  obtain ⟨hC, hTT, hV, hG, hS, hR⟩ := id hr
  have hn := hC.1.1
  have hT := hn.1.1
  have h0 := hn.1.2.1
  have h8 := hTT.1.1.2.1
  have k87 := hC.1.2.2
  have hlo := hC.1.2.1
  have hj0 : (0 : Int) ≤ (j : Int) := by omega
  have hn6 := hn.1.2.2.1
  have hFB := hC.2.2.1.b (by omega)
  have a1 := z_S_R xs (5 * (j : Int) + 1)
  have a2 := z_S_R xs (5 * (j : Int) + 2)
  have a3 := z_S_R xs (5 * (j : Int) + 3)
  have a4 := z_S_R xs (5 * (j : Int) + 4)
  refine x_aload_n B dL_law_585 rfl ?_
  refine x_aldr B dL_law_586 rfl ?_
  refine x_iload B dL_law_587 rfl ?_
  refine x_iconst B dL_law_589 ?_
  refine x_iadd B dL_law_590 ?_
  refine x_sld B hX hb hE ⟨by omega, by omega⟩ hL3 dL_law_591 ?_
  refine x_aldr B dL_law_592 rfl ?_
  refine x_iload B dL_law_593 rfl ?_
  refine x_iconst B dL_law_595 ?_
  refine x_iadd B dL_law_596 ?_
  refine x_sld B hX hb hE ⟨by omega, by omega⟩ hL3 dL_law_597 ?_
  refine x_goP (x_rV B h0 (show x_cl[0]? = some _ from rfl) (c_X1_tried hT h0 ⟨hC.2.2.2.2.2.2.1.1, hC.2.2.2.2.2.2.1.2.1⟩ a1 a2) (lw_V q901 q902 q903 q110 q904) hv_X1_tried ⟨Nat.le_of_ble_eq_true rfl, Nat.le_of_ble_eq_true rfl⟩ ⟨by show _ ≤ 601024; omega, by show _ ≤ 7293034; omega⟩ rfl rfl (by simp [x_cr, x_c1, x_c2]) dL_law_598) ?_
  refine x_aload_n B dL_law_601 rfl ?_
  refine x_aldr B dL_law_602 rfl ?_
  refine x_iload B dL_law_603 rfl ?_
  refine x_iconst B dL_law_605 ?_
  refine x_iadd B dL_law_606 ?_
  refine x_sld B hX hb hE ⟨by omega, by omega⟩ hL3 dL_law_607 ?_
  refine x_aldr B dL_law_608 rfl ?_
  refine x_iload B dL_law_609 rfl ?_
  refine x_iconst B dL_law_611 ?_
  refine x_iadd B dL_law_612 ?_
  refine x_sld B hX hb hE ⟨by omega, by omega⟩ hL3 dL_law_613 ?_
  refine x_goP (x_rV B h8 (show x_cl[7]? = some _ from rfl) (c_X8_tried hT h8 ⟨by rw [hG.2]; exact hC.2.2.2.2.2.2.1.1, by rw [hG.2]; have := hC.2.2.2.2.2.2.1.2.1; omega⟩ a1 a2) (lw_V q1652 q1653 q1654 q122 q1655) hv_X8_tried ⟨Nat.le_of_ble_eq_true rfl, Nat.le_of_ble_eq_true rfl⟩ ⟨by show _ ≤ 601024; omega, by show _ ≤ 7293034; omega⟩ rfl rfl (by simp [x_cr, x_c1, x_c2]) dL_law_614) ?_
  refine x_icmpS B (tgt := 1422) dL_law_617 (by decide) (by rw [hG.1, hG.2]) ?_
  have hrr := ER.q hr (k_eq.rf X) ⟨rfl, rfl⟩ hr8.z
  refine x_wide (cells' := 90 + 4000 * (j + 1)) (slots' := 247453 + 8000 * (j + 1)) (by omega) (by omega) ?_
  exact K _ _ (Rel_q hr hj0 (k_eq.rf X) (Or.inl (fun _ _ _ => rfl)) h_eq.z hrr.2 hrr.1)
theorem lc_15 {p : Program} {l : Launch} {e : Env} {s : State} {m : MethodId} {below : List Frame} {meth : Method} {c : Code} {b Ln : Nat} {xs : Nat → Int32} {E : x_E} {κ : x_Ka} {X : x_X} {j : Nat} (B : x_B p s m #[Value.ref b] meth c code "NextLoadLaw" 8 ret E) (hX : va_X b Ln xs s s.heap) (hb : b < E.1) (hE : E.1 = s.heap.size) (hst : l.stackTraces = false) (hj : 5 * j + 5 ≤ Ln) (hL3 : Ln ≤ 320) (hr : Rel κ X j) (K : ∀ (κ' : x_Ka) (X' : x_X), Rel κ' X' ((j + 1 : Nat) : Int) → x_G p l e room_1 s m #[Value.ref b] below meth c 8 E (90 + 4000 * (j + 1)) (247453 + 8000 * (j + 1)) (lw_Z below #[Value.ref b] s) κ' 1422 [some (Value.ref b), some (x_rf E 0), some (x_rf E 64), some (x_rf E 87), some (vi (5 * (j : Int))), none, none, none] [] X') : x_G p l e room_1 s m #[Value.ref b] below meth c 8 E (90 + 4000 * j) (247453 + 8000 * j) (lw_Z below #[Value.ref b] s) κ 647 [some (Value.ref b), some (x_rf E 0), some (x_rf E 64), some (x_rf E 87), some (vi (5 * (j : Int))), none, none, none] [] X := by
  obtain ⟨hC, hTT, hV, hG, hS, hR⟩ := id hr
  have hn := hC.1.1
  have hT := hn.1.1
  have h0 := hn.1.2.1
  have h8 := hTT.1.1.2.1
  have k87 := hC.1.2.2
  have hlo := hC.1.2.1
  have hj0 : (0 : Int) ≤ (j : Int) := by omega
  have hn6 := hn.1.2.2.1
  have hFB := hC.2.2.1.b (by omega)
  have a1 := z_S_R xs (5 * (j : Int) + 1)
  have a2 := z_S_R xs (5 * (j : Int) + 2)
  have a3 := z_S_R xs (5 * (j : Int) + 3)
  have a4 := z_S_R xs (5 * (j : Int) + 4)
  refine x_aload_n B dL_law_647 rfl ?_
  refine x_aldr B dL_law_648 rfl ?_
  refine x_iload B dL_law_649 rfl ?_
  refine x_iconst B dL_law_651 ?_
  refine x_iadd B dL_law_652 ?_
  refine x_sld B hX hb hE ⟨by omega, by omega⟩ hL3 dL_law_653 ?_
  refine x_aldr B dL_law_654 rfl ?_
  refine x_iload B dL_law_655 rfl ?_
  refine x_iconst B dL_law_657 ?_
  refine x_iadd B dL_law_658 ?_
  refine x_sld B hX hb hE ⟨by omega, by omega⟩ hL3 dL_law_659 ?_
  refine x_goP (x_rV B h0 (show x_cl[0]? = some _ from rfl) (c_X1_slot hn a1 a2) (lw_V q932 q933 q934 q110 q935) hv_X1_slot ⟨Nat.le_of_ble_eq_true rfl, Nat.le_of_ble_eq_true rfl⟩ ⟨by show _ ≤ 601024; omega, by show _ ≤ 7293034; omega⟩ rfl rfl (by simp [x_cr, x_c1, x_c2]) dL_law_660) ?_
  refine x_aload_n B dL_law_663 rfl ?_
  refine x_aldr B dL_law_664 rfl ?_
  refine x_iload B dL_law_665 rfl ?_
  refine x_iconst B dL_law_667 ?_
  refine x_iadd B dL_law_668 ?_
  refine x_sld B hX hb hE ⟨by omega, by omega⟩ hL3 dL_law_669 ?_
  refine x_aldr B dL_law_670 rfl ?_
  refine x_iload B dL_law_671 rfl ?_
  refine x_iconst B dL_law_673 ?_
  refine x_iadd B dL_law_674 ?_
  refine x_sld B hX hb hE ⟨by omega, by omega⟩ hL3 dL_law_675 ?_
  refine x_goP (x_rV B h8 (show x_cl[7]? = some _ from rfl) (c_X8_slot hTT.1 a1 a2) (lw_V q1677 q1678 q1679 q122 q1680) hv_X8_slot ⟨Nat.le_of_ble_eq_true rfl, Nat.le_of_ble_eq_true rfl⟩ ⟨by show _ ≤ 601024; omega, by show _ ≤ 7293034; omega⟩ rfl rfl (by simp [x_cr, x_c1, x_c2]) dL_law_676) ?_
  refine x_icmpS B (tgt := 1422) dL_law_679 (by decide) (by rw [hV.1, hV.2.1, hV.2.2.2.1]) ?_
  have hrr := ER.q hr (k_eq.rf X) ⟨rfl, rfl⟩ hr8.z
  refine x_wide (cells' := 90 + 4000 * (j + 1)) (slots' := 247453 + 8000 * (j + 1)) (by omega) (by omega) ?_
  exact K _ _ (Rel_q hr hj0 (k_eq.rf X) (Or.inl (fun _ _ _ => rfl)) h_eq.z hrr.2 hrr.1)
theorem lc_16 {p : Program} {l : Launch} {e : Env} {s : State} {m : MethodId} {below : List Frame} {meth : Method} {c : Code} {b Ln : Nat} {xs : Nat → Int32} {E : x_E} {κ : x_Ka} {X : x_X} {j : Nat} (B : x_B p s m #[Value.ref b] meth c code "NextLoadLaw" 8 ret E) (hX : va_X b Ln xs s s.heap) (hb : b < E.1) (hE : E.1 = s.heap.size) (hst : l.stackTraces = false) (hj : 5 * j + 5 ≤ Ln) (hL3 : Ln ≤ 320) (hr : Rel κ X j) (K : ∀ (κ' : x_Ka) (X' : x_X), Rel κ' X' ((j + 1 : Nat) : Int) → x_G p l e room_1 s m #[Value.ref b] below meth c 8 E (90 + 4000 * (j + 1)) (247453 + 8000 * (j + 1)) (lw_Z below #[Value.ref b] s) κ' 1422 [some (Value.ref b), some (x_rf E 0), some (x_rf E 64), some (x_rf E 87), some (vi (5 * (j : Int))), none, none, none] [] X') : x_G p l e room_1 s m #[Value.ref b] below meth c 8 E (90 + 4000 * j) (247453 + 8000 * j) (lw_Z below #[Value.ref b] s) κ 684 [some (Value.ref b), some (x_rf E 0), some (x_rf E 64), some (x_rf E 87), some (vi (5 * (j : Int))), none, none, none] [] X := by
  obtain ⟨hC, hTT, hV, hG, hS, hR⟩ := id hr
  have hn := hC.1.1
  have hT := hn.1.1
  have h0 := hn.1.2.1
  have h8 := hTT.1.1.2.1
  have k87 := hC.1.2.2
  have hlo := hC.1.2.1
  have hj0 : (0 : Int) ≤ (j : Int) := by omega
  have hn6 := hn.1.2.2.1
  have hFB := hC.2.2.1.b (by omega)
  have a1 := z_S_R xs (5 * (j : Int) + 1)
  have a2 := z_S_R xs (5 * (j : Int) + 2)
  have a3 := z_S_R xs (5 * (j : Int) + 3)
  have a4 := z_S_R xs (5 * (j : Int) + 4)
  refine x_aload_n B dL_law_684 rfl ?_
  refine x_aldr B dL_law_685 rfl ?_
  refine x_iload B dL_law_686 rfl ?_
  refine x_iconst B dL_law_688 ?_
  refine x_iadd B dL_law_689 ?_
  refine x_sld B hX hb hE ⟨by omega, by omega⟩ hL3 dL_law_690 ?_
  refine x_aldr B dL_law_691 rfl ?_
  refine x_iload B dL_law_692 rfl ?_
  refine x_iconst B dL_law_694 ?_
  refine x_iadd B dL_law_695 ?_
  refine x_sld B hX hb hE ⟨by omega, by omega⟩ hL3 dL_law_696 ?_
  refine x_goP (x_rV B h0 (show x_cl[0]? = some _ from rfl) (c_X1_needs hn a1 a2) (lw_V q937 q938 q939 q110 q940) hv_X1_needs ⟨Nat.le_of_ble_eq_true rfl, Nat.le_of_ble_eq_true rfl⟩ ⟨by show _ ≤ 601024; omega, by show _ ≤ 7293034; omega⟩ rfl rfl (by simp [x_cr, x_c1, x_c2]) dL_law_697) ?_
  refine x_aload_n B dL_law_700 rfl ?_
  refine x_aldr B dL_law_701 rfl ?_
  refine x_iload B dL_law_702 rfl ?_
  refine x_iconst B dL_law_704 ?_
  refine x_iadd B dL_law_705 ?_
  refine x_sld B hX hb hE ⟨by omega, by omega⟩ hL3 dL_law_706 ?_
  refine x_aldr B dL_law_707 rfl ?_
  refine x_iload B dL_law_708 rfl ?_
  refine x_iconst B dL_law_710 ?_
  refine x_iadd B dL_law_711 ?_
  refine x_sld B hX hb hE ⟨by omega, by omega⟩ hL3 dL_law_712 ?_
  refine x_goP (x_rV B h8 (show x_cl[7]? = some _ from rfl) (c_X8_needs hTT.1 a1 a2) (lw_V q1681 q1682 q1683 q122 q1684) hv_X8_needs ⟨Nat.le_of_ble_eq_true rfl, Nat.le_of_ble_eq_true rfl⟩ ⟨by show _ ≤ 601024; omega, by show _ ≤ 7293034; omega⟩ rfl rfl (by simp [x_cr, x_c1, x_c2]) dL_law_713) ?_
  refine x_icmpS B (tgt := 1422) dL_law_716 (by decide) (by rw [hV.1, hV.2.1, li_eq hV]) ?_
  have hrr := ER.q hr (k_eq.rf X) ⟨rfl, rfl⟩ hr8.z
  refine x_wide (cells' := 90 + 4000 * (j + 1)) (slots' := 247453 + 8000 * (j + 1)) (by omega) (by omega) ?_
  exact K _ _ (Rel_q hr hj0 (k_eq.rf X) (Or.inl (fun _ _ _ => rfl)) h_eq.z hrr.2 hrr.1)
theorem lc_34 {p : Program} {l : Launch} {e : Env} {s : State} {m : MethodId} {below : List Frame} {meth : Method} {c : Code} {b Ln : Nat} {xs : Nat → Int32} {E : x_E} {κ : x_Ka} {X : x_X} {j : Nat} (B : x_B p s m #[Value.ref b] meth c code "NextLoadLaw" 8 ret E) (hX : va_X b Ln xs s s.heap) (hb : b < E.1) (hE : E.1 = s.heap.size) (hst : l.stackTraces = false) (hj : 5 * j + 5 ≤ Ln) (hL3 : Ln ≤ 320) (hr : Rel κ X j) (K : ∀ (κ' : x_Ka) (X' : x_X), Rel κ' X' ((j + 1 : Nat) : Int) → x_G p l e room_1 s m #[Value.ref b] below meth c 8 E (90 + 4000 * (j + 1)) (247453 + 8000 * (j + 1)) (lw_Z below #[Value.ref b] s) κ' 1422 [some (Value.ref b), some (x_rf E 0), some (x_rf E 64), some (x_rf E 87), some (vi (5 * (j : Int))), none, none, none] [] X') : x_G p l e room_1 s m #[Value.ref b] below meth c 8 E (90 + 4000 * j) (247453 + 8000 * j) (lw_Z below #[Value.ref b] s) κ 1342 [some (Value.ref b), some (x_rf E 0), some (x_rf E 64), some (x_rf E 87), some (vi (5 * (j : Int))), none, none, none] [] X := by
  obtain ⟨hC, hTT, hV, hG, hS, hR⟩ := id hr
  have hn := hC.1.1
  have hT := hn.1.1
  have h0 := hn.1.2.1
  have h8 := hTT.1.1.2.1
  have k87 := hC.1.2.2
  have hlo := hC.1.2.1
  have hj0 : (0 : Int) ≤ (j : Int) := by omega
  have hn6 := hn.1.2.2.1
  have hFB := hC.2.2.1.b (by omega)
  have a1 := z_S_R xs (5 * (j : Int) + 1)
  have a2 := z_S_R xs (5 * (j : Int) + 2)
  have a3 := z_S_R xs (5 * (j : Int) + 3)
  have a4 := z_S_R xs (5 * (j : Int) + 4)
  refine x_aload_n B dL_law_1342 rfl ?_
  refine x_aldr B dL_law_1343 rfl ?_
  refine x_iload B dL_law_1344 rfl ?_
  refine x_iconst B dL_law_1346 ?_
  refine x_iadd B dL_law_1347 ?_
  refine x_sld B hX hb hE ⟨by omega, by omega⟩ hL3 dL_law_1348 ?_
  refine x_goP (x_rV B h0 (show x_cl[0]? = some _ from rfl) (c_X1_count hn ⟨hC.2.2.2.2.2.2.1.1, hC.2.2.2.2.2.2.1.2.1⟩ a1) (lw_V q1286 q1287 q1288 q110 q1289) hv_X1_count ⟨Nat.le_of_ble_eq_true rfl, Nat.le_of_ble_eq_true rfl⟩ ⟨by show _ ≤ 601024; omega, by show _ ≤ 7293034; omega⟩ rfl rfl (by simp [x_cr, x_c1, x_c2]) dL_law_1349) ?_
  refine x_aload_n B dL_law_1352 rfl ?_
  refine x_aldr B dL_law_1353 rfl ?_
  refine x_iload B dL_law_1354 rfl ?_
  refine x_iconst B dL_law_1356 ?_
  refine x_iadd B dL_law_1357 ?_
  refine x_sld B hX hb hE ⟨by omega, by omega⟩ hL3 dL_law_1358 ?_
  refine x_goP (x_rV B h8 (show x_cl[7]? = some _ from rfl) (c_X8_count hTT.1 a1) (lw_V q1913 q1914 q1915 q122 q1916) hv_X8_count ⟨Nat.le_of_ble_eq_true rfl, Nat.le_of_ble_eq_true rfl⟩ ⟨by show _ ≤ 601024; omega, by show _ ≤ 7293034; omega⟩ rfl rfl (by simp [x_cr, x_c1, x_c2]) dL_law_1359) ?_
  refine x_icmpS B (tgt := 1422) dL_law_1362 (by decide) (by rw [hV.1, hV.2.1, hG.2, hS.1, hS.2.1, hR.1, gd_eq hG hTT.2 hC.2.2.2.2.2.2.1.1]) ?_
  have hrr := ER.q hr (k_eq.rf X) ⟨rfl, rfl⟩ hr8.z
  refine x_wide (cells' := 90 + 4000 * (j + 1)) (slots' := 247453 + 8000 * (j + 1)) (by omega) (by omega) ?_
  exact K _ _ (Rel_q hr hj0 (k_eq.rf X) (Or.inl (fun _ _ _ => rfl)) h_eq.z hrr.2 hrr.1)
theorem lc_23 {p : Program} {l : Launch} {e : Env} {s : State} {m : MethodId} {below : List Frame} {meth : Method} {c : Code} {b Ln : Nat} {xs : Nat → Int32} {E : x_E} {κ : x_Ka} {X : x_X} {j : Nat} (B : x_B p s m #[Value.ref b] meth c code "NextLoadLaw" 8 ret E) (hX : va_X b Ln xs s s.heap) (hb : b < E.1) (hE : E.1 = s.heap.size) (hst : l.stackTraces = false) (hj : 5 * j + 5 ≤ Ln) (hL3 : Ln ≤ 320) (hr : Rel κ X j) (K : ∀ (κ' : x_Ka) (X' : x_X), Rel κ' X' ((j + 1 : Nat) : Int) → x_G p l e room_1 s m #[Value.ref b] below meth c 8 E (90 + 4000 * (j + 1)) (247453 + 8000 * (j + 1)) (lw_Z below #[Value.ref b] s) κ' 1422 [some (Value.ref b), some (x_rf E 0), some (x_rf E 64), some (x_rf E 87), some (vi (5 * (j : Int))), none, none, none] [] X') : x_G p l e room_1 s m #[Value.ref b] below meth c 8 E (90 + 4000 * j) (247453 + 8000 * j) (lw_Z below #[Value.ref b] s) κ 895 [some (Value.ref b), some (x_rf E 0), some (x_rf E 64), some (x_rf E 87), some (vi (5 * (j : Int))), none, none, none] [] X := by
  obtain ⟨hC, hTT, hV, hG, hS, hR⟩ := id hr
  have hn := hC.1.1
  have hT := hn.1.1
  have h0 := hn.1.2.1
  have h8 := hTT.1.1.2.1
  have k87 := hC.1.2.2
  have hlo := hC.1.2.1
  have hj0 : (0 : Int) ≤ (j : Int) := by omega
  have hn6 := hn.1.2.2.1
  have hFB := hC.2.2.1.b (by omega)
  have a1 := z_S_R xs (5 * (j : Int) + 1)
  have a2 := z_S_R xs (5 * (j : Int) + 2)
  have a3 := z_S_R xs (5 * (j : Int) + 3)
  have a4 := z_S_R xs (5 * (j : Int) + 4)
  refine x_aload_n B dL_law_895 rfl ?_
  refine x_aldr B dL_law_896 rfl ?_
  refine x_iload B dL_law_897 rfl ?_
  refine x_iconst B dL_law_899 ?_
  refine x_iadd B dL_law_900 ?_
  refine x_sld B hX hb hE ⟨by omega, by omega⟩ hL3 dL_law_901 ?_
  refine x_aldr B dL_law_902 rfl ?_
  refine x_iload B dL_law_903 rfl ?_
  refine x_iconst B dL_law_905 ?_
  refine x_iadd B dL_law_906 ?_
  refine x_sld B hX hb hE ⟨by omega, by omega⟩ hL3 dL_law_907 ?_
  refine x_aldr B dL_law_908 rfl ?_
  refine x_iload B dL_law_909 rfl ?_
  refine x_iconst B dL_law_911 ?_
  refine x_iadd B dL_law_912 ?_
  refine x_sld B hX hb hE ⟨by omega, by omega⟩ hL3 dL_law_913 ?_
  refine x_goP (x_rV B h0 (show x_cl[0]? = some _ from rfl) (c_X1_opener hn a1 a2 a3) (lw_V q1150 q1151 q1152 q110 q1153) hv_X1_opener ⟨Nat.le_of_ble_eq_true rfl, Nat.le_of_ble_eq_true rfl⟩ ⟨by show _ ≤ 601024; omega, by show _ ≤ 7293034; omega⟩ rfl rfl (by simp [x_cr, x_c1, x_c2]) dL_law_914) ?_
  refine x_aload_n B dL_law_917 rfl ?_
  refine x_aldr B dL_law_918 rfl ?_
  refine x_iload B dL_law_919 rfl ?_
  refine x_iconst B dL_law_921 ?_
  refine x_iadd B dL_law_922 ?_
  refine x_sld B hX hb hE ⟨by omega, by omega⟩ hL3 dL_law_923 ?_
  refine x_aldr B dL_law_924 rfl ?_
  refine x_iload B dL_law_925 rfl ?_
  refine x_iconst B dL_law_927 ?_
  refine x_iadd B dL_law_928 ?_
  refine x_sld B hX hb hE ⟨by omega, by omega⟩ hL3 dL_law_929 ?_
  refine x_aldr B dL_law_930 rfl ?_
  refine x_iload B dL_law_931 rfl ?_
  refine x_iconst B dL_law_933 ?_
  refine x_iadd B dL_law_934 ?_
  refine x_sld B hX hb hE ⟨by omega, by omega⟩ hL3 dL_law_935 ?_
  refine x_go (x_rV B h8 (show x_cl[7]? = some _ from rfl) (c_X8_opener hTT.1 a1 a2 a3) (lw_V q1774 q1775 q1776 q122 q1777) hv_X8_opener ⟨Nat.le_of_ble_eq_true rfl, Nat.le_of_ble_eq_true rfl⟩ ⟨by show _ ≤ 601024; omega, by show _ ≤ 7293034; omega⟩ rfl rfl (by simp [x_cr, x_c1, x_c2]) dL_law_936) (fun v_936 X_936 p_936 => ?_)
  obtain ⟨rfl, hh, h8r⟩ := p_936
  refine x_icmpS B (tgt := 1422) dL_law_939 (by decide) (by rw [hV.1, q8_op_eq hV]) ?_
  have hrr := ER.q hr (k_eq.rf X) ⟨rfl, rfl⟩ h8r
  refine x_wide (cells' := 90 + 4000 * (j + 1)) (slots' := 247453 + 8000 * (j + 1)) (by omega) (by omega) ?_
  exact K _ _ (Rel_q hr hj0 (k_eq.rf X) (Or.inl (fun _ _ _ => rfl)) hh hrr.2 hrr.1)
theorem lc_17 {p : Program} {l : Launch} {e : Env} {s : State} {m : MethodId} {below : List Frame} {meth : Method} {c : Code} {b Ln : Nat} {xs : Nat → Int32} {E : x_E} {κ : x_Ka} {X : x_X} {j : Nat} (B : x_B p s m #[Value.ref b] meth c code "NextLoadLaw" 8 ret E) (hX : va_X b Ln xs s s.heap) (hb : b < E.1) (hE : E.1 = s.heap.size) (hst : l.stackTraces = false) (hj : 5 * j + 5 ≤ Ln) (hL3 : Ln ≤ 320) (hr : Rel κ X j) (K : ∀ (κ' : x_Ka) (X' : x_X), Rel κ' X' ((j + 1 : Nat) : Int) → x_G p l e room_1 s m #[Value.ref b] below meth c 8 E (90 + 4000 * (j + 1)) (247453 + 8000 * (j + 1)) (lw_Z below #[Value.ref b] s) κ' 1422 [some (Value.ref b), some (x_rf E 0), some (x_rf E 64), some (x_rf E 87), some (vi (5 * (j : Int))), none, none, none] [] X') : x_G p l e room_1 s m #[Value.ref b] below meth c 8 E (90 + 4000 * j) (247453 + 8000 * j) (lw_Z below #[Value.ref b] s) κ 721 [some (Value.ref b), some (x_rf E 0), some (x_rf E 64), some (x_rf E 87), some (vi (5 * (j : Int))), none, none, none] [] X := by
  obtain ⟨hC, hTT, hV, hG, hS, hR⟩ := id hr
  have hn := hC.1.1
  have hT := hn.1.1
  have h0 := hn.1.2.1
  have h8 := hTT.1.1.2.1
  have k87 := hC.1.2.2
  have hlo := hC.1.2.1
  have hj0 : (0 : Int) ≤ (j : Int) := by omega
  have hn6 := hn.1.2.2.1
  have hFB := hC.2.2.1.b (by omega)
  have a1 := z_S_R xs (5 * (j : Int) + 1)
  have a2 := z_S_R xs (5 * (j : Int) + 2)
  have a3 := z_S_R xs (5 * (j : Int) + 3)
  have a4 := z_S_R xs (5 * (j : Int) + 4)
  refine x_aload_n B dL_law_721 rfl ?_
  refine x_aldr B dL_law_722 rfl ?_
  refine x_iload B dL_law_723 rfl ?_
  refine x_iconst B dL_law_725 ?_
  refine x_iadd B dL_law_726 ?_
  refine x_sld B hX hb hE ⟨by omega, by omega⟩ hL3 dL_law_727 ?_
  refine x_go (x_rV B h0 (show x_cl[0]? = some _ from rfl) (c_X1_mass hn k87 a1) (lw_V q943 q944 q945 q110 q946) hv_X1_mass ⟨Nat.le_of_ble_eq_true rfl, Nat.le_of_ble_eq_true rfl⟩ ⟨by show _ ≤ 601024; omega, by show _ ≤ 7293034; omega⟩ rfl rfl (by simp [x_cr, x_c1, x_c2]) dL_law_728) (fun v_728 X_728 p_728 => ?_)
  obtain ⟨rfl, hk, hre, hfe⟩ := p_728
  have hcf := hk.cf hlo
  have hTY := hTT.cf hcf hT h8
  have hVY := hV.t (teq.cf hcf)
  refine x_aload_n B dL_law_731 rfl ?_
  refine x_aldr B dL_law_732 rfl ?_
  refine x_iload B dL_law_733 rfl ?_
  refine x_iconst B dL_law_735 ?_
  refine x_iadd B dL_law_736 ?_
  refine x_sld B hX hb hE ⟨by omega, by omega⟩ hL3 dL_law_737 ?_
  refine x_go (x_rV B h8 (show x_cl[7]? = some _ from rfl) (c_X8_mass hTY.1 a1) (lw_V q1685 q1686 q1687 q122 q1688) hv_X8_mass ⟨Nat.le_of_ble_eq_true rfl, Nat.le_of_ble_eq_true rfl⟩ ⟨by show _ ≤ 601024; omega, by show _ ≤ 7293034; omega⟩ rfl rfl (by simp [x_cr, x_c1, x_c2]) dL_law_738) (fun v_738 X_738 p_738 => ?_)
  obtain ⟨rfl, hh, h8r⟩ := p_738
  refine x_icmpS B (tgt := 1422) dL_law_741 (by decide) (by
    rw [hVY.1]
    by_cases q : x_in (z_S xs (5 * (j : Int) + 1)) 0 (X 1 2 - 1) = 1
    · rw [if_pos q, if_pos q]; exact q8_eq hVY hn (x_in_i q) (fun _ _ _ => rfl)
    · rw [if_neg q, if_neg q]) ?_
  have hrr := ER.q hr hk hre h8r
  refine x_wide (cells' := 90 + 4000 * (j + 1)) (slots' := 247453 + 8000 * (j + 1)) (by omega) (by omega) ?_
  exact K _ _ (Rel_q hr hj0 hk (Or.inl hfe) hh hrr.2 hrr.1)
theorem lc_18 {p : Program} {l : Launch} {e : Env} {s : State} {m : MethodId} {below : List Frame} {meth : Method} {c : Code} {b Ln : Nat} {xs : Nat → Int32} {E : x_E} {κ : x_Ka} {X : x_X} {j : Nat} (B : x_B p s m #[Value.ref b] meth c code "NextLoadLaw" 8 ret E) (hX : va_X b Ln xs s s.heap) (hb : b < E.1) (hE : E.1 = s.heap.size) (hst : l.stackTraces = false) (hj : 5 * j + 5 ≤ Ln) (hL3 : Ln ≤ 320) (hr : Rel κ X j) (K : ∀ (κ' : x_Ka) (X' : x_X), Rel κ' X' ((j + 1 : Nat) : Int) → x_G p l e room_1 s m #[Value.ref b] below meth c 8 E (90 + 4000 * (j + 1)) (247453 + 8000 * (j + 1)) (lw_Z below #[Value.ref b] s) κ' 1422 [some (Value.ref b), some (x_rf E 0), some (x_rf E 64), some (x_rf E 87), some (vi (5 * (j : Int))), none, none, none] [] X') : x_G p l e room_1 s m #[Value.ref b] below meth c 8 E (90 + 4000 * j) (247453 + 8000 * j) (lw_Z below #[Value.ref b] s) κ 746 [some (Value.ref b), some (x_rf E 0), some (x_rf E 64), some (x_rf E 87), some (vi (5 * (j : Int))), none, none, none] [] X := by
  obtain ⟨hC, hTT, hV, hG, hS, hR⟩ := id hr
  have hn := hC.1.1
  have hT := hn.1.1
  have h0 := hn.1.2.1
  have h8 := hTT.1.1.2.1
  have k87 := hC.1.2.2
  have hlo := hC.1.2.1
  have hj0 : (0 : Int) ≤ (j : Int) := by omega
  have hn6 := hn.1.2.2.1
  have hFB := hC.2.2.1.b (by omega)
  have a1 := z_S_R xs (5 * (j : Int) + 1)
  have a2 := z_S_R xs (5 * (j : Int) + 2)
  have a3 := z_S_R xs (5 * (j : Int) + 3)
  have a4 := z_S_R xs (5 * (j : Int) + 4)
  refine x_aload_n B dL_law_746 rfl ?_
  refine x_aldr B dL_law_747 rfl ?_
  refine x_iload B dL_law_748 rfl ?_
  refine x_iconst B dL_law_750 ?_
  refine x_iadd B dL_law_751 ?_
  refine x_sld B hX hb hE ⟨by omega, by omega⟩ hL3 dL_law_752 ?_
  refine x_aldr B dL_law_753 rfl ?_
  refine x_iload B dL_law_754 rfl ?_
  refine x_iconst B dL_law_756 ?_
  refine x_iadd B dL_law_757 ?_
  refine x_sld B hX hb hE ⟨by omega, by omega⟩ hL3 dL_law_758 ?_
  refine x_go (x_rV B h0 (show x_cl[0]? = some _ from rfl) (c_X1_chance hn k87 a1 a2) (lw_V q1067 q1068 q1069 q110 q1070) hv_X1_chance ⟨Nat.le_of_ble_eq_true rfl, Nat.le_of_ble_eq_true rfl⟩ ⟨by show _ ≤ 601024; omega, by show _ ≤ 7293034; omega⟩ rfl rfl (by simp [x_cr, x_c1, x_c2]) dL_law_759) (fun v_759 X_759 p_759 => ?_)
  obtain ⟨rfl, hk, hre, hfe⟩ := p_759
  have hcf := hk.cf hlo
  have hTY := hTT.cf hcf hT h8
  have hVY := hV.t (teq.cf hcf)
  refine x_aload_n B dL_law_762 rfl ?_
  refine x_aldr B dL_law_763 rfl ?_
  refine x_iload B dL_law_764 rfl ?_
  refine x_iconst B dL_law_766 ?_
  refine x_iadd B dL_law_767 ?_
  refine x_sld B hX hb hE ⟨by omega, by omega⟩ hL3 dL_law_768 ?_
  refine x_aldr B dL_law_769 rfl ?_
  refine x_iload B dL_law_770 rfl ?_
  refine x_iconst B dL_law_772 ?_
  refine x_iadd B dL_law_773 ?_
  refine x_sld B hX hb hE ⟨by omega, by omega⟩ hL3 dL_law_774 ?_
  refine x_go (x_rV B h8 (show x_cl[7]? = some _ from rfl) (c_X8_chance hTY.1 a1 a2) (lw_V q1717 q1718 q1719 q122 q1720) hv_X8_chance ⟨Nat.le_of_ble_eq_true rfl, Nat.le_of_ble_eq_true rfl⟩ ⟨by show _ ≤ 601024; omega, by show _ ≤ 7293034; omega⟩ rfl rfl (by simp [x_cr, x_c1, x_c2]) dL_law_775) (fun v_775 X_775 p_775 => ?_)
  obtain ⟨rfl, hh, h8r⟩ := p_775
  refine x_icmpS B (tgt := 1422) dL_law_778 (by decide) (by
    rw [hVY.1]
    by_cases q : x_in (z_S xs (5 * (j : Int) + 1)) 0 (X 1 2 - 1) = 1 ∧ x_in (z_S xs (5 * (j : Int) + 2)) 0 121 = 1
    · rw [if_pos q, if_pos q]; exact q8_ch_eq hVY hn (x_in_i q.1) _
    · rw [if_neg q, if_neg q]) ?_
  have hrr := ER.q hr hk hre h8r
  refine x_wide (cells' := 90 + 4000 * (j + 1)) (slots' := 247453 + 8000 * (j + 1)) (by omega) (by omega) ?_
  exact K _ _ (Rel_q hr hj0 hk (Or.inl hfe) hh hrr.2 hrr.1)
theorem lc_20 {p : Program} {l : Launch} {e : Env} {s : State} {m : MethodId} {below : List Frame} {meth : Method} {c : Code} {b Ln : Nat} {xs : Nat → Int32} {E : x_E} {κ : x_Ka} {X : x_X} {j : Nat} (B : x_B p s m #[Value.ref b] meth c code "NextLoadLaw" 8 ret E) (hX : va_X b Ln xs s s.heap) (hb : b < E.1) (hE : E.1 = s.heap.size) (hst : l.stackTraces = false) (hj : 5 * j + 5 ≤ Ln) (hL3 : Ln ≤ 320) (hr : Rel κ X j) (K : ∀ (κ' : x_Ka) (X' : x_X), Rel κ' X' ((j + 1 : Nat) : Int) → x_G p l e room_1 s m #[Value.ref b] below meth c 8 E (90 + 4000 * (j + 1)) (247453 + 8000 * (j + 1)) (lw_Z below #[Value.ref b] s) κ' 1422 [some (Value.ref b), some (x_rf E 0), some (x_rf E 64), some (x_rf E 87), some (vi (5 * (j : Int))), none, none, none] [] X') : x_G p l e room_1 s m #[Value.ref b] below meth c 8 E (90 + 4000 * j) (247453 + 8000 * j) (lw_Z below #[Value.ref b] s) κ 808 [some (Value.ref b), some (x_rf E 0), some (x_rf E 64), some (x_rf E 87), some (vi (5 * (j : Int))), none, none, none] [] X := by
  obtain ⟨hC, hTT, hV, hG, hS, hR⟩ := id hr
  have hn := hC.1.1
  have hT := hn.1.1
  have h0 := hn.1.2.1
  have h8 := hTT.1.1.2.1
  have k87 := hC.1.2.2
  have hlo := hC.1.2.1
  have hj0 : (0 : Int) ≤ (j : Int) := by omega
  have hn6 := hn.1.2.2.1
  have hFB := hC.2.2.1.b (by omega)
  have a1 := z_S_R xs (5 * (j : Int) + 1)
  have a2 := z_S_R xs (5 * (j : Int) + 2)
  have a3 := z_S_R xs (5 * (j : Int) + 3)
  have a4 := z_S_R xs (5 * (j : Int) + 4)
  refine x_aload_n B dL_law_808 rfl ?_
  refine x_aldr B dL_law_809 rfl ?_
  refine x_iload B dL_law_810 rfl ?_
  refine x_iconst B dL_law_812 ?_
  refine x_iadd B dL_law_813 ?_
  refine x_sld B hX hb hE ⟨by omega, by omega⟩ hL3 dL_law_814 ?_
  refine x_aldr B dL_law_815 rfl ?_
  refine x_iload B dL_law_816 rfl ?_
  refine x_iconst B dL_law_818 ?_
  refine x_iadd B dL_law_819 ?_
  refine x_sld B hX hb hE ⟨by omega, by omega⟩ hL3 dL_law_820 ?_
  refine x_go (x_rV B h0 (show x_cl[0]? = some _ from rfl) (c_X1_beats hn k87 a1 a2) (lw_V q1094 q1095 q1096 q110 q1097) hv_X1_beats ⟨Nat.le_of_ble_eq_true rfl, Nat.le_of_ble_eq_true rfl⟩ ⟨by show _ ≤ 601024; omega, by show _ ≤ 7293034; omega⟩ rfl rfl (by simp [x_cr, x_c1, x_c2]) dL_law_821) (fun v_821 X_821 p_821 => ?_)
  obtain ⟨rfl, hk, hre, hfe⟩ := p_821
  have hcf := hk.cf hlo
  have hTY := hTT.cf hcf hT h8
  have hVY := hV.t (teq.cf hcf)
  refine x_aload_n B dL_law_824 rfl ?_
  refine x_aldr B dL_law_825 rfl ?_
  refine x_iload B dL_law_826 rfl ?_
  refine x_iconst B dL_law_828 ?_
  refine x_iadd B dL_law_829 ?_
  refine x_sld B hX hb hE ⟨by omega, by omega⟩ hL3 dL_law_830 ?_
  refine x_aldr B dL_law_831 rfl ?_
  refine x_iload B dL_law_832 rfl ?_
  refine x_iconst B dL_law_834 ?_
  refine x_iadd B dL_law_835 ?_
  refine x_sld B hX hb hE ⟨by omega, by omega⟩ hL3 dL_law_836 ?_
  refine x_go (x_rV B h8 (show x_cl[7]? = some _ from rfl) (c_X8_beats hTY.1 a1 a2) (lw_V q1742 q1743 q1744 q122 q1745) hv_X8_beats ⟨Nat.le_of_ble_eq_true rfl, Nat.le_of_ble_eq_true rfl⟩ ⟨by show _ ≤ 601024; omega, by show _ ≤ 7293034; omega⟩ rfl rfl (by simp [x_cr, x_c1, x_c2]) dL_law_837) (fun v_837 X_837 p_837 => ?_)
  obtain ⟨rfl, hh, h8r⟩ := p_837
  refine x_icmpS B (tgt := 1422) dL_law_840 (by decide) (by
    rw [hVY.1]
    by_cases q : x_in (z_S xs (5 * (j : Int) + 1)) 0 (X 1 2 - 1) = 1 ∧ x_in (z_S xs (5 * (j : Int) + 2)) 0 (X 1 2 - 1) = 1 ∧ (z_S xs (5 * (j : Int) + 1)) ≠ (z_S xs (5 * (j : Int) + 2))
    · rw [if_pos q, if_pos q]; exact q8_eq hVY hn (x_in_i q.1) (fun v _ _ => by rw [q8_bt_eq hVY hn (x_in_i q.2.1)])
    · rw [if_neg q, if_neg q]) ?_
  have hrr := ER.q hr hk hre h8r
  refine x_wide (cells' := 90 + 4000 * (j + 1)) (slots' := 247453 + 8000 * (j + 1)) (by omega) (by omega) ?_
  exact K _ _ (Rel_q hr hj0 hk (Or.inl hfe) hh hrr.2 hrr.1)
