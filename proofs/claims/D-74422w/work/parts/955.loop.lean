/-- the law's own end -/
theorem x_lend {p : Program} {l : Launch} {e : Env} {s : State} {m : MethodId} {below : List Frame} {meth : Method} {c : Code} {b : Nat} {E : x_E} {κ : x_Ka} {X : x_X} {L : List (Option Value)} {cells slots : Nat} (B : x_B p s m #[Value.ref b] meth c code "NextLoadLaw" 8 ret E) (hE : E.1 = s.heap.size) (h1 : cells ≤ 601024) (h2 : slots ≤ 7293034) : x_G p l e room_1 s m #[Value.ref b] below meth c 8 E cells slots (lw_Z below #[Value.ref b] s) κ 1429 L [vi 1] X := by
  intro H locs ls hH hS hL
  refine W.widen (k := 601024) (n := 7293034) h1 h2 ?_
  refine va_forget (fun q hq => by have := hS.2.2 q hq; rw [hE] at this; exact this) ?_
  exact lw_ret B.1.1 B.1.2.1 B.2.1 B.2.2.1 dL_law_1429
theorem x_eqLw {p : Program} {l : Launch} {e : Env} {R : Room} {s : State} {m : MethodId} {args : Array Value} {below : List Frame} {meth : Method} {c : Code} {nL : Nat} {E : x_E} {cells slots : Nat} {Q : State → Prop} {κ : x_Ka} {pc : Nat} {L L' : List (Option Value)} {st : List Value} {X : x_X} (h : L = L') (k : x_G p l e R s m args below meth c nL E cells slots Q κ pc L' st X) : x_G p l e R s m args below meth c nL E cells slots Q κ pc L st X := by rw [h]; exact k
theorem lw_loop {p : Program} {l : Launch} {e : Env} {s : State} {m : MethodId} {below : List Frame} {meth : Method} {c : Code} {b Ln : Nat} {xs : Nat → Int32} {E : x_E} (B : x_B p s m #[Value.ref b] meth c code "NextLoadLaw" 8 ret E) (hX : va_X b Ln xs s s.heap) (hb : b < E.1) (hE : E.1 = s.heap.size) (hst : l.stackTraces = false) (hL3 : Ln ≤ 320) : ∀ (n j : Nat) (κ : x_Ka) (X : x_X), Rel κ X (j : Int) → 5 * j ≤ Ln → Ln < 5 * j + n → x_G p l e room_1 s m #[Value.ref b] below meth c 8 E (90 + 4000 * j) (247453 + 8000 * j) (lw_Z below #[Value.ref b] s) κ 23 [some (Value.ref b), some (x_rf E 0), some (x_rf E 64), some (x_rf E 87), some (vi (5 * (j : Int))), none, none, none] [] X := by
  intro n
  induction n with
  | zero => intro j κ X hr h1 h2; omega
  | succ n ih =>
    intro j κ X hr hjl hme
    have K : ∀ (κ' : x_Ka) (X' : x_X), 5 * j + 5 ≤ Ln → Rel κ' X' ((j + 1 : Nat) : Int) → x_G p l e room_1 s m #[Value.ref b] below meth c 8 E (90 + 4000 * (j + 1)) (247453 + 8000 * (j + 1)) (lw_Z below #[Value.ref b] s) κ' 1422 [some (Value.ref b), some (x_rf E 0), some (x_rf E 64), some (x_rf E 87), some (vi (5 * (j : Int))), none, none, none] [] X' := by
      intro κ' X' hj hr2
      refine x_iinc_4 B dL_law_1422 (by first | rfl | exact x_cr _ _) ?_
      refine x_goto B (tgt := 23) dL_law_1425 (by decide) ?_
      refine x_eqLw (by rw [show 5 * (j : Int) + 5 = 5 * ((j + 1 : Nat) : Int) by omega]) ?_
      exact ih (j + 1) _ _ hr2 (by omega) (by omega)
    refine x_iload B dL_law_23 rfl ?_
    refine x_aldr B dL_law_25 rfl ?_
    refine x_slen B hX hb hE dL_law_26 ?_
    refine x_iconst B dL_law_27 ?_
    refine x_isub B dL_law_28 ?_
    refine x_icmp_gt B (tgt := 1428) dL_law_29 (by decide) ⟨by omega, by omega⟩ ⟨by omega, by omega⟩ (fun h_29 => ?_) (fun h_29 => ?_)
    · refine x_iconst B dL_law_1428 ?_
      exact x_lend B hE (by omega) (by omega)
    · have hj5 : 5 * j + 5 ≤ Ln := by omega
      refine x_aldr B dL_law_32 rfl ?_
      refine x_iload B dL_law_33 rfl ?_
      refine x_sld B hX hb hE ⟨by omega, by omega⟩ hL3 dL_law_35 ?_
      refine x_bipush B dL_law_36 (by decide) ?_
      refine x_iand B dL_law_38 ?_
      by_cases hs_0 : (i_and (z_S xs (5 * (j : Int))) 63) = 0
      · refine x_tswI B (off := 157) (tgt := 196) (xI_rng _) hs_0 dL_law_39 ⟨by decide, by decide⟩ (by decide) (by decide) ?_
        exact lc_0 B hX hb hE hst hj5 hL3 hr (fun κ' X' h9 => K κ' X' hj5 h9)
      by_cases hs_1 : (i_and (z_S xs (5 * (j : Int))) 63) = 1
      · refine x_tswI B (off := 182) (tgt := 221) (xI_rng _) hs_1 dL_law_39 ⟨by decide, by decide⟩ (by decide) (by decide) ?_
        exact lc_1 B hX hb hE hst hj5 hL3 hr (fun κ' X' h9 => K κ' X' hj5 h9)
      by_cases hs_2 : (i_and (z_S xs (5 * (j : Int))) 63) = 2
      · refine x_tswI B (off := 207) (tgt := 246) (xI_rng _) hs_2 dL_law_39 ⟨by decide, by decide⟩ (by decide) (by decide) ?_
        exact lc_2 B hX hb hE hst hj5 hL3 hr (fun κ' X' h9 => K κ' X' hj5 h9)
      by_cases hs_3 : (i_and (z_S xs (5 * (j : Int))) 63) = 3
      · refine x_tswI B (off := 220) (tgt := 259) (xI_rng _) hs_3 dL_law_39 ⟨by decide, by decide⟩ (by decide) (by decide) ?_
        exact lc_3 B hX hb hE hst hj5 hL3 hr (fun κ' X' h9 => K κ' X' hj5 h9)
      by_cases hs_4 : (i_and (z_S xs (5 * (j : Int))) 63) = 4
      · refine x_tswI B (off := 233) (tgt := 272) (xI_rng _) hs_4 dL_law_39 ⟨by decide, by decide⟩ (by decide) (by decide) ?_
        exact lc_4 B hX hb hE hst hj5 hL3 hr (fun κ' X' h9 => K κ' X' hj5 h9)
      by_cases hs_5 : (i_and (z_S xs (5 * (j : Int))) 63) = 5
      · refine x_tswI B (off := 294) (tgt := 333) (xI_rng _) hs_5 dL_law_39 ⟨by decide, by decide⟩ (by decide) (by decide) ?_
        exact lc_5 B hX hb hE hst hj5 hL3 hr (fun κ' X' h9 => K κ' X' hj5 h9)
      by_cases hs_6 : (i_and (z_S xs (5 * (j : Int))) 63) = 6
      · refine x_tswI B (off := 319) (tgt := 358) (xI_rng _) hs_6 dL_law_39 ⟨by decide, by decide⟩ (by decide) (by decide) ?_
        exact lc_6 B hX hb hE hst hj5 hL3 hr (fun κ' X' h9 => K κ' X' hj5 h9)
      by_cases hs_7 : (i_and (z_S xs (5 * (j : Int))) 63) = 7
      · refine x_tswI B (off := 332) (tgt := 371) (xI_rng _) hs_7 dL_law_39 ⟨by decide, by decide⟩ (by decide) (by decide) ?_
        exact lc_7 B hX hb hE hst hj5 hL3 hr (fun κ' X' h9 => K κ' X' hj5 h9)
      by_cases hs_8 : (i_and (z_S xs (5 * (j : Int))) 63) = 8
      · refine x_tswI B (off := 393) (tgt := 432) (xI_rng _) hs_8 dL_law_39 ⟨by decide, by decide⟩ (by decide) (by decide) ?_
        exact lc_8 B hX hb hE hst hj5 hL3 hr (fun κ' X' h9 => K κ' X' hj5 h9)
      by_cases hs_9 : (i_and (z_S xs (5 * (j : Int))) 63) = 9
      · refine x_tswI B (off := 442) (tgt := 481) (xI_rng _) hs_9 dL_law_39 ⟨by decide, by decide⟩ (by decide) (by decide) ?_
        exact lc_9 B hX hb hE hst hj5 hL3 hr (fun κ' X' h9 => K κ' X' hj5 h9)
      by_cases hs_10 : (i_and (z_S xs (5 * (j : Int))) 63) = 10
      · refine x_tswI B (off := 455) (tgt := 494) (xI_rng _) hs_10 dL_law_39 ⟨by decide, by decide⟩ (by decide) (by decide) ?_
        exact lc_10 B hX hb hE hst hj5 hL3 hr (fun κ' X' h9 => K κ' X' hj5 h9)
      by_cases hs_11 : (i_and (z_S xs (5 * (j : Int))) 63) = 11
      · refine x_tswI B (off := 468) (tgt := 507) (xI_rng _) hs_11 dL_law_39 ⟨by decide, by decide⟩ (by decide) (by decide) ?_
        exact lc_11 B hX hb hE hst hj5 hL3 hr (fun κ' X' h9 => K κ' X' hj5 h9)
      by_cases hs_12 : (i_and (z_S xs (5 * (j : Int))) 63) = 12
      · refine x_tswI B (off := 505) (tgt := 544) (xI_rng _) hs_12 dL_law_39 ⟨by decide, by decide⟩ (by decide) (by decide) ?_
        exact lc_12 B hX hb hE hst hj5 hL3 hr (fun κ' X' h9 => K κ' X' hj5 h9)
      by_cases hs_13 : (i_and (z_S xs (5 * (j : Int))) 63) = 13
      · refine x_tswI B (off := 546) (tgt := 585) (xI_rng _) hs_13 dL_law_39 ⟨by decide, by decide⟩ (by decide) (by decide) ?_
        exact lc_13 B hX hb hE hst hj5 hL3 hr (fun κ' X' h9 => K κ' X' hj5 h9)
      by_cases hs_14 : (i_and (z_S xs (5 * (j : Int))) 63) = 14
      · refine x_tswI B (off := 583) (tgt := 622) (xI_rng _) hs_14 dL_law_39 ⟨by decide, by decide⟩ (by decide) (by decide) ?_
        exact lc_14 B hX hb hE hst hj5 hL3 hr (fun κ' X' h9 => K κ' X' hj5 h9)
      by_cases hs_15 : (i_and (z_S xs (5 * (j : Int))) 63) = 15
      · refine x_tswI B (off := 608) (tgt := 647) (xI_rng _) hs_15 dL_law_39 ⟨by decide, by decide⟩ (by decide) (by decide) ?_
        exact lc_15 B hX hb hE hst hj5 hL3 hr (fun κ' X' h9 => K κ' X' hj5 h9)
      by_cases hs_16 : (i_and (z_S xs (5 * (j : Int))) 63) = 16
      · refine x_tswI B (off := 645) (tgt := 684) (xI_rng _) hs_16 dL_law_39 ⟨by decide, by decide⟩ (by decide) (by decide) ?_
        exact lc_16 B hX hb hE hst hj5 hL3 hr (fun κ' X' h9 => K κ' X' hj5 h9)
      by_cases hs_17 : (i_and (z_S xs (5 * (j : Int))) 63) = 17
      · refine x_tswI B (off := 682) (tgt := 721) (xI_rng _) hs_17 dL_law_39 ⟨by decide, by decide⟩ (by decide) (by decide) ?_
        exact lc_17 B hX hb hE hst hj5 hL3 hr (fun κ' X' h9 => K κ' X' hj5 h9)
      by_cases hs_18 : (i_and (z_S xs (5 * (j : Int))) 63) = 18
      · refine x_tswI B (off := 707) (tgt := 746) (xI_rng _) hs_18 dL_law_39 ⟨by decide, by decide⟩ (by decide) (by decide) ?_
        exact lc_18 B hX hb hE hst hj5 hL3 hr (fun κ' X' h9 => K κ' X' hj5 h9)
      by_cases hs_19 : (i_and (z_S xs (5 * (j : Int))) 63) = 19
      · refine x_tswI B (off := 744) (tgt := 783) (xI_rng _) hs_19 dL_law_39 ⟨by decide, by decide⟩ (by decide) (by decide) ?_
        exact lc_19 B hX hb hE hst hj5 hL3 hr (fun κ' X' h9 => K κ' X' hj5 h9)
      by_cases hs_20 : (i_and (z_S xs (5 * (j : Int))) 63) = 20
      · refine x_tswI B (off := 769) (tgt := 808) (xI_rng _) hs_20 dL_law_39 ⟨by decide, by decide⟩ (by decide) (by decide) ?_
        exact lc_20 B hX hb hE hst hj5 hL3 hr (fun κ' X' h9 => K κ' X' hj5 h9)
      by_cases hs_21 : (i_and (z_S xs (5 * (j : Int))) 63) = 21
      · refine x_tswI B (off := 806) (tgt := 845) (xI_rng _) hs_21 dL_law_39 ⟨by decide, by decide⟩ (by decide) (by decide) ?_
        exact lc_21 B hX hb hE hst hj5 hL3 hr (fun κ' X' h9 => K κ' X' hj5 h9)
      by_cases hs_22 : (i_and (z_S xs (5 * (j : Int))) 63) = 22
      · refine x_tswI B (off := 831) (tgt := 870) (xI_rng _) hs_22 dL_law_39 ⟨by decide, by decide⟩ (by decide) (by decide) ?_
        exact lc_22 B hX hb hE hst hj5 hL3 hr (fun κ' X' h9 => K κ' X' hj5 h9)
      by_cases hs_23 : (i_and (z_S xs (5 * (j : Int))) 63) = 23
      · refine x_tswI B (off := 856) (tgt := 895) (xI_rng _) hs_23 dL_law_39 ⟨by decide, by decide⟩ (by decide) (by decide) ?_
        exact lc_23 B hX hb hE hst hj5 hL3 hr (fun κ' X' h9 => K κ' X' hj5 h9)
      by_cases hs_24 : (i_and (z_S xs (5 * (j : Int))) 63) = 24
      · refine x_tswI B (off := 905) (tgt := 944) (xI_rng _) hs_24 dL_law_39 ⟨by decide, by decide⟩ (by decide) (by decide) ?_
        exact lc_24 B hX hb hE hst hj5 hL3 hr (fun κ' X' h9 => K κ' X' hj5 h9)
      by_cases hs_25 : (i_and (z_S xs (5 * (j : Int))) 63) = 25
      · refine x_tswI B (off := 930) (tgt := 969) (xI_rng _) hs_25 dL_law_39 ⟨by decide, by decide⟩ (by decide) (by decide) ?_
        exact lc_25 B hX hb hE hst hj5 hL3 hr (fun κ' X' h9 => K κ' X' hj5 h9)
      by_cases hs_26 : (i_and (z_S xs (5 * (j : Int))) 63) = 26
      · refine x_tswI B (off := 967) (tgt := 1006) (xI_rng _) hs_26 dL_law_39 ⟨by decide, by decide⟩ (by decide) (by decide) ?_
        exact lc_26 B hX hb hE hst hj5 hL3 hr (fun κ' X' h9 => K κ' X' hj5 h9)
      by_cases hs_27 : (i_and (z_S xs (5 * (j : Int))) 63) = 27
      · refine x_tswI B (off := 1004) (tgt := 1043) (xI_rng _) hs_27 dL_law_39 ⟨by decide, by decide⟩ (by decide) (by decide) ?_
        exact lc_27 B hX hb hE hst hj5 hL3 hr (fun κ' X' h9 => K κ' X' hj5 h9)
      by_cases hs_28 : (i_and (z_S xs (5 * (j : Int))) 63) = 28
      · refine x_tswI B (off := 1041) (tgt := 1080) (xI_rng _) hs_28 dL_law_39 ⟨by decide, by decide⟩ (by decide) (by decide) ?_
        exact lc_28 B hX hb hE hst hj5 hL3 hr (fun κ' X' h9 => K κ' X' hj5 h9)
      by_cases hs_29 : (i_and (z_S xs (5 * (j : Int))) 63) = 29
      · refine x_tswI B (off := 1066) (tgt := 1105) (xI_rng _) hs_29 dL_law_39 ⟨by decide, by decide⟩ (by decide) (by decide) ?_
        exact lc_29 B hX hb hE hst hj5 hL3 hr (fun κ' X' h9 => K κ' X' hj5 h9)
      by_cases hs_30 : (i_and (z_S xs (5 * (j : Int))) 63) = 30
      · refine x_tswI B (off := 1131) (tgt := 1170) (xI_rng _) hs_30 dL_law_39 ⟨by decide, by decide⟩ (by decide) (by decide) ?_
        exact lc_30 B hX hb hE hst hj5 hL3 hr (fun κ' X' h9 => K κ' X' hj5 h9)
      by_cases hs_31 : (i_and (z_S xs (5 * (j : Int))) 63) = 31
      · refine x_tswI B (off := 1168) (tgt := 1207) (xI_rng _) hs_31 dL_law_39 ⟨by decide, by decide⟩ (by decide) (by decide) ?_
        exact lc_31 B hX hb hE hst hj5 hL3 hr (fun κ' X' h9 => K κ' X' hj5 h9)
      by_cases hs_32 : (i_and (z_S xs (5 * (j : Int))) 63) = 32
      · refine x_tswI B (off := 1229) (tgt := 1268) (xI_rng _) hs_32 dL_law_39 ⟨by decide, by decide⟩ (by decide) (by decide) ?_
        exact lc_32 B hX hb hE hst hj5 hL3 hr (fun κ' X' h9 => K κ' X' hj5 h9)
      by_cases hs_33 : (i_and (z_S xs (5 * (j : Int))) 63) = 33
      · refine x_tswI B (off := 1254) (tgt := 1293) (xI_rng _) hs_33 dL_law_39 ⟨by decide, by decide⟩ (by decide) (by decide) ?_
        exact lc_33 B hX hb hE hst hj5 hL3 hr (fun κ' X' h9 => K κ' X' hj5 h9)
      by_cases hs_34 : (i_and (z_S xs (5 * (j : Int))) 63) = 34
      · refine x_tswI B (off := 1303) (tgt := 1342) (xI_rng _) hs_34 dL_law_39 ⟨by decide, by decide⟩ (by decide) (by decide) ?_
        exact lc_34 B hX hb hE hst hj5 hL3 hr (fun κ' X' h9 => K κ' X' hj5 h9)
      by_cases hs_35 : (i_and (z_S xs (5 * (j : Int))) 63) = 35
      · refine x_tswI B (off := 1328) (tgt := 1367) (xI_rng _) hs_35 dL_law_39 ⟨by decide, by decide⟩ (by decide) (by decide) ?_
        exact lc_35 B hX hb hE hst hj5 hL3 hr (fun κ' X' h9 => K κ' X' hj5 h9)
      refine x_tswO B (tgt := 1422) (xI_rng _) dL_law_39 (by omega) (by decide) ?_
      refine x_wide (cells' := 90 + 4000 * (j + 1)) (slots' := 247453 + 8000 * (j + 1)) (by omega) (by omega) ?_
      exact K _ _ hj5 (Rel_skip hr (by omega))
