theorem c_X1_row {l : Launch} {E : x_E} {κ : x_Ka} {X : x_X} {i : Int} (hst : l.stackTraces = false) (hT : x_T κ) (h0 : κ 0 = some (.inl (0, 1))) (h7 : 0 ≤ X 0 7 ∧ X 0 7 ≤ 64) (hi : xR i) : x_MetX l yX1_row cX1_row 2 (some .long) 8 1 6 E κ X [x_rf E 0, vi i] "java/util/NoSuchElementException" (fun v_ κ_ Y_ => (x_in i 0 (X 0 7 - 1)) = 1 ∧ v_ = some (vl (X 32 i)) ∧ κ = κ_ ∧ X = Y_) (fun z_ κ_ Y_ => (x_in i 0 (X 0 7 - 1)) = 0 ∧ κ = κ_ ∧ ∃ n_, X (-1) 0 ≤ n_ ∧ Y_ = x_up X (-1) 0 n_) := by
  refine x_MetX.of [(false, x_rf E 0), (false, vi i)] [some (x_rf E 0), some (vi i)] 0 (by decide) rfl rfl ⟨x_cr E (0), rfl, trivial⟩ rfl rfl ?_
  intro p e s m args below meth c hargs hin B hxt
  have z1 := x_in_01 i 0 (X 0 7 - 1)
  refine x_iload_n B dX1_row_0 rfl ?_
  refine x_i2l B dX1_row_1 hi ?_
  refine x_lconst B 0 dX1_row_2 (by decide) ?_
  refine x_aload_n B dX1_row_3 rfl ?_
  refine x_getI B (k := 7) 7 rfl rfl xc_0 (by decide) h0 (Or.inl q408) (fun _ h => h) dX1_row_4 (fun r_4 => ?_)
  refine x_iconst B dX1_row_7 ?_
  refine x_isub B dX1_row_8 ?_
  refine x_i2l B dX1_row_9 ⟨by omega, by omega⟩ ?_
  refine x_goP (x_rS B (c_X1_in hi ⟨by omega, by omega⟩ ⟨by omega, by omega⟩) (lw_S q464 q465 q110 q466) hd_X1_in ⟨by decide, by decide⟩ ⟨by decide, by decide⟩ rfl rfl (by simp [x_cr, x_c1, x_c2]) dX1_row_10) ?_
  refine x_if_ne B (tgt := 24) dX1_row_13 (by decide) ⟨by omega, by omega⟩ (fun h_13 => ?_) (fun h_13 => ?_)
  · have hi2 : 0 ≤ i ∧ i < X 0 7 := by unfold x_in at h_13; split at h_13 <;> omega
    refine x_aload_n B dX1_row_24 rfl ?_
    refine x_getC0 B (k := 6) hT rfl rfl xc_0 (by decide) h0 (Or.inl q407) (fun _ h => h) dX1_row_25 (fun k_25 => ?_)
    refine x_iload_n B dX1_row_28 rfl ?_
    refine x_lald B k_25 ⟨by omega, by omega⟩ dX1_row_29 (fun r_29 => ?_)
    refine x_wide (cells' := 1) (slots' := 6) (by omega) (by omega) ?_
    refine x_lretX B ?_ dX1_row_30
    exact ⟨by omega, rfl, rfl, rfl⟩
  · have hz : (x_in i 0 (X 0 7 - 1)) = 0 := by omega
    exact x_thr0 B hst hxt (by decide +kernel) (by decide +kernel) q1306 q141 row_at0 row_good (fun n_ hn_ => ⟨hz, rfl, n_, hn_, rfl⟩) dX1_row_16 dX1_row_19 dX1_row_20 dX1_row_23 (by decide) (by decide) (by decide) (by decide) (by decide) (by decide)
/-- what lies in an array of longs is in range -/
theorem x_lX {p : Program} {l : Launch} {e : Env} {R : Room} {s : State} {m : MethodId} {args : Array Value} {below : List Frame} {meth : Method} {c : Code} {nL : Nat} {E : x_E} {cells slots : Nat} {Q : State → Prop} {κ : x_Ka} {cc : ByteArray} {own : String} {ret : Option FieldType} {pc : Nat} {L : List (Option Value)} {st : List Value} {X : x_X} (B : x_B p s m args meth c cc own nL ret E) {a i n : Int} (hk : κ a = some (.inr (1, n))) (hi : 0 ≤ i ∧ i < n) (k : xR (X a i) → x_G p l e R s m args below meth c nL E cells slots Q κ pc L (st) X) : x_G p l e R s m args below meth c nL E cells slots Q κ pc L (st) X := fun H locs ls hH hS hL => k ((hH.2 a _ hk).2.2.1 i hi.1 hi.2) H locs ls hH hS hL
theorem c_X0_row {l : Launch} {E : x_E} {κ : x_Ka} {X : x_X} {i : Int} (hst : l.stackTraces = false) (hT : x_T κ) (h0 : κ 0 = some (.inl (0, 1))) (k87 : κ 87 = some (.inr (1, 1))) (h7 : 0 ≤ X 0 7 ∧ X 0 7 ≤ 64) (hi : xR i) : x_MetH l yX0_row cX0_row 4 (some .int) [(0, 8, 11, 13)] 9 1 6 E κ X [x_rf E 0, vi i, x_rf E 87] (fun v_ κ_ Y_ => κ = κ_ ∧ (((x_in i 0 (X 0 7 - 1)) = 1 ∧ v_ = some (vi 0) ∧ Y_ = x_up X 87 0 (X 32 i)) ∨ ((x_in i 0 (X 0 7 - 1)) = 0 ∧ v_ = some (vi 1) ∧ ∃ n_, X (-1) 0 ≤ n_ ∧ Y_ = x_up X (-1) 0 n_))) := by
  refine x_MetH.of [(false, x_rf E 0), (false, vi i), (false, x_rf E 87)] [some (x_rf E 0), some (vi i), some (x_rf E 87), none] 1 (by decide) rfl rfl ⟨x_cr E (0), rfl, x_cr E (87), trivial⟩ rfl rfl ?_
  intro p e s m args below meth c hargs hin B htb
  have k32 : κ 32 = some (.inr (1, 64)) := hT.1 0 0 h0 6 (0, 32, .inr (1, 64)) rfl
  refine x_aload_n B dX0_row_0 rfl ?_
  refine x_iconst B dX0_row_1 ?_
  refine x_aload_n B dX0_row_2 rfl ?_
  refine x_iload_n B dX0_row_3 rfl ?_
  refine x_goX (x_rVX B h0 (show x_cl[0]? = some _ from rfl) (c_X1_row hst hT h0 h7 hi) (lw_V q1302 q1303 q1304 q110 q1305) hv_X1_row ⟨by decide, by decide⟩ ⟨by decide, by decide⟩ rfl rfl (by simp [x_cr, x_c1, x_c2]) dX0_row_4) (fun z_4 κ_4 X_4 hz_4 p_4 => ?_) (fun v_4 κ_4 X_4 p_4 => ?_)
  · obtain ⟨hz, rfl, n_, hn_, rfl⟩ := p_4
    refine x_catchX B (x := { startPc := 0, endPc := 8, handlerPc := 11, catchType := 13 }) hz_4 htb rfl (by decide) q1301 q1308 (tgt := 11) rfl ?_
    refine x_ast_3 B dX0_row_11 (by first | rfl | exact x_cr _ _) ?_
    refine x_iconst B dX0_row_12 ?_
    refine x_wide (cells' := 1) (slots' := 6) (by omega) (by omega) ?_
    refine x_iretK B ?_ dX0_row_13
    exact ⟨rfl, Or.inr ⟨hz, rfl, n_, hn_, rfl⟩⟩
  obtain ⟨hz, rfl, rfl, rfl⟩ := p_4
  refine x_lX B (i := i) k32 ⟨by unfold x_in at hz; split at hz <;> omega, by unfold x_in at hz; split at hz <;> omega⟩ (fun hxr => ?_)
  refine x_last B k87 ⟨by omega, by omega⟩ hxr dX0_row_7 ?_
  refine x_goto B (tgt := 14) dX0_row_8 (by decide) ?_
  refine x_iconst B dX0_row_14 ?_
  refine x_wide (cells' := 1) (slots' := 6) (by omega) (by omega) ?_
  refine x_iretK B ?_ dX0_row_15
  exact ⟨rfl, Or.inl ⟨hz, rfl, rfl⟩⟩
