/-- the text as the reading sees it -/
def c_T (X : x_X) : Int → Int := fun p => X 31 p % 256
/-- a reader at r that has come to q, of n signs -/
def rd (κ : x_Ka) (X : x_X) (r n q : Int) : Prop := (x_T κ ∧ κ 0 = some (.inl (0, 1)) ∧ κ r = some (.inl (10, 1))) ∧ X r 0 = n ∧ X r 1 = q ∧ (0 ≤ q ∧ q ≤ n) ∧ n ≤ 240
theorem c_X9_sees {l : Launch} {E : x_E} {κ : x_Ka} {X : x_X} {r z0 w0 c_ : Int} (h : rd κ X r z0 w0) (hc : 0 ≤ c_ ∧ c_ ≤ 127) : x_Pu l yX9_sees cX9_sees 2 (some .boolean) 0 E κ X [x_rf E r, vi c_] (vi (if w0 < z0 ∧ c_T X w0 = c_ then 1 else 0)) := by
  refine x_Met.of [(false, x_rf E r), (false, vi c_)] [some (x_rf E r), some (vi c_)] 0 (by decide) rfl rfl ⟨x_cr E (r), rfl, trivial⟩ rfl rfl ?_
  intro p e s m args below meth c hargs hin B
  obtain ⟨⟨hT, h0, hk⟩, en, ea, hq, hn⟩ := id h
  refine x_aload_n B dX9_sees_0 rfl ?_
  refine x_getI B (k := 1) 1 rfl rfl xc_10 (by decide) hk (Or.inl q479) (fun _ h => h) dX9_sees_1 (fun r_1 => ?_)
  rw [ea] at r_1 ⊢
  refine x_aload_n B dX9_sees_4 rfl ?_
  refine x_getI B (k := 0) 0 rfl rfl xc_10 (by decide) hk (Or.inl q478) (fun _ h => h) dX9_sees_5 (fun r_5 => ?_)
  rw [en] at r_5 ⊢
  refine x_icmp_ge B (tgt := 31) dX9_sees_8 (by decide) ⟨by omega, by omega⟩ ⟨by omega, by omega⟩ (fun h_8 => ?_) (fun h_8 => ?_)
  · refine x_iconst B dX9_sees_31 ?_
    refine x_zret B (fun _ _ h => h) ⟨by omega, by omega⟩ ?_ dX9_sees_32
    exact ⟨congrArg (fun z => some (vi z)) (by unfold c_T; first | (rw [if_pos (by omega)]; done) | (rw [if_neg (by omega)]; done)), rfl⟩
  · refine x_aload_n B dX9_sees_11 rfl ?_
    refine x_getC0 B (k := 2) hT rfl rfl xc_10 (by decide) hk (Or.inl q480) (fun _ h => h) dX9_sees_12 (fun k_12 => ?_)
    refine x_getC0 B (k := 4) hT rfl rfl xc_0 (by decide) k_12 (Or.inr q404) (fun _ h => h) dX9_sees_15 (fun k_15 => ?_)
    refine x_aload_n B dX9_sees_18 rfl ?_
    refine x_getI B (k := 1) 1 rfl rfl xc_10 (by decide) hk (Or.inl q479) (fun _ h => h) dX9_sees_19 (fun r_19 => ?_)
    rw [ea] at r_19 ⊢
    refine x_bald B k_15 ⟨by omega, by omega⟩ dX9_sees_22 (fun r_22 => ?_)
    refine x_iload_n B dX9_sees_23 rfl ?_
    refine x_icmp_ne B (tgt := 31) dX9_sees_24 (by decide) ⟨by omega, by omega⟩ ⟨by omega, by omega⟩ (fun h_24 => ?_) (fun h_24 => ?_)
    · refine x_iconst B dX9_sees_31 ?_
      refine x_zret B (fun _ _ h => h) ⟨by omega, by omega⟩ ?_ dX9_sees_32
      exact ⟨congrArg (fun z => some (vi z)) (by unfold c_T; first | (rw [if_pos (by omega)]; done) | (rw [if_neg (by omega)]; done)), rfl⟩
    · refine x_iconst B dX9_sees_27 ?_
      refine x_goto B (tgt := 32) dX9_sees_28 (by decide) ?_
      refine x_zret B (fun _ _ h => h) ⟨by omega, by omega⟩ ?_ dX9_sees_32
      exact ⟨congrArg (fun z => some (vi z)) (by unfold c_T; first | (rw [if_pos (by omega)]; done) | (rw [if_neg (by omega)]; done)), rfl⟩
theorem c_X9_isDigit {l : Launch} {E : x_E} {κ : x_Ka} {X : x_X} {r z0 w0 : Int} (h : rd κ X r z0 w0) : x_Pu l yX9_isDigit cX9_isDigit 1 (some .boolean) 1 E κ X [x_rf E r] (vi (if r_dg (c_T X) z0 w0 then 1 else 0)) := by
  refine x_Met.of [(false, x_rf E r)] [some (x_rf E r)] 0 (by decide) rfl rfl ⟨x_cr E (r), trivial⟩ rfl rfl ?_
  intro p e s m args below meth c hargs hin B
  obtain ⟨⟨hT, h0, hk⟩, en, ea, hq, hn⟩ := id h
  have z1 := x_in_01 (X 31 w0) 48 57
  refine x_aload_n B dX9_isDigit_0 rfl ?_
  refine x_getI B (k := 1) 1 rfl rfl xc_10 (by decide) hk (Or.inl q479) (fun _ h => h) dX9_isDigit_1 (fun r_1 => ?_)
  rw [ea] at r_1 ⊢
  refine x_aload_n B dX9_isDigit_4 rfl ?_
  refine x_getI B (k := 0) 0 rfl rfl xc_10 (by decide) hk (Or.inl q478) (fun _ h => h) dX9_isDigit_5 (fun r_5 => ?_)
  rw [en] at r_5 ⊢
  refine x_icmp_ge B (tgt := 40) dX9_isDigit_8 (by decide) ⟨by omega, by omega⟩ ⟨by omega, by omega⟩ (fun h_8 => ?_) (fun h_8 => ?_)
  · refine x_iconst B dX9_isDigit_40 ?_
    refine x_zret B (fun _ _ h => h) ⟨by omega, by omega⟩ ?_ dX9_isDigit_41
    exact ⟨congrArg (fun z => some (vi z)) (by unfold r_dg c_T; first | (rw [if_pos (by unfold x_in at h_33; split at h_33 <;> omega)]; done) | (rw [if_neg (by omega)]; done) | (rw [if_neg (by intro q; unfold x_in at h_33; split at h_33 <;> omega)]; done)), rfl⟩
  · refine x_aload_n B dX9_isDigit_11 rfl ?_
    refine x_getC0 B (k := 2) hT rfl rfl xc_10 (by decide) hk (Or.inl q480) (fun _ h => h) dX9_isDigit_12 (fun k_12 => ?_)
    refine x_getC0 B (k := 4) hT rfl rfl xc_0 (by decide) k_12 (Or.inr q404) (fun _ h => h) dX9_isDigit_15 (fun k_15 => ?_)
    refine x_aload_n B dX9_isDigit_18 rfl ?_
    refine x_getI B (k := 1) 1 rfl rfl xc_10 (by decide) hk (Or.inl q479) (fun _ h => h) dX9_isDigit_19 (fun r_19 => ?_)
    rw [ea] at r_19 ⊢
    refine x_bald B k_15 ⟨by omega, by omega⟩ dX9_isDigit_22 (fun r_22 => ?_)
    refine x_i2l B dX9_isDigit_23 ⟨by omega, by omega⟩ ?_
    refine x_ldc2 B (48) q558 (by decide) dX9_isDigit_24 ?_
    refine x_ldc2 B (57) q559 (by decide) dX9_isDigit_27 ?_
    refine x_goP (x_rSN B (c_X1_in ⟨by omega, by omega⟩ ⟨by omega, by omega⟩ ⟨by omega, by omega⟩) q560 q465 q110 q466 hd_X1_in ⟨by decide, by decide⟩ ⟨by decide, by decide⟩ rfl rfl (by simp [x_cr, x_c1, x_c2]) dX9_isDigit_30) ?_
    refine x_if_eq B (tgt := 40) dX9_isDigit_33 (by decide) ⟨by omega, by omega⟩ (fun h_33 => ?_) (fun h_33 => ?_)
    · refine x_iconst B dX9_isDigit_40 ?_
      refine x_zret B (fun _ _ h => h) ⟨by omega, by omega⟩ ?_ dX9_isDigit_41
      exact ⟨congrArg (fun z => some (vi z)) (by unfold r_dg c_T; first | (rw [if_pos (by unfold x_in at h_33; split at h_33 <;> omega)]; done) | (rw [if_neg (by omega)]; done) | (rw [if_neg (by intro q; unfold x_in at h_33; split at h_33 <;> omega)]; done)), rfl⟩
    · refine x_iconst B dX9_isDigit_36 ?_
      refine x_goto B (tgt := 41) dX9_isDigit_37 (by decide) ?_
      refine x_zret B (fun _ _ h => h) ⟨by omega, by omega⟩ ?_ dX9_isDigit_41
      exact ⟨congrArg (fun z => some (vi z)) (by unfold r_dg c_T; first | (rw [if_pos (by unfold x_in at h_33; split at h_33 <;> omega)]; done) | (rw [if_neg (by omega)]; done) | (rw [if_neg (by intro q; unfold x_in at h_33; split at h_33 <;> omega)]; done)), rfl⟩
theorem c_X11_adds {l : Launch} {E : x_E} {κ : x_Ka} {X : x_X} {a x o : Int} (hT : x_T κ) (hk : κ a = some (.inl (9, 1))) (ha : 0 ≤ a) (hm : 0 ≤ X a 2 ∧ X a 2 < 6) (hx : xR x) (ho : xR o) : x_Vo l yX11_adds cX11_adds 3 0 E κ X [x_rf E a, vi x, vi o] (x_up (x_up (x_up X (a + 1) (X a 2) x) (a + 2) (X a 2) o) a 2 (X a 2 + 1)) := by
  refine x_Met.of [(false, x_rf E a), (false, vi x), (false, vi o)] [some (x_rf E a), some (vi x), some (vi o)] 0 (by decide) rfl rfl ⟨x_cr E (a), rfl, rfl, trivial⟩ rfl rfl ?_
  intro p e s m args below meth c hargs hin B
  refine x_aload_n B dX11_adds_0 rfl ?_
  refine x_getC1 B (k := 0) hT rfl rfl xc_9 (by decide) hk (Or.inl q505) (fun _ h => h) dX11_adds_1 (fun k_1 => ?_)
  refine x_aload_n B dX11_adds_4 rfl ?_
  refine x_getI B (k := 2) 2 rfl rfl xc_9 (by decide) hk (Or.inl q507) (fun _ h => h) dX11_adds_5 (fun r_5 => ?_)
  refine x_iload_n B dX11_adds_8 rfl ?_
  refine x_iast B k_1 ⟨by omega, by omega⟩ hx dX11_adds_9 ?_
  refine x_aload_n B dX11_adds_10 rfl ?_
  refine x_getC1 B (k := 1) hT rfl rfl xc_9 (by decide) hk (Or.inl q506) (fun _ h => h) dX11_adds_11 (fun k_11 => ?_)
  refine x_aload_n B dX11_adds_14 rfl ?_
  refine x_getI B (k := 2) 2 rfl rfl xc_9 (by decide) hk (Or.inl q507) (fun _ h => h) dX11_adds_15 (fun r_15 => ?_)
  rw [x_up_o _ (by omega)] at r_15 ⊢
  refine x_iload_n B dX11_adds_18 rfl ?_
  refine x_iast B k_11 ⟨by omega, by omega⟩ ho dX11_adds_19 ?_
  refine x_aload_n B dX11_adds_20 rfl ?_
  refine x_dup B dX11_adds_21 (by first | rfl | exact x_cr _ _) ?_
  refine x_getI B (k := 2) 2 rfl rfl xc_9 (by decide) hk (Or.inl q507) (fun _ h => h) dX11_adds_22 (fun r_22 => ?_)
  rw [x_up_o _ (by omega), x_up_o _ (by omega)] at r_22 ⊢
  refine x_iconst B dX11_adds_25 ?_
  refine x_iadd B dX11_adds_26 ?_
  refine x_putI B (k := 2) 2 rfl rfl rfl ⟨by omega, by omega⟩ xc_9 (by decide) rfl nn_9_2 (fun _ => rfl) hk (Or.inl q507) (fun _ h => h) dX11_adds_27 ?_
  refine x_vret B (fun _ _ h => h) ?_ dX11_adds_30
  exact ⟨rfl, rfl⟩
