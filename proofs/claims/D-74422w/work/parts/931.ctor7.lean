/-! kinds by a table -/
def k_of (l : List x_k) : x_Ka := fun a => if 0 ≤ a then l[a.toNat]? else none
def k_chk (l : List x_k) : Bool := (List.range l.length).all fun i => match l[i]? with
  | some (.inl (ci, b)) => b != 1 || (List.range 40).all fun j => match x_fx ci j with
    | none => true
    | some q => decide (k_of l (x_z q i) = some q.2.2)
  | some (.inr (t, n)) => match x_af t with
    | none => true
    | some q => (List.range n.toNat).all fun j => decide (k_of l ((i : Int) + q.1 + q.2.1 * (j : Int)) = some q.2.2)
  | none => true
theorem x_fx_40 (ci j : Nat) (h : 40 ≤ j) : x_fx ci j = none := by
  unfold x_fx
  by_cases hc : ci < 17
  · have hl : ∀ c : Fin 17, (x_fxs.getD c.val []).length ≤ 40 := by decide +kernel
    have h2 := hl ⟨ci, hc⟩
    rw [List.getD_eq_getElem?_getD, List.getElem?_eq_none (by have : (x_fxs.getD ci []).length ≤ 40 := h2; omega)]
    rfl
  · have : x_fxs.getD ci [] = [] := by
      rw [List.getD_eq_getElem?_getD, List.getElem?_eq_none (by show 17 ≤ ci; omega)]
      rfl
    rw [this]
    rfl
theorem k_of_nat {l : List x_k} {a : Int} {k : x_k} (h : k_of l a = some k) : ∃ i : Nat, a = i ∧ i < l.length ∧ l[i]? = some k := by
  unfold k_of at h
  by_cases q : 0 ≤ a
  · rw [if_pos q] at h
    exact ⟨a.toNat, by omega, (List.getElem?_eq_some_iff.mp h).1, h⟩
  · rw [if_neg q] at h; cases h
theorem k_T {l : List x_k} (h : k_chk l = true) : x_T (k_of l) := by
  unfold k_chk at h
  have h2 := List.all_eq_true.mp h
  constructor
  · intro a ci ha j q hq
    obtain ⟨i, rfl, hi, hl⟩ := k_of_nat ha
    have h3 := h2 i (List.mem_range.mpr hi)
    rw [hl] at h3
    have hj : j < 40 := Nat.lt_of_not_le fun z => by rw [x_fx_40 ci j z] at hq; cases hq
    simp only [bne_self_eq_false, Bool.false_or] at h3
    have h4 := List.all_eq_true.mp h3 j (List.mem_range.mpr hj)
    rw [hq] at h4
    exact of_decide_eq_true h4
  · intro a t n ha q hq j j1 j2
    obtain ⟨i, rfl, hi, hl⟩ := k_of_nat ha
    have h3 := h2 i (List.mem_range.mpr hi)
    rw [hl] at h3
    dsimp only at h3
    rw [hq] at h3
    have h4 := List.all_eq_true.mp h3 j.toNat (List.mem_range.mpr (by omega))
    have h5 := of_decide_eq_true h4
    rw [show ((j.toNat : Nat) : Int) = j by omega] at h5
    exact h5
theorem k_sub {l : List x_k} {K : x_Ka} (h : ((List.range l.length).all fun i => decide (K (i : Int) = l[i]?)) = true) : ∀ a k, k_of l a = some k → K a = some k := by
  intro a k ha
  obtain ⟨i, rfl, hi, hl⟩ := k_of_nat ha
  have h2 := of_decide_eq_true (List.all_eq_true.mp h i (List.mem_range.mpr hi))
  exact h2.trans hl
def k_n0 : List x_k := [.inl (0, 1), .inl (1, 1), .inr (4, 6), .inl (2, 1), .inr (10, 6), .inl (3, 1), .inr (0, 3), .inl (3, 1), .inr (0, 3), .inl (3, 1), .inr (0, 3), .inl (3, 1), .inr (0, 3), .inl (3, 1), .inr (0, 3), .inl (3, 1), .inr (0, 3), .inl (2, 1), .inr (10, 6), .inl (3, 1), .inr (0, 3), .inl (3, 1), .inr (0, 3), .inl (3, 1), .inr (0, 3), .inl (3, 1), .inr (0, 3), .inl (3, 1), .inr (0, 3), .inl (3, 1), .inr (0, 3), .inr (3, 240), .inr (1, 64), .inr (0, 54), .inr (0, 54), .inr (0, 54), .inr (2, 54), .inl (4, 1), .inl (5, 1), .inr (1, 363), .inr (2, 363), .inr (12, 3), .inr (1, 15498), .inr (1, 15498), .inr (1, 15498), .inr (13, 3), .inr (0, 15498), .inr (0, 15498), .inr (0, 15498), .inr (13, 3), .inr (0, 15498), .inr (0, 15498), .inr (0, 15498), .inr (14, 6), .inr (1, 122), .inr (1, 122), .inr (1, 122), .inr (1, 122), .inr (1, 122), .inr (1, 122), .inl (6, 1), .inr (0, 15129), .inr (0, 15129), .inr (2, 15129)]
def k_a0 : List x_k := [.inl (0, 1), .inl (1, 1), .inr (4, 6), .inl (2, 1), .inr (10, 6), .inl (3, 1), .inr (0, 3), .inl (3, 1), .inr (0, 3), .inl (3, 1), .inr (0, 3), .inl (3, 1), .inr (0, 3), .inl (3, 1), .inr (0, 3), .inl (3, 1), .inr (0, 3), .inl (2, 1), .inr (10, 6), .inl (3, 1), .inr (0, 3), .inl (3, 1), .inr (0, 3), .inl (3, 1), .inr (0, 3), .inl (3, 1), .inr (0, 3), .inl (3, 1), .inr (0, 3), .inl (3, 1), .inr (0, 3), .inr (3, 240), .inr (1, 64), .inr (0, 54), .inr (0, 54), .inr (0, 54), .inr (2, 54), .inl (4, 1), .inl (5, 1), .inr (1, 363), .inr (2, 363), .inr (12, 3), .inr (1, 15498), .inr (1, 15498), .inr (1, 15498), .inr (13, 3), .inr (0, 15498), .inr (0, 15498), .inr (0, 15498), .inr (13, 3), .inr (0, 15498), .inr (0, 15498), .inr (0, 15498), .inr (14, 6), .inr (1, 122), .inr (1, 122), .inr (1, 122), .inr (1, 122), .inr (1, 122), .inr (1, 122), .inl (6, 1), .inr (0, 15129), .inr (0, 15129), .inr (2, 15129), .inl (7, 1), .inr (1, 64), .inr (0, 6), .inr (0, 6), .inr (0, 18), .inr (0, 108), .inr (0, 108), .inr (0, 54), .inr (0, 63), .inr (0, 63), .inr (0, 240), .inr (0, 240), .inr (0, 3), .inr (0, 18), .inr (0, 18), .inr (0, 9), .inr (0, 122), .inr (0, 122), .inr (0, 121), .inr (0, 484), .inr (0, 28224), .inr (0, 15129), .inr (0, 15129), .inr (1, 1)]
theorem k_n0_T : x_T (k_of k_n0) := k_T (by decide +kernel)
theorem k_a0_T : x_T (k_of k_a0) := k_T (by decide +kernel)
theorem c_X1_init {l : Launch} {E : x_E} {κ : x_Ka} {X : x_X}  (hκ0 : κ = x_ku (fun _ => none) 0 (.inl (0, 0))) (sz : X (-1) 0 = 1) (f0 : X 0 = x_df 0) : x_MetA l yX1_init cX1_init 1 none 5 63 187045 E κ X [x_rf E 0] (k_of k_n0) (fun v_ Y_ => v_ = none ∧ Y_ (-1) 0 = 64 ∧ (Y_ 0 1 = 0 ∧ Y_ 0 5 = 0 ∧ Y_ 0 7 = 0 ∧ Y_ 0 12 = 0) ∧ (Y_ 1 0 = 0 ∧ Y_ 1 2 = 0) ∧ (∀ q_, Y_ 31 q_ = 0) ∧ Y_ 38 8 = 0 ∧ (∀ u_, 0 ≤ u_ → u_ ≤ 2 → ∀ k_, Y_ (50 + u_) k_ = 0) ∧ (Y_ 3 1 = 0 ∧ Y_ 3 2 = 0 ∧ Y_ 3 3 = 0)) := by
  refine x_MetA.of [(false, x_rf E 0)] [some (x_rf E 0)] 0 (by decide) rfl rfl ⟨x_cr E (0), trivial⟩ rfl rfl ?_
  intro p e s m args below meth c hargs hin B hAO
  have ka : κ 0 = some (.inl (0, 0)) := by rw [hκ0]; exact x_ku_s _ _ _
  refine x_aload_n B dX1_init_0 rfl ?_
  refine x_objI B (ha := by omega) q147 dX1_init_1 (by decide) (by simp [x_cr, x_c1, x_c2]) ?_
  refine x_aload_n B dX1_init_4 rfl ?_
  refine x_new B xc_1 q150 q151 q113 (xd_1 E) xe_1 (Nat.le_of_ble_eq_true rfl) (Nat.le_of_ble_eq_true rfl) dX1_init_5 (fun z_5 n_5 => ?_)
  rw [sz] at n_5 ⊢
  obtain ⟨κ1, hκ1⟩ : ∃ k_, k_ = x_ku κ 1 (.inl (1, 0)) := ⟨_, rfl⟩
  rw [← hκ1]
  replace ka : κ1 (0) = some (.inl (0, 0)) := by rw [hκ1]; rw [x_ku_ne (by omega)]; exact ka
  have kt : κ1 (1) = some (.inl (1, 0)) := by rw [hκ1]; exact x_ku_s _ _ _
  have sz1 : (x_nw X (x_df 1)) (-1) 0 = 2 := by rw [x_nw_sz, sz]; omega
  replace f0 : (x_nw X (x_df 1)) (0) = (x_df 0) := (x_nw_oth X (x_df 1) (by omega) (by omega)).trans f0
  have f1 : (x_nw X (x_df 1)) (1) = (x_df 1) := by have hh := x_nw_at X (x_df 1) (by omega); rw [sz] at hh; exact hh
  generalize (x_nw X (x_df 1)) = S1 at sz1 f0 f1 ⊢
  replace sz := sz1
  clear sz1
  refine x_dup B dX1_init_8 (by first | rfl | exact x_cr _ _) ?_
  refine x_bipush B dX1_init_9 (by decide) ?_
  refine x_go (x_rI B (by omega) (c_J2_init kt (by omega)) q152 q153 q113 q154 rfl hd_J2_init ⟨by decide, by decide⟩ ⟨(Nat.le_of_ble_eq_true rfl), (Nat.le_of_ble_eq_true rfl)⟩ rfl rfl (by simp [x_cr, x_c1, x_c2]) dX1_init_11) (fun v_11 X_11 p_11 => ?_)
  obtain ⟨κ2, hκ2⟩ : ∃ k_, k_ = x_ku (x_ku κ1 2 (.inr (4, 6))) 1 (.inl (1, 1)) := ⟨_, rfl⟩
  rw [← hκ2]
  replace ka : κ2 (0) = some (.inl (0, 0)) := by rw [hκ2]; rw [x_ku_ne (by omega)]; rw [x_ku_ne (by omega)]; exact ka
  obtain ⟨rfl, rfl⟩ := p_11
  have sz1 : (x_up S1 (1) 0 (0)) (-1) 0 = 2 := by rw [x_up_o _ (by omega)]; exact sz
  replace f0 : (x_up S1 (1) 0 (0)) (0) = (x_df 0) := (x_up_o S1 (by omega)).trans f0
  replace f1 : (x_up S1 (1) 0 (0)) (1) = (x_g (x_df 1) 0 (0)) := (x_up_f _ _ _ _).trans (congrArg (fun g => x_g g 0 (0)) f1)
  generalize (x_up S1 (1) 0 (0)) = S2 at sz1 f0 f1 ⊢
  replace sz := sz1
  clear sz1
  have sz1 : (x_nw S2 (fun _ => -1)) (-1) 0 = 3 := by rw [x_nw_sz, sz]; omega
  replace f0 : (x_nw S2 (fun _ => -1)) (0) = (x_df 0) := (x_nw_oth S2 (fun _ => -1) (by omega) (by omega)).trans f0
  replace f1 : (x_nw S2 (fun _ => -1)) (1) = (x_g (x_df 1) 0 (0)) := (x_nw_oth S2 (fun _ => -1) (by omega) (by omega)).trans f1
  generalize (x_nw S2 (fun _ => -1)) = S3 at sz1 f0 f1 ⊢
  replace sz := sz1
  clear sz1
  have sz1 : (x_up S3 (1) 1 (2)) (-1) 0 = 3 := by rw [x_up_o _ (by omega)]; exact sz
  replace f0 : (x_up S3 (1) 1 (2)) (0) = (x_df 0) := (x_up_o S3 (by omega)).trans f0
  replace f1 : (x_up S3 (1) 1 (2)) (1) = (x_g (x_g (x_df 1) 0 (0)) 1 (2)) := (x_up_f _ _ _ _).trans (congrArg (fun g => x_g g 1 (2)) f1)
  generalize (x_up S3 (1) 1 (2)) = S4 at sz1 f0 f1 ⊢
  replace sz := sz1
  clear sz1
  refine x_putFO B (k := 0) 0 rfl rfl rfl xc_0 (by decide) rfl hin rfl nn_0_0 (fun h => absurd h (by decide)) ka q394 (fun _ h => h) dX1_init_14 ?_
  have sz1 : (x_up S4 (0) 0 (1)) (-1) 0 = 3 := by rw [x_up_o _ (by omega)]; exact sz
  replace f0 : (x_up S4 (0) 0 (1)) (0) = (x_g (x_df 0) 0 (1)) := (x_up_f _ _ _ _).trans (congrArg (fun g => x_g g 0 (1)) f0)
  replace f1 : (x_up S4 (0) 0 (1)) (1) = (x_g (x_g (x_df 1) 0 (0)) 1 (2)) := (x_up_o S4 (by omega)).trans f1
  generalize (x_up S4 (0) 0 (1)) = S5 at sz1 f0 f1 ⊢
  replace sz := sz1
  clear sz1
  refine x_aload_n B dX1_init_17 rfl ?_
  refine x_new B xc_2 q178 q179 q114 (xd_2 E) xe_2 (Nat.le_of_ble_eq_true rfl) (Nat.le_of_ble_eq_true rfl) dX1_init_18 (fun z_18 n_18 => ?_)
  rw [sz] at n_18 ⊢
  obtain ⟨κ3, hκ3⟩ : ∃ k_, k_ = x_ku κ2 3 (.inl (2, 0)) := ⟨_, rfl⟩
  rw [← hκ3]
  replace ka : κ3 (0) = some (.inl (0, 0)) := by rw [hκ3]; rw [x_ku_ne (by omega)]; exact ka
  have kt : κ3 (3) = some (.inl (2, 0)) := by rw [hκ3]; exact x_ku_s _ _ _
  have sz1 : (x_nw S5 (x_df 2)) (-1) 0 = 4 := by rw [x_nw_sz, sz]; omega
  replace f0 : (x_nw S5 (x_df 2)) (0) = (x_g (x_df 0) 0 (1)) := (x_nw_oth S5 (x_df 2) (by omega) (by omega)).trans f0
  replace f1 : (x_nw S5 (x_df 2)) (1) = (x_g (x_g (x_df 1) 0 (0)) 1 (2)) := (x_nw_oth S5 (x_df 2) (by omega) (by omega)).trans f1
  generalize (x_nw S5 (x_df 2)) = S6 at sz1 f0 f1 ⊢
  replace sz := sz1
  clear sz1
  refine x_dup B dX1_init_21 (by first | rfl | exact x_cr _ _) ?_
  refine x_aload_n B dX1_init_22 rfl ?_
  refine x_go (x_rIN B (by omega) (c_X2_init (a := 3) (by omega) (by omega) kt) q180 q181 q114 q182 rfl hd_X2_init ⟨by decide, by decide⟩ ⟨(Nat.le_of_ble_eq_true rfl), (Nat.le_of_ble_eq_true rfl)⟩ rfl rfl (by simp [x_cr, x_c1, x_c2]) dX1_init_23) (fun v_23 X_23 p_23 => ?_)
  obtain ⟨κ4, hκ4⟩ : ∃ k_, k_ = k_meet κ3 3 := ⟨_, rfl⟩
  rw [← hκ4]
  replace ka : κ4 (0) = some (.inl (0, 0)) := by rw [hκ4]; unfold k_meet; repeat (rw [x_ku_ne (by omega)]); exact ka
  obtain ⟨rfl, t1, t2⟩ := p_23
  have sz1 : X_23 (-1) 0 = 17 := by rw [t2]; omega
  replace f0 : X_23 (0) = (x_g (x_df 0) 0 (1)) := (t1 _ (by omega) (by omega)).trans f0
  replace f1 : X_23 (1) = (x_g (x_g (x_df 1) 0 (0)) 1 (2)) := (t1 _ (by omega) (by omega)).trans f1
  generalize X_23 = S7 at sz1 f0 f1 ⊢
  replace sz := sz1
  clear sz1
  refine x_putFO B (k := 2) 2 rfl rfl rfl xc_0 (by decide) rfl hin rfl nn_0_2 (fun h => absurd h (by decide)) ka q400 (fun _ h => h) dX1_init_26 ?_
  have sz1 : (x_up S7 (0) 2 (3)) (-1) 0 = 17 := by rw [x_up_o _ (by omega)]; exact sz
  replace f0 : (x_up S7 (0) 2 (3)) (0) = (x_g (x_g (x_df 0) 0 (1)) 2 (3)) := (x_up_f _ _ _ _).trans (congrArg (fun g => x_g g 2 (3)) f0)
  replace f1 : (x_up S7 (0) 2 (3)) (1) = (x_g (x_g (x_df 1) 0 (0)) 1 (2)) := (x_up_o S7 (by omega)).trans f1
  generalize (x_up S7 (0) 2 (3)) = S8 at sz1 f0 f1 ⊢
  replace sz := sz1
  clear sz1
  refine x_aload_n B dX1_init_29 rfl ?_
  refine x_new B xc_2 q178 q179 q114 (xd_2 E) xe_2 (Nat.le_of_ble_eq_true rfl) (Nat.le_of_ble_eq_true rfl) dX1_init_30 (fun z_30 n_30 => ?_)
  rw [sz] at n_30 ⊢
  obtain ⟨κ5, hκ5⟩ : ∃ k_, k_ = x_ku κ4 17 (.inl (2, 0)) := ⟨_, rfl⟩
  rw [← hκ5]
  replace ka : κ5 (0) = some (.inl (0, 0)) := by rw [hκ5]; rw [x_ku_ne (by omega)]; exact ka
  have kt : κ5 (17) = some (.inl (2, 0)) := by rw [hκ5]; exact x_ku_s _ _ _
  have sz1 : (x_nw S8 (x_df 2)) (-1) 0 = 18 := by rw [x_nw_sz, sz]; omega
  replace f0 : (x_nw S8 (x_df 2)) (0) = (x_g (x_g (x_df 0) 0 (1)) 2 (3)) := (x_nw_oth S8 (x_df 2) (by omega) (by omega)).trans f0
  replace f1 : (x_nw S8 (x_df 2)) (1) = (x_g (x_g (x_df 1) 0 (0)) 1 (2)) := (x_nw_oth S8 (x_df 2) (by omega) (by omega)).trans f1
  generalize (x_nw S8 (x_df 2)) = S9 at sz1 f0 f1 ⊢
  replace sz := sz1
  clear sz1
  refine x_dup B dX1_init_33 (by first | rfl | exact x_cr _ _) ?_
  refine x_aload_n B dX1_init_34 rfl ?_
  refine x_go (x_rIN B (by omega) (c_X2_init (a := 17) (by omega) (by omega) kt) q180 q181 q114 q182 rfl hd_X2_init ⟨by decide, by decide⟩ ⟨(Nat.le_of_ble_eq_true rfl), (Nat.le_of_ble_eq_true rfl)⟩ rfl rfl (by simp [x_cr, x_c1, x_c2]) dX1_init_35) (fun v_35 X_35 p_35 => ?_)
  obtain ⟨κ6, hκ6⟩ : ∃ k_, k_ = k_meet κ5 17 := ⟨_, rfl⟩
  rw [← hκ6]
  replace ka : κ6 (0) = some (.inl (0, 0)) := by rw [hκ6]; unfold k_meet; repeat (rw [x_ku_ne (by omega)]); exact ka
  obtain ⟨rfl, t1, t2⟩ := p_35
  have sz1 : X_35 (-1) 0 = 31 := by rw [t2]; omega
  replace f0 : X_35 (0) = (x_g (x_g (x_df 0) 0 (1)) 2 (3)) := (t1 _ (by omega) (by omega)).trans f0
  replace f1 : X_35 (1) = (x_g (x_g (x_df 1) 0 (0)) 1 (2)) := (t1 _ (by omega) (by omega)).trans f1
  generalize X_35 = S10 at sz1 f0 f1 ⊢
  replace sz := sz1
  clear sz1
  refine x_putFO B (k := 3) 3 rfl rfl rfl xc_0 (by decide) rfl hin rfl nn_0_3 (fun h => absurd h (by decide)) ka q403 (fun _ h => h) dX1_init_38 ?_
  have sz1 : (x_up S10 (0) 3 (17)) (-1) 0 = 31 := by rw [x_up_o _ (by omega)]; exact sz
  replace f0 : (x_up S10 (0) 3 (17)) (0) = (x_g (x_g (x_g (x_df 0) 0 (1)) 2 (3)) 3 (17)) := (x_up_f _ _ _ _).trans (congrArg (fun g => x_g g 3 (17)) f0)
  replace f1 : (x_up S10 (0) 3 (17)) (1) = (x_g (x_g (x_df 1) 0 (0)) 1 (2)) := (x_up_o S10 (by omega)).trans f1
  generalize (x_up S10 (0) 3 (17)) = S11 at sz1 f0 f1 ⊢
  replace sz := sz1
  clear sz1
  refine x_aload_n B dX1_init_41 rfl ?_
  refine x_sipush B dX1_init_42 (by decide) ?_
  refine x_newa B (t := 3) (atype := .byte) (n := 240) rfl q290 (fun h => h) rfl ⟨by decide, by decide⟩ rfl ⟨by omega, by omega⟩ (by decide) (Nat.le_of_ble_eq_true rfl) (Nat.le_of_ble_eq_true rfl) dX1_init_45 (fun z_45 n_45 => ?_)
  rw [sz] at n_45 ⊢
  obtain ⟨κ7, hκ7⟩ : ∃ k_, k_ = x_ku κ6 31 (.inr (3, 240)) := ⟨_, rfl⟩
  rw [← hκ7]
  replace ka : κ7 (0) = some (.inl (0, 0)) := by rw [hκ7]; rw [x_ku_ne (by omega)]; exact ka
  have sz1 : (x_nw S11 (fun _ => 0)) (-1) 0 = 32 := by rw [x_nw_sz, sz]; omega
  replace f0 : (x_nw S11 (fun _ => 0)) (0) = (x_g (x_g (x_g (x_df 0) 0 (1)) 2 (3)) 3 (17)) := (x_nw_oth S11 (fun _ => 0) (by omega) (by omega)).trans f0
  replace f1 : (x_nw S11 (fun _ => 0)) (1) = (x_g (x_g (x_df 1) 0 (0)) 1 (2)) := (x_nw_oth S11 (fun _ => 0) (by omega) (by omega)).trans f1
  have f31 : (x_nw S11 (fun _ => 0)) (31) = (fun _ => 0) := by have hh := x_nw_at S11 (fun _ => 0) (by omega); rw [sz] at hh; exact hh
  generalize (x_nw S11 (fun _ => 0)) = S12 at sz1 f0 f1 f31 ⊢
  replace sz := sz1
  clear sz1
  refine x_putFA B (k := 4) 4 rfl rfl rfl xc_0 (by decide) rfl hin rfl nn_0_4 (fun h => absurd h (by decide)) ka q405 (fun _ h => h) dX1_init_47 ?_
  have sz1 : (x_up S12 (0) 4 (31)) (-1) 0 = 32 := by rw [x_up_o _ (by omega)]; exact sz
  replace f0 : (x_up S12 (0) 4 (31)) (0) = (x_g (x_g (x_g (x_g (x_df 0) 0 (1)) 2 (3)) 3 (17)) 4 (31)) := (x_up_f _ _ _ _).trans (congrArg (fun g => x_g g 4 (31)) f0)
  replace f1 : (x_up S12 (0) 4 (31)) (1) = (x_g (x_g (x_df 1) 0 (0)) 1 (2)) := (x_up_o S12 (by omega)).trans f1
  replace f31 : (x_up S12 (0) 4 (31)) (31) = (fun _ => 0) := (x_up_o S12 (by omega)).trans f31
  generalize (x_up S12 (0) 4 (31)) = S13 at sz1 f0 f1 f31 ⊢
  replace sz := sz1
  clear sz1
  refine x_aload_n B dX1_init_50 rfl ?_
  refine x_bipush B dX1_init_51 (by decide) ?_
  refine x_newa B (t := 1) (atype := .long) (n := 64) rfl q291 (fun h => h) rfl ⟨by decide, by decide⟩ rfl ⟨by omega, by omega⟩ (by decide) (Nat.le_of_ble_eq_true rfl) (Nat.le_of_ble_eq_true rfl) dX1_init_53 (fun z_53 n_53 => ?_)
  rw [sz] at n_53 ⊢
  obtain ⟨κ8, hκ8⟩ : ∃ k_, k_ = x_ku κ7 32 (.inr (1, 64)) := ⟨_, rfl⟩
  rw [← hκ8]
  replace ka : κ8 (0) = some (.inl (0, 0)) := by rw [hκ8]; rw [x_ku_ne (by omega)]; exact ka
  have sz1 : (x_nw S13 (fun _ => 0)) (-1) 0 = 33 := by rw [x_nw_sz, sz]; omega
  replace f0 : (x_nw S13 (fun _ => 0)) (0) = (x_g (x_g (x_g (x_g (x_df 0) 0 (1)) 2 (3)) 3 (17)) 4 (31)) := (x_nw_oth S13 (fun _ => 0) (by omega) (by omega)).trans f0
  replace f1 : (x_nw S13 (fun _ => 0)) (1) = (x_g (x_g (x_df 1) 0 (0)) 1 (2)) := (x_nw_oth S13 (fun _ => 0) (by omega) (by omega)).trans f1
  replace f31 : (x_nw S13 (fun _ => 0)) (31) = (fun _ => 0) := (x_nw_oth S13 (fun _ => 0) (by omega) (by omega)).trans f31
  generalize (x_nw S13 (fun _ => 0)) = S14 at sz1 f0 f1 f31 ⊢
  replace sz := sz1
  clear sz1
  refine x_putFA B (k := 6) 6 rfl rfl rfl xc_0 (by decide) rfl hin rfl nn_0_6 (fun h => absurd h (by decide)) ka q407 (fun _ h => h) dX1_init_55 ?_
  have sz1 : (x_up S14 (0) 6 (32)) (-1) 0 = 33 := by rw [x_up_o _ (by omega)]; exact sz
  replace f0 : (x_up S14 (0) 6 (32)) (0) = (x_g (x_g (x_g (x_g (x_g (x_df 0) 0 (1)) 2 (3)) 3 (17)) 4 (31)) 6 (32)) := (x_up_f _ _ _ _).trans (congrArg (fun g => x_g g 6 (32)) f0)
  replace f1 : (x_up S14 (0) 6 (32)) (1) = (x_g (x_g (x_df 1) 0 (0)) 1 (2)) := (x_up_o S14 (by omega)).trans f1
  replace f31 : (x_up S14 (0) 6 (32)) (31) = (fun _ => 0) := (x_up_o S14 (by omega)).trans f31
  generalize (x_up S14 (0) 6 (32)) = S15 at sz1 f0 f1 f31 ⊢
  replace sz := sz1
  clear sz1
  refine x_aload_n B dX1_init_58 rfl ?_
  refine x_bipush B dX1_init_59 (by decide) ?_
  refine x_newa B (t := 0) (atype := .int) (n := 54) rfl q241 (fun h => h) rfl ⟨by decide, by decide⟩ rfl ⟨by omega, by omega⟩ (by decide) (Nat.le_of_ble_eq_true rfl) (Nat.le_of_ble_eq_true rfl) dX1_init_61 (fun z_61 n_61 => ?_)
  rw [sz] at n_61 ⊢
  obtain ⟨κ9, hκ9⟩ : ∃ k_, k_ = x_ku κ8 33 (.inr (0, 54)) := ⟨_, rfl⟩
  rw [← hκ9]
  replace ka : κ9 (0) = some (.inl (0, 0)) := by rw [hκ9]; rw [x_ku_ne (by omega)]; exact ka
  have sz1 : (x_nw S15 (fun _ => 0)) (-1) 0 = 34 := by rw [x_nw_sz, sz]; omega
  replace f0 : (x_nw S15 (fun _ => 0)) (0) = (x_g (x_g (x_g (x_g (x_g (x_df 0) 0 (1)) 2 (3)) 3 (17)) 4 (31)) 6 (32)) := (x_nw_oth S15 (fun _ => 0) (by omega) (by omega)).trans f0
  replace f1 : (x_nw S15 (fun _ => 0)) (1) = (x_g (x_g (x_df 1) 0 (0)) 1 (2)) := (x_nw_oth S15 (fun _ => 0) (by omega) (by omega)).trans f1
  replace f31 : (x_nw S15 (fun _ => 0)) (31) = (fun _ => 0) := (x_nw_oth S15 (fun _ => 0) (by omega) (by omega)).trans f31
  generalize (x_nw S15 (fun _ => 0)) = S16 at sz1 f0 f1 f31 ⊢
  replace sz := sz1
  clear sz1
  refine x_putFA B (k := 8) 8 rfl rfl rfl xc_0 (by decide) rfl hin rfl nn_0_8 (fun h => absurd h (by decide)) ka q409 (fun _ h => h) dX1_init_63 ?_
  have sz1 : (x_up S16 (0) 8 (33)) (-1) 0 = 34 := by rw [x_up_o _ (by omega)]; exact sz
  replace f0 : (x_up S16 (0) 8 (33)) (0) = (x_g (x_g (x_g (x_g (x_g (x_g (x_df 0) 0 (1)) 2 (3)) 3 (17)) 4 (31)) 6 (32)) 8 (33)) := (x_up_f _ _ _ _).trans (congrArg (fun g => x_g g 8 (33)) f0)
  replace f1 : (x_up S16 (0) 8 (33)) (1) = (x_g (x_g (x_df 1) 0 (0)) 1 (2)) := (x_up_o S16 (by omega)).trans f1
  replace f31 : (x_up S16 (0) 8 (33)) (31) = (fun _ => 0) := (x_up_o S16 (by omega)).trans f31
  generalize (x_up S16 (0) 8 (33)) = S17 at sz1 f0 f1 f31 ⊢
  replace sz := sz1
  clear sz1
  refine x_aload_n B dX1_init_66 rfl ?_
  refine x_bipush B dX1_init_67 (by decide) ?_
  refine x_newa B (t := 0) (atype := .int) (n := 54) rfl q241 (fun h => h) rfl ⟨by decide, by decide⟩ rfl ⟨by omega, by omega⟩ (by decide) (Nat.le_of_ble_eq_true rfl) (Nat.le_of_ble_eq_true rfl) dX1_init_69 (fun z_69 n_69 => ?_)
  rw [sz] at n_69 ⊢
  obtain ⟨κ10, hκ10⟩ : ∃ k_, k_ = x_ku κ9 34 (.inr (0, 54)) := ⟨_, rfl⟩
  rw [← hκ10]
  replace ka : κ10 (0) = some (.inl (0, 0)) := by rw [hκ10]; rw [x_ku_ne (by omega)]; exact ka
  have sz1 : (x_nw S17 (fun _ => 0)) (-1) 0 = 35 := by rw [x_nw_sz, sz]; omega
  replace f0 : (x_nw S17 (fun _ => 0)) (0) = (x_g (x_g (x_g (x_g (x_g (x_g (x_df 0) 0 (1)) 2 (3)) 3 (17)) 4 (31)) 6 (32)) 8 (33)) := (x_nw_oth S17 (fun _ => 0) (by omega) (by omega)).trans f0
  replace f1 : (x_nw S17 (fun _ => 0)) (1) = (x_g (x_g (x_df 1) 0 (0)) 1 (2)) := (x_nw_oth S17 (fun _ => 0) (by omega) (by omega)).trans f1
  replace f31 : (x_nw S17 (fun _ => 0)) (31) = (fun _ => 0) := (x_nw_oth S17 (fun _ => 0) (by omega) (by omega)).trans f31
  generalize (x_nw S17 (fun _ => 0)) = S18 at sz1 f0 f1 f31 ⊢
  replace sz := sz1
  clear sz1
  refine x_putFA B (k := 9) 9 rfl rfl rfl xc_0 (by decide) rfl hin rfl nn_0_9 (fun h => absurd h (by decide)) ka q410 (fun _ h => h) dX1_init_71 ?_
  have sz1 : (x_up S18 (0) 9 (34)) (-1) 0 = 35 := by rw [x_up_o _ (by omega)]; exact sz
  replace f0 : (x_up S18 (0) 9 (34)) (0) = (x_g (x_g (x_g (x_g (x_g (x_g (x_g (x_df 0) 0 (1)) 2 (3)) 3 (17)) 4 (31)) 6 (32)) 8 (33)) 9 (34)) := (x_up_f _ _ _ _).trans (congrArg (fun g => x_g g 9 (34)) f0)
  replace f1 : (x_up S18 (0) 9 (34)) (1) = (x_g (x_g (x_df 1) 0 (0)) 1 (2)) := (x_up_o S18 (by omega)).trans f1
  replace f31 : (x_up S18 (0) 9 (34)) (31) = (fun _ => 0) := (x_up_o S18 (by omega)).trans f31
  generalize (x_up S18 (0) 9 (34)) = S19 at sz1 f0 f1 f31 ⊢
  replace sz := sz1
  clear sz1
  refine x_aload_n B dX1_init_74 rfl ?_
  refine x_bipush B dX1_init_75 (by decide) ?_
  refine x_newa B (t := 0) (atype := .int) (n := 54) rfl q241 (fun h => h) rfl ⟨by decide, by decide⟩ rfl ⟨by omega, by omega⟩ (by decide) (Nat.le_of_ble_eq_true rfl) (Nat.le_of_ble_eq_true rfl) dX1_init_77 (fun z_77 n_77 => ?_)
  rw [sz] at n_77 ⊢
  obtain ⟨κ11, hκ11⟩ : ∃ k_, k_ = x_ku κ10 35 (.inr (0, 54)) := ⟨_, rfl⟩
  rw [← hκ11]
  replace ka : κ11 (0) = some (.inl (0, 0)) := by rw [hκ11]; rw [x_ku_ne (by omega)]; exact ka
  have sz1 : (x_nw S19 (fun _ => 0)) (-1) 0 = 36 := by rw [x_nw_sz, sz]; omega
  replace f0 : (x_nw S19 (fun _ => 0)) (0) = (x_g (x_g (x_g (x_g (x_g (x_g (x_g (x_df 0) 0 (1)) 2 (3)) 3 (17)) 4 (31)) 6 (32)) 8 (33)) 9 (34)) := (x_nw_oth S19 (fun _ => 0) (by omega) (by omega)).trans f0
  replace f1 : (x_nw S19 (fun _ => 0)) (1) = (x_g (x_g (x_df 1) 0 (0)) 1 (2)) := (x_nw_oth S19 (fun _ => 0) (by omega) (by omega)).trans f1
  replace f31 : (x_nw S19 (fun _ => 0)) (31) = (fun _ => 0) := (x_nw_oth S19 (fun _ => 0) (by omega) (by omega)).trans f31
  generalize (x_nw S19 (fun _ => 0)) = S20 at sz1 f0 f1 f31 ⊢
  replace sz := sz1
  clear sz1
  refine x_putFA B (k := 10) 10 rfl rfl rfl xc_0 (by decide) rfl hin rfl nn_0_10 (fun h => absurd h (by decide)) ka q411 (fun _ h => h) dX1_init_79 ?_
  have sz1 : (x_up S20 (0) 10 (35)) (-1) 0 = 36 := by rw [x_up_o _ (by omega)]; exact sz
  replace f0 : (x_up S20 (0) 10 (35)) (0) = (x_g (x_g (x_g (x_g (x_g (x_g (x_g (x_g (x_df 0) 0 (1)) 2 (3)) 3 (17)) 4 (31)) 6 (32)) 8 (33)) 9 (34)) 10 (35)) := (x_up_f _ _ _ _).trans (congrArg (fun g => x_g g 10 (35)) f0)
  replace f1 : (x_up S20 (0) 10 (35)) (1) = (x_g (x_g (x_df 1) 0 (0)) 1 (2)) := (x_up_o S20 (by omega)).trans f1
  replace f31 : (x_up S20 (0) 10 (35)) (31) = (fun _ => 0) := (x_up_o S20 (by omega)).trans f31
  generalize (x_up S20 (0) 10 (35)) = S21 at sz1 f0 f1 f31 ⊢
  replace sz := sz1
  clear sz1
  refine x_aload_n B dX1_init_82 rfl ?_
  refine x_bipush B dX1_init_83 (by decide) ?_
  refine x_newa B (t := 2) (atype := .boolean) (n := 54) rfl q292 (fun h => h) rfl ⟨by decide, by decide⟩ rfl ⟨by omega, by omega⟩ (by decide) (Nat.le_of_ble_eq_true rfl) (Nat.le_of_ble_eq_true rfl) dX1_init_85 (fun z_85 n_85 => ?_)
  rw [sz] at n_85 ⊢
  obtain ⟨κ12, hκ12⟩ : ∃ k_, k_ = x_ku κ11 36 (.inr (2, 54)) := ⟨_, rfl⟩
  rw [← hκ12]
  replace ka : κ12 (0) = some (.inl (0, 0)) := by rw [hκ12]; rw [x_ku_ne (by omega)]; exact ka
  have sz1 : (x_nw S21 (fun _ => 0)) (-1) 0 = 37 := by rw [x_nw_sz, sz]; omega
  replace f0 : (x_nw S21 (fun _ => 0)) (0) = (x_g (x_g (x_g (x_g (x_g (x_g (x_g (x_g (x_df 0) 0 (1)) 2 (3)) 3 (17)) 4 (31)) 6 (32)) 8 (33)) 9 (34)) 10 (35)) := (x_nw_oth S21 (fun _ => 0) (by omega) (by omega)).trans f0
  replace f1 : (x_nw S21 (fun _ => 0)) (1) = (x_g (x_g (x_df 1) 0 (0)) 1 (2)) := (x_nw_oth S21 (fun _ => 0) (by omega) (by omega)).trans f1
  replace f31 : (x_nw S21 (fun _ => 0)) (31) = (fun _ => 0) := (x_nw_oth S21 (fun _ => 0) (by omega) (by omega)).trans f31
  generalize (x_nw S21 (fun _ => 0)) = S22 at sz1 f0 f1 f31 ⊢
  replace sz := sz1
  clear sz1
  refine x_putFA B (k := 11) 11 rfl rfl rfl xc_0 (by decide) rfl hin rfl nn_0_11 (fun h => absurd h (by decide)) ka q412 (fun _ h => h) dX1_init_87 ?_
  have sz1 : (x_up S22 (0) 11 (36)) (-1) 0 = 37 := by rw [x_up_o _ (by omega)]; exact sz
  replace f0 : (x_up S22 (0) 11 (36)) (0) = (x_g (x_g (x_g (x_g (x_g (x_g (x_g (x_g (x_g (x_df 0) 0 (1)) 2 (3)) 3 (17)) 4 (31)) 6 (32)) 8 (33)) 9 (34)) 10 (35)) 11 (36)) := (x_up_f _ _ _ _).trans (congrArg (fun g => x_g g 11 (36)) f0)
  replace f1 : (x_up S22 (0) 11 (36)) (1) = (x_g (x_g (x_df 1) 0 (0)) 1 (2)) := (x_up_o S22 (by omega)).trans f1
  replace f31 : (x_up S22 (0) 11 (36)) (31) = (fun _ => 0) := (x_up_o S22 (by omega)).trans f31
  generalize (x_up S22 (0) 11 (36)) = S23 at sz1 f0 f1 f31 ⊢
  replace sz := sz1
  clear sz1
  refine x_aload_n B dX1_init_90 rfl ?_
  refine x_new B xc_4 q266 q267 q117 (xd_4 E) xe_4 (Nat.le_of_ble_eq_true rfl) (Nat.le_of_ble_eq_true rfl) dX1_init_91 (fun z_91 n_91 => ?_)
  rw [sz] at n_91 ⊢
  obtain ⟨κ13, hκ13⟩ : ∃ k_, k_ = x_ku κ12 37 (.inl (4, 0)) := ⟨_, rfl⟩
  rw [← hκ13]
  replace ka : κ13 (0) = some (.inl (0, 0)) := by rw [hκ13]; rw [x_ku_ne (by omega)]; exact ka
  have kt : κ13 (37) = some (.inl (4, 0)) := by rw [hκ13]; exact x_ku_s _ _ _
  have sz1 : (x_nw S23 (x_df 4)) (-1) 0 = 38 := by rw [x_nw_sz, sz]; omega
  replace f0 : (x_nw S23 (x_df 4)) (0) = (x_g (x_g (x_g (x_g (x_g (x_g (x_g (x_g (x_g (x_df 0) 0 (1)) 2 (3)) 3 (17)) 4 (31)) 6 (32)) 8 (33)) 9 (34)) 10 (35)) 11 (36)) := (x_nw_oth S23 (x_df 4) (by omega) (by omega)).trans f0
  replace f1 : (x_nw S23 (x_df 4)) (1) = (x_g (x_g (x_df 1) 0 (0)) 1 (2)) := (x_nw_oth S23 (x_df 4) (by omega) (by omega)).trans f1
  replace f31 : (x_nw S23 (x_df 4)) (31) = (fun _ => 0) := (x_nw_oth S23 (x_df 4) (by omega) (by omega)).trans f31
  generalize (x_nw S23 (x_df 4)) = S24 at sz1 f0 f1 f31 ⊢
  replace sz := sz1
  clear sz1
  refine x_dup B dX1_init_94 (by first | rfl | exact x_cr _ _) ?_
  refine x_aload_n B dX1_init_95 rfl ?_
  refine x_go (x_rIN B (by omega) (c_X5_init (a := 37) (by omega) kt) q268 q269 q117 q270 rfl hd_X5_init ⟨by decide, by decide⟩ ⟨(Nat.le_of_ble_eq_true rfl), (Nat.le_of_ble_eq_true rfl)⟩ rfl rfl (by simp [x_cr, x_c1, x_c2]) dX1_init_96) (fun v_96 X_96 p_96 => ?_)
  obtain ⟨κ14, hκ14⟩ : ∃ k_, k_ = x_ku κ13 37 (.inl (4, 1)) := ⟨_, rfl⟩
  rw [← hκ14]
  replace ka : κ14 (0) = some (.inl (0, 0)) := by rw [hκ14]; rw [x_ku_ne (by omega)]; exact ka
  obtain ⟨rfl, t1⟩ := p_96
  have sz1 : X_96 (-1) 0 = 38 := by rw [t1 _ (by omega)]; exact sz
  replace f0 : X_96 (0) = (x_g (x_g (x_g (x_g (x_g (x_g (x_g (x_g (x_g (x_df 0) 0 (1)) 2 (3)) 3 (17)) 4 (31)) 6 (32)) 8 (33)) 9 (34)) 10 (35)) 11 (36)) := (t1 _ (by omega)).trans f0
  replace f1 : X_96 (1) = (x_g (x_g (x_df 1) 0 (0)) 1 (2)) := (t1 _ (by omega)).trans f1
  replace f31 : X_96 (31) = (fun _ => 0) := (t1 _ (by omega)).trans f31
  generalize X_96 = S25 at sz1 f0 f1 f31 ⊢
  replace sz := sz1
  clear sz1
  refine x_putFO B (k := 13) 13 rfl rfl rfl xc_0 (by decide) rfl hin rfl nn_0_13 (fun h => absurd h (by decide)) ka q414 (fun _ h => h) dX1_init_99 ?_
  have sz1 : (x_up S25 (0) 13 (37)) (-1) 0 = 38 := by rw [x_up_o _ (by omega)]; exact sz
  replace f0 : (x_up S25 (0) 13 (37)) (0) = (x_g (x_g (x_g (x_g (x_g (x_g (x_g (x_g (x_g (x_g (x_df 0) 0 (1)) 2 (3)) 3 (17)) 4 (31)) 6 (32)) 8 (33)) 9 (34)) 10 (35)) 11 (36)) 13 (37)) := (x_up_f _ _ _ _).trans (congrArg (fun g => x_g g 13 (37)) f0)
  replace f1 : (x_up S25 (0) 13 (37)) (1) = (x_g (x_g (x_df 1) 0 (0)) 1 (2)) := (x_up_o S25 (by omega)).trans f1
  replace f31 : (x_up S25 (0) 13 (37)) (31) = (fun _ => 0) := (x_up_o S25 (by omega)).trans f31
  generalize (x_up S25 (0) 13 (37)) = S26 at sz1 f0 f1 f31 ⊢
  replace sz := sz1
  clear sz1
  refine x_aload_n B dX1_init_102 rfl ?_
  refine x_new B xc_5 q293 q294 q118 (xd_5 E) xe_5 (Nat.le_of_ble_eq_true rfl) (Nat.le_of_ble_eq_true rfl) dX1_init_103 (fun z_103 n_103 => ?_)
  rw [sz] at n_103 ⊢
  obtain ⟨κ15, hκ15⟩ : ∃ k_, k_ = x_ku κ14 38 (.inl (5, 0)) := ⟨_, rfl⟩
  rw [← hκ15]
  replace ka : κ15 (0) = some (.inl (0, 0)) := by rw [hκ15]; rw [x_ku_ne (by omega)]; exact ka
  have kt : κ15 (38) = some (.inl (5, 0)) := by rw [hκ15]; exact x_ku_s _ _ _
  have sz1 : (x_nw S26 (x_df 5)) (-1) 0 = 39 := by rw [x_nw_sz, sz]; omega
  replace f0 : (x_nw S26 (x_df 5)) (0) = (x_g (x_g (x_g (x_g (x_g (x_g (x_g (x_g (x_g (x_g (x_df 0) 0 (1)) 2 (3)) 3 (17)) 4 (31)) 6 (32)) 8 (33)) 9 (34)) 10 (35)) 11 (36)) 13 (37)) := (x_nw_oth S26 (x_df 5) (by omega) (by omega)).trans f0
  replace f1 : (x_nw S26 (x_df 5)) (1) = (x_g (x_g (x_df 1) 0 (0)) 1 (2)) := (x_nw_oth S26 (x_df 5) (by omega) (by omega)).trans f1
  replace f31 : (x_nw S26 (x_df 5)) (31) = (fun _ => 0) := (x_nw_oth S26 (x_df 5) (by omega) (by omega)).trans f31
  have g38 : (x_nw S26 (x_df 5)) 38 8 = 0 := by have hh := x_nw_at S26 (x_df 5) (by omega); rw [sz] at hh; rw [hh]; rfl
  generalize (x_nw S26 (x_df 5)) = S27 at sz1 f0 f1 f31 g38 ⊢
  replace sz := sz1
  clear sz1
  refine x_dup B dX1_init_106 (by first | rfl | exact x_cr _ _) ?_
  refine x_aload_n B dX1_init_107 rfl ?_
  refine x_go (x_rINA B hAO (by omega) (c_X6_init (a := 38) (by omega) (by omega) kt) q295 q296 q118 q297 rfl hd_X6_init ⟨by decide, by decide⟩ ⟨(Nat.le_of_ble_eq_true rfl), (Nat.le_of_ble_eq_true rfl)⟩ rfl rfl (by simp [x_cr, x_c1, x_c2]) dX1_init_108) (fun v_108 X_108 p_108 => ?_)
  obtain ⟨κ16, hκ16⟩ : ∃ k_, k_ = k_free κ15 38 := ⟨_, rfl⟩
  rw [← hκ16]
  replace ka : κ16 (0) = some (.inl (0, 0)) := by rw [hκ16]; unfold k_free; rw [x_ku_ne (by omega)]; repeat (rw [x_km_o (by omega) (by omega)]); repeat (rw [x_ku_ne (by omega)]); exact ka
  obtain ⟨rfl, t1, t2, t3, t4⟩ := p_108
  replace g38 : X_108 38 8 = 0 := t3.trans g38
  have sz1 : X_108 (-1) 0 = 53 := by rw [t2]; omega
  replace f0 : X_108 (0) = (x_g (x_g (x_g (x_g (x_g (x_g (x_g (x_g (x_g (x_g (x_df 0) 0 (1)) 2 (3)) 3 (17)) 4 (31)) 6 (32)) 8 (33)) 9 (34)) 10 (35)) 11 (36)) 13 (37)) := (t1 _ (by omega) (by omega)).trans f0
  replace f1 : X_108 (1) = (x_g (x_g (x_df 1) 0 (0)) 1 (2)) := (t1 _ (by omega) (by omega)).trans f1
  replace f31 : X_108 (31) = (fun _ => 0) := (t1 _ (by omega) (by omega)).trans f31
  have s0 : X_108 (50) = (fun _ => 0) := funext fun k => t4 0 (by omega) (by omega) k
  have s1 : X_108 (51) = (fun _ => 0) := funext fun k => t4 1 (by omega) (by omega) k
  have s2 : X_108 (52) = (fun _ => 0) := funext fun k => t4 2 (by omega) (by omega) k
  obtain ⟨g_, f38⟩ : ∃ g_, X_108 38 = g_ := ⟨_, rfl⟩
  rw [f38] at g38
  generalize X_108 = S28 at sz1 f0 f1 f31 s0 s1 s2 f38 ⊢
  replace sz := sz1
  clear sz1
  refine x_putFO B (k := 14) 14 rfl rfl rfl xc_0 (by decide) rfl hin rfl nn_0_14 (fun h => absurd h (by decide)) ka q415 (fun _ h => h) dX1_init_111 ?_
  have sz1 : (x_up S28 (0) 14 (38)) (-1) 0 = 53 := by rw [x_up_o _ (by omega)]; exact sz
  replace f0 : (x_up S28 (0) 14 (38)) (0) = (x_g (x_g (x_g (x_g (x_g (x_g (x_g (x_g (x_g (x_g (x_g (x_df 0) 0 (1)) 2 (3)) 3 (17)) 4 (31)) 6 (32)) 8 (33)) 9 (34)) 10 (35)) 11 (36)) 13 (37)) 14 (38)) := (x_up_f _ _ _ _).trans (congrArg (fun g => x_g g 14 (38)) f0)
  replace f1 : (x_up S28 (0) 14 (38)) (1) = (x_g (x_g (x_df 1) 0 (0)) 1 (2)) := (x_up_o S28 (by omega)).trans f1
  replace f31 : (x_up S28 (0) 14 (38)) (31) = (fun _ => 0) := (x_up_o S28 (by omega)).trans f31
  replace s0 : (x_up S28 (0) 14 (38)) (50) = (fun _ => 0) := (x_up_o S28 (by omega)).trans s0
  replace s1 : (x_up S28 (0) 14 (38)) (51) = (fun _ => 0) := (x_up_o S28 (by omega)).trans s1
  replace s2 : (x_up S28 (0) 14 (38)) (52) = (fun _ => 0) := (x_up_o S28 (by omega)).trans s2
  replace f38 : (x_up S28 (0) 14 (38)) (38) = g_ := (x_up_o S28 (by omega)).trans f38
  generalize (x_up S28 (0) 14 (38)) = S29 at sz1 f0 f1 f31 s0 s1 s2 f38 ⊢
  replace sz := sz1
  clear sz1
  refine x_aload_n B dX1_init_114 rfl ?_
  refine x_bipush B dX1_init_115 (by decide) ?_
  refine x_bipush B dX1_init_117 (by decide) ?_
  refine x_mnew B (t := 14) (t2 := 1) (ty := .long) (n := 6) (k := 122) hAO.1 (by rw [show "[" ++ (FieldType.array .long).toString = "[[J" from by decide +kernel]; exact q328) q291 rfl rfl rfl rfl (fun h => h) (by decide +kernel) rfl ⟨by decide, by decide⟩ rfl rfl rfl ⟨by decide, by decide⟩ ⟨by decide, by decide⟩ (Nat.le_of_ble_eq_true rfl) (Nat.le_of_ble_eq_true rfl) (Nat.le_of_ble_eq_true rfl) dX1_init_119 (fun z_119 n_119 => ?_)
  rw [sz] at n_119 ⊢
  obtain ⟨κ17, hκ17⟩ : ∃ k_, k_ = x_km κ16 53 6 14 1 122 := ⟨_, rfl⟩
  rw [← hκ17]
  replace ka : κ17 (0) = some (.inl (0, 0)) := by rw [hκ17]; rw [x_km_o (by omega) (by omega)]; exact ka
  have sz1 : (x_mn S29 6) (-1) 0 = 60 := by rw [x_mn_sz, sz]; omega
  replace f0 : (x_mn S29 6) (0) = (x_g (x_g (x_g (x_g (x_g (x_g (x_g (x_g (x_g (x_g (x_g (x_df 0) 0 (1)) 2 (3)) 3 (17)) 4 (31)) 6 (32)) 8 (33)) 9 (34)) 10 (35)) 11 (36)) 13 (37)) 14 (38)) := (x_mn_o S29 (by omega) (by omega) (by omega)).trans f0
  replace f1 : (x_mn S29 6) (1) = (x_g (x_g (x_df 1) 0 (0)) 1 (2)) := (x_mn_o S29 (by omega) (by omega) (by omega)).trans f1
  replace f31 : (x_mn S29 6) (31) = (fun _ => 0) := (x_mn_o S29 (by omega) (by omega) (by omega)).trans f31
  replace s0 : (x_mn S29 6) (50) = (fun _ => 0) := (x_mn_o S29 (by omega) (by omega) (by omega)).trans s0
  replace s1 : (x_mn S29 6) (51) = (fun _ => 0) := (x_mn_o S29 (by omega) (by omega) (by omega)).trans s1
  replace s2 : (x_mn S29 6) (52) = (fun _ => 0) := (x_mn_o S29 (by omega) (by omega) (by omega)).trans s2
  replace f38 : (x_mn S29 6) (38) = g_ := (x_mn_o S29 (by omega) (by omega) (by omega)).trans f38
  generalize (x_mn S29 6) = S30 at sz1 f0 f1 f31 s0 s1 s2 f38 ⊢
  replace sz := sz1
  clear sz1
  refine x_putFA B (k := 15) 15 rfl rfl rfl xc_0 (by decide) rfl hin rfl nn_0_15 (fun h => absurd h (by decide)) ka q416 (fun _ h => h) dX1_init_123 ?_
  have sz1 : (x_up S30 (0) 15 (53)) (-1) 0 = 60 := by rw [x_up_o _ (by omega)]; exact sz
  replace f0 : (x_up S30 (0) 15 (53)) (0) = (x_g (x_g (x_g (x_g (x_g (x_g (x_g (x_g (x_g (x_g (x_g (x_g (x_df 0) 0 (1)) 2 (3)) 3 (17)) 4 (31)) 6 (32)) 8 (33)) 9 (34)) 10 (35)) 11 (36)) 13 (37)) 14 (38)) 15 (53)) := (x_up_f _ _ _ _).trans (congrArg (fun g => x_g g 15 (53)) f0)
  replace f1 : (x_up S30 (0) 15 (53)) (1) = (x_g (x_g (x_df 1) 0 (0)) 1 (2)) := (x_up_o S30 (by omega)).trans f1
  replace f31 : (x_up S30 (0) 15 (53)) (31) = (fun _ => 0) := (x_up_o S30 (by omega)).trans f31
  replace s0 : (x_up S30 (0) 15 (53)) (50) = (fun _ => 0) := (x_up_o S30 (by omega)).trans s0
  replace s1 : (x_up S30 (0) 15 (53)) (51) = (fun _ => 0) := (x_up_o S30 (by omega)).trans s1
  replace s2 : (x_up S30 (0) 15 (53)) (52) = (fun _ => 0) := (x_up_o S30 (by omega)).trans s2
  replace f38 : (x_up S30 (0) 15 (53)) (38) = g_ := (x_up_o S30 (by omega)).trans f38
  generalize (x_up S30 (0) 15 (53)) = S31 at sz1 f0 f1 f31 s0 s1 s2 f38 ⊢
  replace sz := sz1
  clear sz1
  refine x_aload_n B dX1_init_126 rfl ?_
  refine x_new B xc_6 q329 q330 q119 (xd_6 E) xe_6 (Nat.le_of_ble_eq_true rfl) (Nat.le_of_ble_eq_true rfl) dX1_init_127 (fun z_127 n_127 => ?_)
  rw [sz] at n_127 ⊢
  obtain ⟨κ18, hκ18⟩ : ∃ k_, k_ = x_ku κ17 60 (.inl (6, 0)) := ⟨_, rfl⟩
  rw [← hκ18]
  replace ka : κ18 (0) = some (.inl (0, 0)) := by rw [hκ18]; rw [x_ku_ne (by omega)]; exact ka
  have kt : κ18 (60) = some (.inl (6, 0)) := by rw [hκ18]; exact x_ku_s _ _ _
  have sz1 : (x_nw S31 (x_df 6)) (-1) 0 = 61 := by rw [x_nw_sz, sz]; omega
  replace f0 : (x_nw S31 (x_df 6)) (0) = (x_g (x_g (x_g (x_g (x_g (x_g (x_g (x_g (x_g (x_g (x_g (x_g (x_df 0) 0 (1)) 2 (3)) 3 (17)) 4 (31)) 6 (32)) 8 (33)) 9 (34)) 10 (35)) 11 (36)) 13 (37)) 14 (38)) 15 (53)) := (x_nw_oth S31 (x_df 6) (by omega) (by omega)).trans f0
  replace f1 : (x_nw S31 (x_df 6)) (1) = (x_g (x_g (x_df 1) 0 (0)) 1 (2)) := (x_nw_oth S31 (x_df 6) (by omega) (by omega)).trans f1
  replace f31 : (x_nw S31 (x_df 6)) (31) = (fun _ => 0) := (x_nw_oth S31 (x_df 6) (by omega) (by omega)).trans f31
  replace s0 : (x_nw S31 (x_df 6)) (50) = (fun _ => 0) := (x_nw_oth S31 (x_df 6) (by omega) (by omega)).trans s0
  replace s1 : (x_nw S31 (x_df 6)) (51) = (fun _ => 0) := (x_nw_oth S31 (x_df 6) (by omega) (by omega)).trans s1
  replace s2 : (x_nw S31 (x_df 6)) (52) = (fun _ => 0) := (x_nw_oth S31 (x_df 6) (by omega) (by omega)).trans s2
  replace f38 : (x_nw S31 (x_df 6)) (38) = g_ := (x_nw_oth S31 (x_df 6) (by omega) (by omega)).trans f38
  generalize (x_nw S31 (x_df 6)) = S32 at sz1 f0 f1 f31 s0 s1 s2 f38 ⊢
  replace sz := sz1
  clear sz1
  refine x_dup B dX1_init_130 (by first | rfl | exact x_cr _ _) ?_
  refine x_aload_n B dX1_init_131 rfl ?_
  refine x_go (x_rIN B (by omega) (c_X7_init (a := 60) (by omega) (by omega) kt) q331 q332 q119 q333 rfl hd_X7_init ⟨by decide, by decide⟩ ⟨(Nat.le_of_ble_eq_true rfl), (Nat.le_of_ble_eq_true rfl)⟩ rfl rfl (by simp [x_cr, x_c1, x_c2]) dX1_init_132) (fun v_132 X_132 p_132 => ?_)
  obtain ⟨κ19, hκ19⟩ : ∃ k_, k_ = k_duel κ18 60 := ⟨_, rfl⟩
  rw [← hκ19]
  replace ka : κ19 (0) = some (.inl (0, 0)) := by rw [hκ19]; unfold k_duel; repeat (rw [x_ku_ne (by omega)]); exact ka
  obtain ⟨rfl, t1, t2⟩ := p_132
  have sz1 : X_132 (-1) 0 = 64 := by rw [t2]; omega
  replace f0 : X_132 (0) = (x_g (x_g (x_g (x_g (x_g (x_g (x_g (x_g (x_g (x_g (x_g (x_g (x_df 0) 0 (1)) 2 (3)) 3 (17)) 4 (31)) 6 (32)) 8 (33)) 9 (34)) 10 (35)) 11 (36)) 13 (37)) 14 (38)) 15 (53)) := (t1 _ (by omega) (by omega)).trans f0
  replace f1 : X_132 (1) = (x_g (x_g (x_df 1) 0 (0)) 1 (2)) := (t1 _ (by omega) (by omega)).trans f1
  replace f31 : X_132 (31) = (fun _ => 0) := (t1 _ (by omega) (by omega)).trans f31
  replace s0 : X_132 (50) = (fun _ => 0) := (t1 _ (by omega) (by omega)).trans s0
  replace s1 : X_132 (51) = (fun _ => 0) := (t1 _ (by omega) (by omega)).trans s1
  replace s2 : X_132 (52) = (fun _ => 0) := (t1 _ (by omega) (by omega)).trans s2
  replace f38 : X_132 (38) = g_ := (t1 _ (by omega) (by omega)).trans f38
  generalize X_132 = S33 at sz1 f0 f1 f31 s0 s1 s2 f38 ⊢
  replace sz := sz1
  clear sz1
  refine x_putFO B (k := 16) 16 rfl rfl rfl xc_0 (by decide) rfl hin rfl nn_0_16 (fun h => absurd h (by decide)) ka q417 (fun _ h => h) dX1_init_135 ?_
  have sz1 : (x_up S33 (0) 16 (60)) (-1) 0 = 64 := by rw [x_up_o _ (by omega)]; exact sz
  replace f0 : (x_up S33 (0) 16 (60)) (0) = (x_g (x_g (x_g (x_g (x_g (x_g (x_g (x_g (x_g (x_g (x_g (x_g (x_g (x_df 0) 0 (1)) 2 (3)) 3 (17)) 4 (31)) 6 (32)) 8 (33)) 9 (34)) 10 (35)) 11 (36)) 13 (37)) 14 (38)) 15 (53)) 16 (60)) := (x_up_f _ _ _ _).trans (congrArg (fun g => x_g g 16 (60)) f0)
  replace f1 : (x_up S33 (0) 16 (60)) (1) = (x_g (x_g (x_df 1) 0 (0)) 1 (2)) := (x_up_o S33 (by omega)).trans f1
  replace f31 : (x_up S33 (0) 16 (60)) (31) = (fun _ => 0) := (x_up_o S33 (by omega)).trans f31
  replace s0 : (x_up S33 (0) 16 (60)) (50) = (fun _ => 0) := (x_up_o S33 (by omega)).trans s0
  replace s1 : (x_up S33 (0) 16 (60)) (51) = (fun _ => 0) := (x_up_o S33 (by omega)).trans s1
  replace s2 : (x_up S33 (0) 16 (60)) (52) = (fun _ => 0) := (x_up_o S33 (by omega)).trans s2
  replace f38 : (x_up S33 (0) 16 (60)) (38) = g_ := (x_up_o S33 (by omega)).trans f38
  generalize (x_up S33 (0) 16 (60)) = S34 at sz1 f0 f1 f31 s0 s1 s2 f38 ⊢
  replace sz := sz1
  clear sz1
  refine x_rip B (a := 0) (ci := 0) ka (fun j q hq => ?_) ?_
  · match j, hq with
    | 0, hq => cases hq; rw [f0]; rfl
    | 1, hq => cases hq
    | 2, hq => cases hq; rw [f0]; rfl
    | 3, hq => cases hq; rw [f0]; rfl
    | 4, hq => cases hq; rw [f0]; rfl
    | 5, hq => cases hq
    | 6, hq => cases hq; rw [f0]; rfl
    | 7, hq => cases hq
    | 8, hq => cases hq; rw [f0]; rfl
    | 9, hq => cases hq; rw [f0]; rfl
    | 10, hq => cases hq; rw [f0]; rfl
    | 11, hq => cases hq; rw [f0]; rfl
    | 12, hq => cases hq
    | 13, hq => cases hq; rw [f0]; rfl
    | 14, hq => cases hq; rw [f0]; rfl
    | 15, hq => cases hq; rw [f0]; rfl
    | 16, hq => cases hq; rw [f0]; rfl
    | 17, hq => cases hq
    | j + 18, hq => cases (show x_fx 0 (j + 18) = none from rfl).symm.trans hq
  refine x_sub (κ2 := k_of k_n0) (by rw [hκ19]; rw [hκ18]; rw [hκ17]; rw [hκ16]; rw [hκ15]; rw [hκ14]; rw [hκ13]; rw [hκ12]; rw [hκ11]; rw [hκ10]; rw [hκ9]; rw [hκ8]; rw [hκ7]; rw [hκ6]; rw [hκ5]; rw [hκ4]; rw [hκ3]; rw [hκ2]; rw [hκ1]; rw [hκ0]; exact k_sub (by decide +kernel)) ?_
  have ka : k_of k_n0 0 = some (.inl (0, 1)) := rfl
  have e2 : S34 0 2 = 3 := by rw [f0]; rfl
  have n12 : S34 1 2 = 0 := by rw [f1]; rfl
  have hIn : n_I (k_of k_n0) S34 := ⟨k_n0_T, rfl, by rw [n12]; omega, fun l l1 l2 => by rw [n12] at l2; omega, fun l l1 l2 => by rw [n12] at l2; omega⟩
  refine x_aload_n B dX1_init_138 rfl ?_
  refine x_getR B (k := 2) 2 rfl rfl xc_0 (by decide) ka (Or.inl q400) (fun _ h => h) dX1_init_139 (?_)
  rw [e2]
  refine x_go (x_rV B (show (k_of k_n0) 3 = some (.inl (2, 1)) from rfl) (show x_cl[2]? = some _ from rfl) (c_X2_begins hIn rfl (by omega) (by omega)) (lw_V q355 q356 q357 q114 q358) hv_X2_begins ⟨by decide, by decide⟩ ⟨(Nat.le_of_ble_eq_true rfl), (Nat.le_of_ble_eq_true rfl)⟩ rfl rfl (by simp [x_cr, x_c1, x_c2]) dX1_init_142) (fun v_142 X_142 p_142 => ?_)
  obtain ⟨rfl, hfr, hM, -⟩ := p_142
  refine x_wide (cells' := 63) (slots' := 187045) (Nat.le_of_ble_eq_true rfl) (Nat.le_of_ble_eq_true rfl) ?_
  refine x_vret B (fun _ _ h => h) ?_ dX1_init_145
  have o : ∀ b, (b < 3 ∨ 17 ≤ b) → X_142 b = S34 b := fun b hb => hfr b (by omega)
  have m1 : X_142 3 1 = 0 ∧ X_142 3 2 = 0 ∧ X_142 3 3 = 0 := by
    have c1 := congrFun (congrFun hM (-1)) 1
    have c2 := congrFun (congrFun hM (-1)) 2
    have c3 := congrFun (congrFun hM (-1)) 3
    rw [c_M_g (by omega)] at c1 c2 c3
    unfold m_beg at c1 c2 c3
    rw [m_lift_g.1] at c1
    rw [m_lift_g.2.1] at c2
    rw [m_lift_g.2.2] at c3
    exact ⟨by rw [c1]; simp [m_ck], c2, c3⟩
  refine ⟨rfl, by rw [o _ (by omega)]; exact sz, ⟨?_, ?_, ?_, ?_⟩, ⟨?_, ?_⟩, fun q => by rw [o 31 (by omega), f31], by rw [o 38 (by omega), f38]; exact g38, fun u u1 u2 k => ?_, m1⟩
  · rw [o 0 (by omega), f0]; rfl
  · rw [o 0 (by omega), f0]; rfl
  · rw [o 0 (by omega), f0]; rfl
  · rw [o 0 (by omega), f0]; rfl
  · rw [o 1 (by omega), f1]; rfl
  · rw [o 1 (by omega), f1]; rfl
  · rcases (show u = 0 ∨ u = 1 ∨ u = 2 by omega) with e | e | e <;> rw [e]
    · rw [show (50 : Int) + 0 = 50 from rfl, o 50 (by omega), s0]
    · rw [show (50 : Int) + 1 = 51 from rfl, o 51 (by omega), s1]
    · rw [show (50 : Int) + 2 = 52 from rfl, o 52 (by omega), s2]
