def k_tab (κ : x_Ka) (a : Int) : x_Ka := x_ku (x_ku (x_ku κ (a + 1) (.inr (0, 6))) (a + 2) (.inr (0, 6))) a (.inl (9, 1))
def k_lif (κ : x_Ka) (a : Int) : x_Ka := x_ku (x_ku (x_ku (x_ku (x_ku (k_tab (x_ku (k_tab (x_ku (k_tab (x_ku (x_ku κ (a + 1) (.inr (6, 3))) (a + 2) (.inl (9, 0))) (a + 2)) (a + 5) (.inl (9, 0))) (a + 5)) (a + 8) (.inl (9, 0))) (a + 8)) (a + 11) (.inr (0, 3))) (a + 12) (.inr (0, 3))) (a + 13) (.inr (0, 3))) (a + 1) (.inr (11, 3))) a (.inl (8, 1))
theorem x_ku_ne {κ : x_Ka} {a b : Int} {k : x_k} (h : b ≠ a) : x_ku κ a k b = κ b := if_neg h
theorem c_X10_init {l : Launch} {E : x_E} {κ : x_Ka} {X : x_X} {a : Int} (ha : 0 ≤ a) (sz : X (-1) 0 = a + 1) (hk : κ a = some (.inl (8, 0))) : x_Met l yX10_init cX10_init 1 none 2 13 57 E κ X [x_rf E a] (k_lif κ a) (fun v_ Y_ => v_ = none ∧ (∀ b, b ≠ -1 → (b < a ∨ a + 13 < b) → Y_ b = X b) ∧ Y_ (-1) 0 = a + 14 ∧ ∀ t, 0 ≤ t → t ≤ 2 → Y_ (a + 2 + 3 * t) 2 = 0) := by
  refine x_Met.of [(false, x_rf E a)] [some (x_rf E a)] 0 (by decide) rfl rfl ⟨x_cr E (a), trivial⟩ rfl rfl ?_
  intro p e s m args below meth c hargs hin B
  have ka := hk
  have fr : ∀ b, b ≠ -1 → (b < a ∨ a + 13 < b) → X b = X b := fun _ _ _ => rfl
  refine x_aload_n B dX10_init_0 rfl ?_
  refine x_objI B (ha := by omega) q497 dX10_init_1 (by decide) (by simp [x_cr, x_c1, x_c2]) ?_
  refine x_aload_n B dX10_init_4 rfl ?_
  refine x_iconst B dX10_init_5 ?_
  refine x_newq B (t := 6) q498 q499 rfl rfl rfl ⟨by omega, by omega⟩ (by decide) (by decide) dX10_init_6 (fun z_6 n_6 => ?_)
  rw [sz] at n_6 ⊢
  obtain ⟨κ1, hκ1⟩ : ∃ k_, k_ = x_ku κ (a + 1) (.inr (6, 3)) := ⟨_, rfl⟩
  rw [← hκ1]
  have kb : κ1 (a + 1) = some (.inr (6, 3)) := by rw [hκ1]; exact x_ku_s _ _ _
  replace ka : κ1 (a) = some (.inl (8, 0)) := by rw [hκ1, x_ku_ne (by omega)]; exact ka
  replace fr : ∀ b, b ≠ -1 → (b < a ∨ a + 13 < b) → (x_nw X (fun _ => -1)) b = X b := fun b b1 b2 => (x_nw_oth X (fun _ => -1) b1 (by omega)).trans (fr b b1 b2)
  have sz1 : (x_nw X (fun _ => -1)) (-1) 0 = a + 2 := by rw [x_nw_sz, sz]; omega
  generalize (x_nw X (fun _ => -1)) = S1 at fr sz1  ⊢
  replace sz := sz1
  clear sz1
  refine x_dup B dX10_init_9 (by first | rfl | exact x_cr _ _) ?_
  refine x_iconst B dX10_init_10 ?_
  refine x_new B xc_9 q498 q500 q125 (xd_9 E) xe_9 (by decide) (by decide) dX10_init_11 (fun z_11 n_11 => ?_)
  rw [sz] at n_11 ⊢
  obtain ⟨κ2, hκ2⟩ : ∃ k_, k_ = x_ku κ1 (a + 2) (.inl (9, 0)) := ⟨_, rfl⟩
  rw [← hκ2]
  have kt : κ2 (a + 2) = some (.inl (9, 0)) := by rw [hκ2]; exact x_ku_s _ _ _
  replace kb : κ2 (a + 1) = some (.inr (6, 3)) := by rw [hκ2, x_ku_ne (by omega)]; exact kb
  replace ka : κ2 (a) = some (.inl (8, 0)) := by rw [hκ2, x_ku_ne (by omega)]; exact ka
  replace fr : ∀ b, b ≠ -1 → (b < a ∨ a + 13 < b) → (x_nw S1 (x_df 9)) b = X b := fun b b1 b2 => (x_nw_oth S1 (x_df 9) b1 (by omega)).trans (fr b b1 b2)
  have sz1 : (x_nw S1 (x_df 9)) (-1) 0 = a + 3 := by rw [x_nw_sz, sz]; omega
  have d0 : (x_nw S1 (x_df 9)) (a + 2) 2 = 0 := by have hh := x_nw_at S1 (x_df 9) (by omega); rw [sz] at hh; rw [hh]; rfl
  generalize (x_nw S1 (x_df 9)) = S2 at fr sz1 d0 ⊢
  replace sz := sz1
  clear sz1
  refine x_dup B dX10_init_14 (by first | rfl | exact x_cr _ _) ?_
  refine x_go (x_rIN B (by omega) (c_X11_init (a := a + 2) (by omega) (by rw [sz]; omega) kt) q501 q502 q125 q503 rfl hd_X11_init ⟨by decide, by decide⟩ ⟨by decide, by decide⟩ rfl rfl (by simp [x_cr, x_c1, x_c2]) dX10_init_15) (fun v_15 X_15 p_15 => ?_)
  obtain ⟨κ3, hκ3⟩ : ∃ k_, k_ = x_ku (x_ku (x_ku κ2 (a + 2 + 1) (.inr (0, 6))) (a + 2 + 2) (.inr (0, 6))) (a + 2) (.inl (9, 1)) := ⟨_, rfl⟩
  rw [← hκ3]
  replace kt : κ3 (a + 2) = some (.inl (9, 1)) := by rw [hκ3]; exact x_ku_s _ _ _
  replace kb : κ3 (a + 1) = some (.inr (6, 3)) := by rw [hκ3, x_ku_ne (by omega), x_ku_ne (by omega), x_ku_ne (by omega)]; exact kb
  replace ka : κ3 (a) = some (.inl (8, 0)) := by rw [hκ3, x_ku_ne (by omega), x_ku_ne (by omega), x_ku_ne (by omega)]; exact ka
  obtain ⟨rfl, t1, t2, t3, -⟩ := p_15
  replace fr : ∀ b, b ≠ -1 → (b < a ∨ a + 13 < b) → X_15 b = X b := fun b b1 b2 => (t1 b b1 (by omega) (by omega) (by omega)).trans (fr b b1 b2)
  have sz1 : X_15 (-1) 0 = a + 5 := by rw [t2]; omega
  replace d0 : X_15 (a + 2) 2 = 0 := (t3.2.2 2 (by decide) (by decide)).trans d0
  clear t1 t2 t3
  generalize X_15 = S3 at fr sz1 d0 ⊢
  replace sz := sz1
  clear sz1
  refine x_aast B (t := 6) (n := 3) (v := a + 2) (ci := 9) (b := 1) kb rfl rfl rfl kt (show x_cl[9]? = some _ from rfl) ⟨by omega, by omega⟩ dX10_init_18 ?_
  replace fr : ∀ b, b ≠ -1 → (b < a ∨ a + 13 < b) → (x_up S3 (a + 1) 0 (a + 2)) b = X b := fun b b1 b2 => (x_up_o S3 (by omega)).trans (fr b b1 b2)
  have sz1 : (x_up S3 (a + 1) 0 (a + 2)) (-1) 0 = a + 5 := by rw [x_up_o _ (by omega)]; exact sz
  replace d0 : (x_up S3 (a + 1) 0 (a + 2)) (a + 2) 2 = 0 := (congrFun (x_up_o S3 (show (a + 2 : Int) ≠ a + 1 by omega)) 2).trans d0
  have g0 : (x_up S3 (a + 1) 0 (a + 2)) (a + 1) 0 = a + 2 := x_up_s _ _ _ _
  generalize (x_up S3 (a + 1) 0 (a + 2)) = S4 at fr sz1 d0 g0 ⊢
  replace sz := sz1
  clear sz1
  refine x_dup B dX10_init_19 (by first | rfl | exact x_cr _ _) ?_
  refine x_iconst B dX10_init_20 ?_
  refine x_new B xc_9 q498 q500 q125 (xd_9 E) xe_9 (by decide) (by decide) dX10_init_21 (fun z_21 n_21 => ?_)
  rw [sz] at n_21 ⊢
  obtain ⟨κ4, hκ4⟩ : ∃ k_, k_ = x_ku κ3 (a + 5) (.inl (9, 0)) := ⟨_, rfl⟩
  rw [← hκ4]
  replace kt : κ4 (a + 5) = some (.inl (9, 0)) := by rw [hκ4]; exact x_ku_s _ _ _
  replace kb : κ4 (a + 1) = some (.inr (6, 3)) := by rw [hκ4, x_ku_ne (by omega)]; exact kb
  replace ka : κ4 (a) = some (.inl (8, 0)) := by rw [hκ4, x_ku_ne (by omega)]; exact ka
  replace fr : ∀ b, b ≠ -1 → (b < a ∨ a + 13 < b) → (x_nw S4 (x_df 9)) b = X b := fun b b1 b2 => (x_nw_oth S4 (x_df 9) b1 (by omega)).trans (fr b b1 b2)
  have sz1 : (x_nw S4 (x_df 9)) (-1) 0 = a + 6 := by rw [x_nw_sz, sz]; omega
  replace d0 : (x_nw S4 (x_df 9)) (a + 2) 2 = 0 := (congrFun (x_nw_oth S4 (x_df 9) (b := a + 2) (by omega) (by omega)) 2).trans d0
  replace g0 : (x_nw S4 (x_df 9)) (a + 1) 0 = a + 2 := (congrFun (x_nw_oth S4 (x_df 9) (b := a + 1) (by omega) (by omega)) 0).trans g0
  have d1 : (x_nw S4 (x_df 9)) (a + 5) 2 = 0 := by have hh := x_nw_at S4 (x_df 9) (by omega); rw [sz] at hh; rw [hh]; rfl
  generalize (x_nw S4 (x_df 9)) = S5 at fr sz1 d0 g0 d1 ⊢
  replace sz := sz1
  clear sz1
  refine x_dup B dX10_init_24 (by first | rfl | exact x_cr _ _) ?_
  refine x_go (x_rIN B (by omega) (c_X11_init (a := a + 5) (by omega) (by rw [sz]; omega) kt) q501 q502 q125 q503 rfl hd_X11_init ⟨by decide, by decide⟩ ⟨by decide, by decide⟩ rfl rfl (by simp [x_cr, x_c1, x_c2]) dX10_init_25) (fun v_25 X_25 p_25 => ?_)
  obtain ⟨κ5, hκ5⟩ : ∃ k_, k_ = x_ku (x_ku (x_ku κ4 (a + 5 + 1) (.inr (0, 6))) (a + 5 + 2) (.inr (0, 6))) (a + 5) (.inl (9, 1)) := ⟨_, rfl⟩
  rw [← hκ5]
  replace kt : κ5 (a + 5) = some (.inl (9, 1)) := by rw [hκ5]; exact x_ku_s _ _ _
  replace kb : κ5 (a + 1) = some (.inr (6, 3)) := by rw [hκ5, x_ku_ne (by omega), x_ku_ne (by omega), x_ku_ne (by omega)]; exact kb
  replace ka : κ5 (a) = some (.inl (8, 0)) := by rw [hκ5, x_ku_ne (by omega), x_ku_ne (by omega), x_ku_ne (by omega)]; exact ka
  obtain ⟨rfl, t1, t2, t3, -⟩ := p_25
  replace fr : ∀ b, b ≠ -1 → (b < a ∨ a + 13 < b) → X_25 b = X b := fun b b1 b2 => (t1 b b1 (by omega) (by omega) (by omega)).trans (fr b b1 b2)
  have sz1 : X_25 (-1) 0 = a + 8 := by rw [t2]; omega
  replace d0 : X_25 (a + 2) 2 = 0 := (congrFun (t1 (a + 2) (by omega) (by omega) (by omega) (by omega)) 2).trans d0
  replace g0 : X_25 (a + 1) 0 = a + 2 := (congrFun (t1 (a + 1) (by omega) (by omega) (by omega) (by omega)) 0).trans g0
  replace d1 : X_25 (a + 5) 2 = 0 := (t3.2.2 2 (by decide) (by decide)).trans d1
  clear t1 t2 t3
  generalize X_25 = S6 at fr sz1 d0 g0 d1 ⊢
  replace sz := sz1
  clear sz1
  refine x_aast B (t := 6) (n := 3) (v := a + 5) (ci := 9) (b := 1) kb rfl rfl rfl kt (show x_cl[9]? = some _ from rfl) ⟨by omega, by omega⟩ dX10_init_28 ?_
  replace fr : ∀ b, b ≠ -1 → (b < a ∨ a + 13 < b) → (x_up S6 (a + 1) 1 (a + 5)) b = X b := fun b b1 b2 => (x_up_o S6 (by omega)).trans (fr b b1 b2)
  have sz1 : (x_up S6 (a + 1) 1 (a + 5)) (-1) 0 = a + 8 := by rw [x_up_o _ (by omega)]; exact sz
  replace d0 : (x_up S6 (a + 1) 1 (a + 5)) (a + 2) 2 = 0 := (congrFun (x_up_o S6 (show (a + 2 : Int) ≠ a + 1 by omega)) 2).trans d0
  replace g0 : (x_up S6 (a + 1) 1 (a + 5)) (a + 1) 0 = a + 2 := (x_up_n S6 (Or.inr (show (0 : Int) ≠ 1 by decide))).trans g0
  replace d1 : (x_up S6 (a + 1) 1 (a + 5)) (a + 5) 2 = 0 := (congrFun (x_up_o S6 (show (a + 5 : Int) ≠ a + 1 by omega)) 2).trans d1
  have g1 : (x_up S6 (a + 1) 1 (a + 5)) (a + 1) 1 = a + 5 := x_up_s _ _ _ _
  generalize (x_up S6 (a + 1) 1 (a + 5)) = S7 at fr sz1 d0 g0 d1 g1 ⊢
  replace sz := sz1
  clear sz1
  refine x_dup B dX10_init_29 (by first | rfl | exact x_cr _ _) ?_
  refine x_iconst B dX10_init_30 ?_
  refine x_new B xc_9 q498 q500 q125 (xd_9 E) xe_9 (by decide) (by decide) dX10_init_31 (fun z_31 n_31 => ?_)
  rw [sz] at n_31 ⊢
  obtain ⟨κ6, hκ6⟩ : ∃ k_, k_ = x_ku κ5 (a + 8) (.inl (9, 0)) := ⟨_, rfl⟩
  rw [← hκ6]
  replace kt : κ6 (a + 8) = some (.inl (9, 0)) := by rw [hκ6]; exact x_ku_s _ _ _
  replace kb : κ6 (a + 1) = some (.inr (6, 3)) := by rw [hκ6, x_ku_ne (by omega)]; exact kb
  replace ka : κ6 (a) = some (.inl (8, 0)) := by rw [hκ6, x_ku_ne (by omega)]; exact ka
  replace fr : ∀ b, b ≠ -1 → (b < a ∨ a + 13 < b) → (x_nw S7 (x_df 9)) b = X b := fun b b1 b2 => (x_nw_oth S7 (x_df 9) b1 (by omega)).trans (fr b b1 b2)
  have sz1 : (x_nw S7 (x_df 9)) (-1) 0 = a + 9 := by rw [x_nw_sz, sz]; omega
  replace d0 : (x_nw S7 (x_df 9)) (a + 2) 2 = 0 := (congrFun (x_nw_oth S7 (x_df 9) (b := a + 2) (by omega) (by omega)) 2).trans d0
  replace g0 : (x_nw S7 (x_df 9)) (a + 1) 0 = a + 2 := (congrFun (x_nw_oth S7 (x_df 9) (b := a + 1) (by omega) (by omega)) 0).trans g0
  replace d1 : (x_nw S7 (x_df 9)) (a + 5) 2 = 0 := (congrFun (x_nw_oth S7 (x_df 9) (b := a + 5) (by omega) (by omega)) 2).trans d1
  replace g1 : (x_nw S7 (x_df 9)) (a + 1) 1 = a + 5 := (congrFun (x_nw_oth S7 (x_df 9) (b := a + 1) (by omega) (by omega)) 1).trans g1
  have d2 : (x_nw S7 (x_df 9)) (a + 8) 2 = 0 := by have hh := x_nw_at S7 (x_df 9) (by omega); rw [sz] at hh; rw [hh]; rfl
  generalize (x_nw S7 (x_df 9)) = S8 at fr sz1 d0 g0 d1 g1 d2 ⊢
  replace sz := sz1
  clear sz1
  refine x_dup B dX10_init_34 (by first | rfl | exact x_cr _ _) ?_
  refine x_go (x_rIN B (by omega) (c_X11_init (a := a + 8) (by omega) (by rw [sz]; omega) kt) q501 q502 q125 q503 rfl hd_X11_init ⟨by decide, by decide⟩ ⟨by decide, by decide⟩ rfl rfl (by simp [x_cr, x_c1, x_c2]) dX10_init_35) (fun v_35 X_35 p_35 => ?_)
  obtain ⟨κ7, hκ7⟩ : ∃ k_, k_ = x_ku (x_ku (x_ku κ6 (a + 8 + 1) (.inr (0, 6))) (a + 8 + 2) (.inr (0, 6))) (a + 8) (.inl (9, 1)) := ⟨_, rfl⟩
  rw [← hκ7]
  replace kt : κ7 (a + 8) = some (.inl (9, 1)) := by rw [hκ7]; exact x_ku_s _ _ _
  replace kb : κ7 (a + 1) = some (.inr (6, 3)) := by rw [hκ7, x_ku_ne (by omega), x_ku_ne (by omega), x_ku_ne (by omega)]; exact kb
  replace ka : κ7 (a) = some (.inl (8, 0)) := by rw [hκ7, x_ku_ne (by omega), x_ku_ne (by omega), x_ku_ne (by omega)]; exact ka
  obtain ⟨rfl, t1, t2, t3, -⟩ := p_35
  replace fr : ∀ b, b ≠ -1 → (b < a ∨ a + 13 < b) → X_35 b = X b := fun b b1 b2 => (t1 b b1 (by omega) (by omega) (by omega)).trans (fr b b1 b2)
  have sz1 : X_35 (-1) 0 = a + 11 := by rw [t2]; omega
  replace d0 : X_35 (a + 2) 2 = 0 := (congrFun (t1 (a + 2) (by omega) (by omega) (by omega) (by omega)) 2).trans d0
  replace g0 : X_35 (a + 1) 0 = a + 2 := (congrFun (t1 (a + 1) (by omega) (by omega) (by omega) (by omega)) 0).trans g0
  replace d1 : X_35 (a + 5) 2 = 0 := (congrFun (t1 (a + 5) (by omega) (by omega) (by omega) (by omega)) 2).trans d1
  replace g1 : X_35 (a + 1) 1 = a + 5 := (congrFun (t1 (a + 1) (by omega) (by omega) (by omega) (by omega)) 1).trans g1
  replace d2 : X_35 (a + 8) 2 = 0 := (t3.2.2 2 (by decide) (by decide)).trans d2
  clear t1 t2 t3
  generalize X_35 = S9 at fr sz1 d0 g0 d1 g1 d2 ⊢
  replace sz := sz1
  clear sz1
  refine x_aast B (t := 6) (n := 3) (v := a + 8) (ci := 9) (b := 1) kb rfl rfl rfl kt (show x_cl[9]? = some _ from rfl) ⟨by omega, by omega⟩ dX10_init_38 ?_
  replace fr : ∀ b, b ≠ -1 → (b < a ∨ a + 13 < b) → (x_up S9 (a + 1) 2 (a + 8)) b = X b := fun b b1 b2 => (x_up_o S9 (by omega)).trans (fr b b1 b2)
  have sz1 : (x_up S9 (a + 1) 2 (a + 8)) (-1) 0 = a + 11 := by rw [x_up_o _ (by omega)]; exact sz
  replace d0 : (x_up S9 (a + 1) 2 (a + 8)) (a + 2) 2 = 0 := (congrFun (x_up_o S9 (show (a + 2 : Int) ≠ a + 1 by omega)) 2).trans d0
  replace g0 : (x_up S9 (a + 1) 2 (a + 8)) (a + 1) 0 = a + 2 := (x_up_n S9 (Or.inr (show (0 : Int) ≠ 2 by decide))).trans g0
  replace d1 : (x_up S9 (a + 1) 2 (a + 8)) (a + 5) 2 = 0 := (congrFun (x_up_o S9 (show (a + 5 : Int) ≠ a + 1 by omega)) 2).trans d1
  replace g1 : (x_up S9 (a + 1) 2 (a + 8)) (a + 1) 1 = a + 5 := (x_up_n S9 (Or.inr (show (1 : Int) ≠ 2 by decide))).trans g1
  replace d2 : (x_up S9 (a + 1) 2 (a + 8)) (a + 8) 2 = 0 := (congrFun (x_up_o S9 (show (a + 8 : Int) ≠ a + 1 by omega)) 2).trans d2
  have g2 : (x_up S9 (a + 1) 2 (a + 8)) (a + 1) 2 = a + 8 := x_up_s _ _ _ _
  generalize (x_up S9 (a + 1) 2 (a + 8)) = S10 at fr sz1 d0 g0 d1 g1 d2 g2 ⊢
  replace sz := sz1
  clear sz1
  refine x_putFA B (k := 2) 2 rfl rfl rfl xc_8 (by decide) rfl hin rfl nn_8_2 (fun h => absurd h (by decide)) ka q522 (fun _ h => h) dX10_init_39 ?_
  replace fr : ∀ b, b ≠ -1 → (b < a ∨ a + 13 < b) → (x_up S10 (a) 2 (a + 1)) b = X b := fun b b1 b2 => (x_up_o S10 (by omega)).trans (fr b b1 b2)
  have sz1 : (x_up S10 (a) 2 (a + 1)) (-1) 0 = a + 11 := by rw [x_up_o _ (by omega)]; exact sz
  replace d0 : (x_up S10 (a) 2 (a + 1)) (a + 2) 2 = 0 := (congrFun (x_up_o S10 (show (a + 2 : Int) ≠ a by omega)) 2).trans d0
  replace g0 : (x_up S10 (a) 2 (a + 1)) (a + 1) 0 = a + 2 := (congrFun (x_up_o S10 (show (a + 1 : Int) ≠ a by omega)) 0).trans g0
  replace d1 : (x_up S10 (a) 2 (a + 1)) (a + 5) 2 = 0 := (congrFun (x_up_o S10 (show (a + 5 : Int) ≠ a by omega)) 2).trans d1
  replace g1 : (x_up S10 (a) 2 (a + 1)) (a + 1) 1 = a + 5 := (congrFun (x_up_o S10 (show (a + 1 : Int) ≠ a by omega)) 1).trans g1
  replace d2 : (x_up S10 (a) 2 (a + 1)) (a + 8) 2 = 0 := (congrFun (x_up_o S10 (show (a + 8 : Int) ≠ a by omega)) 2).trans d2
  replace g2 : (x_up S10 (a) 2 (a + 1)) (a + 1) 2 = a + 8 := (congrFun (x_up_o S10 (show (a + 1 : Int) ≠ a by omega)) 2).trans g2
  have h2 : (x_up S10 (a) 2 (a + 1)) (a) 2 = a + 1 := x_up_s _ _ _ _
  generalize (x_up S10 (a) 2 (a + 1)) = S11 at fr sz1 d0 g0 d1 g1 d2 g2 h2 ⊢
  replace sz := sz1
  clear sz1
  refine x_aload_n B dX10_init_42 rfl ?_
  refine x_iconst B dX10_init_43 ?_
  refine x_newa B (t := 0) (atype := .int) (n := 3) rfl q241 (fun h => h) rfl ⟨by decide, by decide⟩ rfl ⟨by omega, by omega⟩ (by decide) (by decide) (by decide) dX10_init_44 (fun z_44 n_44 => ?_)
  rw [sz] at n_44 ⊢
  obtain ⟨κ8, hκ8⟩ : ∃ k_, k_ = x_ku κ7 (a + 11) (.inr (0, 3)) := ⟨_, rfl⟩
  rw [← hκ8]
  replace kb : κ8 (a + 1) = some (.inr (6, 3)) := by rw [hκ8, x_ku_ne (by omega)]; exact kb
  replace ka : κ8 (a) = some (.inl (8, 0)) := by rw [hκ8, x_ku_ne (by omega)]; exact ka
  replace fr : ∀ b, b ≠ -1 → (b < a ∨ a + 13 < b) → (x_nw S11 (fun _ => 0)) b = X b := fun b b1 b2 => (x_nw_oth S11 (fun _ => 0) b1 (by omega)).trans (fr b b1 b2)
  have sz1 : (x_nw S11 (fun _ => 0)) (-1) 0 = a + 12 := by rw [x_nw_sz, sz]; omega
  replace d0 : (x_nw S11 (fun _ => 0)) (a + 2) 2 = 0 := (congrFun (x_nw_oth S11 (fun _ => 0) (b := a + 2) (by omega) (by omega)) 2).trans d0
  replace g0 : (x_nw S11 (fun _ => 0)) (a + 1) 0 = a + 2 := (congrFun (x_nw_oth S11 (fun _ => 0) (b := a + 1) (by omega) (by omega)) 0).trans g0
  replace d1 : (x_nw S11 (fun _ => 0)) (a + 5) 2 = 0 := (congrFun (x_nw_oth S11 (fun _ => 0) (b := a + 5) (by omega) (by omega)) 2).trans d1
  replace g1 : (x_nw S11 (fun _ => 0)) (a + 1) 1 = a + 5 := (congrFun (x_nw_oth S11 (fun _ => 0) (b := a + 1) (by omega) (by omega)) 1).trans g1
  replace d2 : (x_nw S11 (fun _ => 0)) (a + 8) 2 = 0 := (congrFun (x_nw_oth S11 (fun _ => 0) (b := a + 8) (by omega) (by omega)) 2).trans d2
  replace g2 : (x_nw S11 (fun _ => 0)) (a + 1) 2 = a + 8 := (congrFun (x_nw_oth S11 (fun _ => 0) (b := a + 1) (by omega) (by omega)) 2).trans g2
  replace h2 : (x_nw S11 (fun _ => 0)) (a) 2 = a + 1 := (congrFun (x_nw_oth S11 (fun _ => 0) (b := a) (by omega) (by omega)) 2).trans h2
  generalize (x_nw S11 (fun _ => 0)) = S12 at fr sz1 d0 g0 d1 g1 d2 g2 h2 ⊢
  replace sz := sz1
  clear sz1
  refine x_putFA B (k := 3) 3 rfl rfl rfl xc_8 (by decide) rfl hin rfl nn_8_3 (fun h => absurd h (by decide)) ka q525 (fun _ h => h) dX10_init_46 ?_
  replace fr : ∀ b, b ≠ -1 → (b < a ∨ a + 13 < b) → (x_up S12 (a) 3 (a + 11)) b = X b := fun b b1 b2 => (x_up_o S12 (by omega)).trans (fr b b1 b2)
  have sz1 : (x_up S12 (a) 3 (a + 11)) (-1) 0 = a + 12 := by rw [x_up_o _ (by omega)]; exact sz
  replace d0 : (x_up S12 (a) 3 (a + 11)) (a + 2) 2 = 0 := (congrFun (x_up_o S12 (show (a + 2 : Int) ≠ a by omega)) 2).trans d0
  replace g0 : (x_up S12 (a) 3 (a + 11)) (a + 1) 0 = a + 2 := (congrFun (x_up_o S12 (show (a + 1 : Int) ≠ a by omega)) 0).trans g0
  replace d1 : (x_up S12 (a) 3 (a + 11)) (a + 5) 2 = 0 := (congrFun (x_up_o S12 (show (a + 5 : Int) ≠ a by omega)) 2).trans d1
  replace g1 : (x_up S12 (a) 3 (a + 11)) (a + 1) 1 = a + 5 := (congrFun (x_up_o S12 (show (a + 1 : Int) ≠ a by omega)) 1).trans g1
  replace d2 : (x_up S12 (a) 3 (a + 11)) (a + 8) 2 = 0 := (congrFun (x_up_o S12 (show (a + 8 : Int) ≠ a by omega)) 2).trans d2
  replace g2 : (x_up S12 (a) 3 (a + 11)) (a + 1) 2 = a + 8 := (congrFun (x_up_o S12 (show (a + 1 : Int) ≠ a by omega)) 2).trans g2
  replace h2 : (x_up S12 (a) 3 (a + 11)) (a) 2 = a + 1 := (x_up_n S12 (Or.inr (show (2 : Int) ≠ 3 by decide))).trans h2
  have h3 : (x_up S12 (a) 3 (a + 11)) (a) 3 = a + 11 := x_up_s _ _ _ _
  generalize (x_up S12 (a) 3 (a + 11)) = S13 at fr sz1 d0 g0 d1 g1 d2 g2 h2 h3 ⊢
  replace sz := sz1
  clear sz1
  refine x_aload_n B dX10_init_49 rfl ?_
  refine x_iconst B dX10_init_50 ?_
  refine x_newa B (t := 0) (atype := .int) (n := 3) rfl q241 (fun h => h) rfl ⟨by decide, by decide⟩ rfl ⟨by omega, by omega⟩ (by decide) (by decide) (by decide) dX10_init_51 (fun z_51 n_51 => ?_)
  rw [sz] at n_51 ⊢
  obtain ⟨κ9, hκ9⟩ : ∃ k_, k_ = x_ku κ8 (a + 12) (.inr (0, 3)) := ⟨_, rfl⟩
  rw [← hκ9]
  replace kb : κ9 (a + 1) = some (.inr (6, 3)) := by rw [hκ9, x_ku_ne (by omega)]; exact kb
  replace ka : κ9 (a) = some (.inl (8, 0)) := by rw [hκ9, x_ku_ne (by omega)]; exact ka
  replace fr : ∀ b, b ≠ -1 → (b < a ∨ a + 13 < b) → (x_nw S13 (fun _ => 0)) b = X b := fun b b1 b2 => (x_nw_oth S13 (fun _ => 0) b1 (by omega)).trans (fr b b1 b2)
  have sz1 : (x_nw S13 (fun _ => 0)) (-1) 0 = a + 13 := by rw [x_nw_sz, sz]; omega
  replace d0 : (x_nw S13 (fun _ => 0)) (a + 2) 2 = 0 := (congrFun (x_nw_oth S13 (fun _ => 0) (b := a + 2) (by omega) (by omega)) 2).trans d0
  replace g0 : (x_nw S13 (fun _ => 0)) (a + 1) 0 = a + 2 := (congrFun (x_nw_oth S13 (fun _ => 0) (b := a + 1) (by omega) (by omega)) 0).trans g0
  replace d1 : (x_nw S13 (fun _ => 0)) (a + 5) 2 = 0 := (congrFun (x_nw_oth S13 (fun _ => 0) (b := a + 5) (by omega) (by omega)) 2).trans d1
  replace g1 : (x_nw S13 (fun _ => 0)) (a + 1) 1 = a + 5 := (congrFun (x_nw_oth S13 (fun _ => 0) (b := a + 1) (by omega) (by omega)) 1).trans g1
  replace d2 : (x_nw S13 (fun _ => 0)) (a + 8) 2 = 0 := (congrFun (x_nw_oth S13 (fun _ => 0) (b := a + 8) (by omega) (by omega)) 2).trans d2
  replace g2 : (x_nw S13 (fun _ => 0)) (a + 1) 2 = a + 8 := (congrFun (x_nw_oth S13 (fun _ => 0) (b := a + 1) (by omega) (by omega)) 2).trans g2
  replace h2 : (x_nw S13 (fun _ => 0)) (a) 2 = a + 1 := (congrFun (x_nw_oth S13 (fun _ => 0) (b := a) (by omega) (by omega)) 2).trans h2
  replace h3 : (x_nw S13 (fun _ => 0)) (a) 3 = a + 11 := (congrFun (x_nw_oth S13 (fun _ => 0) (b := a) (by omega) (by omega)) 3).trans h3
  generalize (x_nw S13 (fun _ => 0)) = S14 at fr sz1 d0 g0 d1 g1 d2 g2 h2 h3 ⊢
  replace sz := sz1
  clear sz1
  refine x_putFA B (k := 4) 4 rfl rfl rfl xc_8 (by decide) rfl hin rfl nn_8_4 (fun h => absurd h (by decide)) ka q530 (fun _ h => h) dX10_init_53 ?_
  replace fr : ∀ b, b ≠ -1 → (b < a ∨ a + 13 < b) → (x_up S14 (a) 4 (a + 12)) b = X b := fun b b1 b2 => (x_up_o S14 (by omega)).trans (fr b b1 b2)
  have sz1 : (x_up S14 (a) 4 (a + 12)) (-1) 0 = a + 13 := by rw [x_up_o _ (by omega)]; exact sz
  replace d0 : (x_up S14 (a) 4 (a + 12)) (a + 2) 2 = 0 := (congrFun (x_up_o S14 (show (a + 2 : Int) ≠ a by omega)) 2).trans d0
  replace g0 : (x_up S14 (a) 4 (a + 12)) (a + 1) 0 = a + 2 := (congrFun (x_up_o S14 (show (a + 1 : Int) ≠ a by omega)) 0).trans g0
  replace d1 : (x_up S14 (a) 4 (a + 12)) (a + 5) 2 = 0 := (congrFun (x_up_o S14 (show (a + 5 : Int) ≠ a by omega)) 2).trans d1
  replace g1 : (x_up S14 (a) 4 (a + 12)) (a + 1) 1 = a + 5 := (congrFun (x_up_o S14 (show (a + 1 : Int) ≠ a by omega)) 1).trans g1
  replace d2 : (x_up S14 (a) 4 (a + 12)) (a + 8) 2 = 0 := (congrFun (x_up_o S14 (show (a + 8 : Int) ≠ a by omega)) 2).trans d2
  replace g2 : (x_up S14 (a) 4 (a + 12)) (a + 1) 2 = a + 8 := (congrFun (x_up_o S14 (show (a + 1 : Int) ≠ a by omega)) 2).trans g2
  replace h2 : (x_up S14 (a) 4 (a + 12)) (a) 2 = a + 1 := (x_up_n S14 (Or.inr (show (2 : Int) ≠ 4 by decide))).trans h2
  replace h3 : (x_up S14 (a) 4 (a + 12)) (a) 3 = a + 11 := (x_up_n S14 (Or.inr (show (3 : Int) ≠ 4 by decide))).trans h3
  have h4 : (x_up S14 (a) 4 (a + 12)) (a) 4 = a + 12 := x_up_s _ _ _ _
  generalize (x_up S14 (a) 4 (a + 12)) = S15 at fr sz1 d0 g0 d1 g1 d2 g2 h2 h3 h4 ⊢
  replace sz := sz1
  clear sz1
  refine x_aload_n B dX10_init_56 rfl ?_
  refine x_iconst B dX10_init_57 ?_
  refine x_newa B (t := 0) (atype := .int) (n := 3) rfl q241 (fun h => h) rfl ⟨by decide, by decide⟩ rfl ⟨by omega, by omega⟩ (by decide) (by decide) (by decide) dX10_init_58 (fun z_58 n_58 => ?_)
  rw [sz] at n_58 ⊢
  obtain ⟨κ10, hκ10⟩ : ∃ k_, k_ = x_ku κ9 (a + 13) (.inr (0, 3)) := ⟨_, rfl⟩
  rw [← hκ10]
  replace kb : κ10 (a + 1) = some (.inr (6, 3)) := by rw [hκ10, x_ku_ne (by omega)]; exact kb
  replace ka : κ10 (a) = some (.inl (8, 0)) := by rw [hκ10, x_ku_ne (by omega)]; exact ka
  replace fr : ∀ b, b ≠ -1 → (b < a ∨ a + 13 < b) → (x_nw S15 (fun _ => 0)) b = X b := fun b b1 b2 => (x_nw_oth S15 (fun _ => 0) b1 (by omega)).trans (fr b b1 b2)
  have sz1 : (x_nw S15 (fun _ => 0)) (-1) 0 = a + 14 := by rw [x_nw_sz, sz]; omega
  replace d0 : (x_nw S15 (fun _ => 0)) (a + 2) 2 = 0 := (congrFun (x_nw_oth S15 (fun _ => 0) (b := a + 2) (by omega) (by omega)) 2).trans d0
  replace g0 : (x_nw S15 (fun _ => 0)) (a + 1) 0 = a + 2 := (congrFun (x_nw_oth S15 (fun _ => 0) (b := a + 1) (by omega) (by omega)) 0).trans g0
  replace d1 : (x_nw S15 (fun _ => 0)) (a + 5) 2 = 0 := (congrFun (x_nw_oth S15 (fun _ => 0) (b := a + 5) (by omega) (by omega)) 2).trans d1
  replace g1 : (x_nw S15 (fun _ => 0)) (a + 1) 1 = a + 5 := (congrFun (x_nw_oth S15 (fun _ => 0) (b := a + 1) (by omega) (by omega)) 1).trans g1
  replace d2 : (x_nw S15 (fun _ => 0)) (a + 8) 2 = 0 := (congrFun (x_nw_oth S15 (fun _ => 0) (b := a + 8) (by omega) (by omega)) 2).trans d2
  replace g2 : (x_nw S15 (fun _ => 0)) (a + 1) 2 = a + 8 := (congrFun (x_nw_oth S15 (fun _ => 0) (b := a + 1) (by omega) (by omega)) 2).trans g2
  replace h2 : (x_nw S15 (fun _ => 0)) (a) 2 = a + 1 := (congrFun (x_nw_oth S15 (fun _ => 0) (b := a) (by omega) (by omega)) 2).trans h2
  replace h3 : (x_nw S15 (fun _ => 0)) (a) 3 = a + 11 := (congrFun (x_nw_oth S15 (fun _ => 0) (b := a) (by omega) (by omega)) 3).trans h3
  replace h4 : (x_nw S15 (fun _ => 0)) (a) 4 = a + 12 := (congrFun (x_nw_oth S15 (fun _ => 0) (b := a) (by omega) (by omega)) 4).trans h4
  generalize (x_nw S15 (fun _ => 0)) = S16 at fr sz1 d0 g0 d1 g1 d2 g2 h2 h3 h4 ⊢
  replace sz := sz1
  clear sz1
  refine x_putFA B (k := 5) 5 rfl rfl rfl xc_8 (by decide) rfl hin rfl nn_8_5 (fun h => absurd h (by decide)) ka q533 (fun _ h => h) dX10_init_60 ?_
  replace fr : ∀ b, b ≠ -1 → (b < a ∨ a + 13 < b) → (x_up S16 (a) 5 (a + 13)) b = X b := fun b b1 b2 => (x_up_o S16 (by omega)).trans (fr b b1 b2)
  have sz1 : (x_up S16 (a) 5 (a + 13)) (-1) 0 = a + 14 := by rw [x_up_o _ (by omega)]; exact sz
  replace d0 : (x_up S16 (a) 5 (a + 13)) (a + 2) 2 = 0 := (congrFun (x_up_o S16 (show (a + 2 : Int) ≠ a by omega)) 2).trans d0
  replace g0 : (x_up S16 (a) 5 (a + 13)) (a + 1) 0 = a + 2 := (congrFun (x_up_o S16 (show (a + 1 : Int) ≠ a by omega)) 0).trans g0
  replace d1 : (x_up S16 (a) 5 (a + 13)) (a + 5) 2 = 0 := (congrFun (x_up_o S16 (show (a + 5 : Int) ≠ a by omega)) 2).trans d1
  replace g1 : (x_up S16 (a) 5 (a + 13)) (a + 1) 1 = a + 5 := (congrFun (x_up_o S16 (show (a + 1 : Int) ≠ a by omega)) 1).trans g1
  replace d2 : (x_up S16 (a) 5 (a + 13)) (a + 8) 2 = 0 := (congrFun (x_up_o S16 (show (a + 8 : Int) ≠ a by omega)) 2).trans d2
  replace g2 : (x_up S16 (a) 5 (a + 13)) (a + 1) 2 = a + 8 := (congrFun (x_up_o S16 (show (a + 1 : Int) ≠ a by omega)) 2).trans g2
  replace h2 : (x_up S16 (a) 5 (a + 13)) (a) 2 = a + 1 := (x_up_n S16 (Or.inr (show (2 : Int) ≠ 5 by decide))).trans h2
  replace h3 : (x_up S16 (a) 5 (a + 13)) (a) 3 = a + 11 := (x_up_n S16 (Or.inr (show (3 : Int) ≠ 5 by decide))).trans h3
  replace h4 : (x_up S16 (a) 5 (a + 13)) (a) 4 = a + 12 := (x_up_n S16 (Or.inr (show (4 : Int) ≠ 5 by decide))).trans h4
  have h5 : (x_up S16 (a) 5 (a + 13)) (a) 5 = a + 13 := x_up_s _ _ _ _
  generalize (x_up S16 (a) 5 (a + 13)) = S17 at fr sz1 d0 g0 d1 g1 d2 g2 h2 h3 h4 h5 ⊢
  replace sz := sz1
  clear sz1
  refine x_ripA B (a := a + 1) (t := 6) (t2 := 11) (n := 3) kb rfl rfl (fun q hq j j1 j2 => ?_) ?_
  · cases hq
    rcases (show j = 0 ∨ j = 1 ∨ j = 2 by omega) with e | e | e <;> rw [e]
    · rw [g0]; show a + 2 = a + 1 + 1 + 3 * 0; omega
    · rw [g1]; show a + 5 = a + 1 + 1 + 3 * 1; omega
    · rw [g2]; show a + 8 = a + 1 + 1 + 3 * 2; omega
  refine x_rip B (a := a) (ci := 8) (by rw [x_ku_ne (by omega)]; exact ka) (fun j q hq => ?_) ?_
  · match j, hq with
    | 0, hq => cases hq
    | 1, hq => cases hq
    | 2, hq => cases hq; exact h2
    | 3, hq => cases hq; exact h3
    | 4, hq => cases hq; exact h4
    | 5, hq => cases hq; exact h5
    | j + 6, hq => cases (show x_fx 8 (j + 6) = none from rfl).symm.trans hq
  refine x_wide (cells' := 13) (slots' := 57) (by omega) (by omega) ?_
  refine x_vret B (by rw [hκ10]; rw [hκ9]; rw [hκ8]; rw [hκ7]; rw [hκ6]; rw [hκ5]; rw [hκ4]; rw [hκ3]; rw [hκ2]; rw [hκ1]; unfold k_lif k_tab; exact fun _ _ h => h) ?_ dX10_init_63
  refine ⟨rfl, fr, sz, fun t t1 t2 => ?_⟩
  rcases (show t = 0 ∨ t = 1 ∨ t = 2 by omega) with e | e | e <;> rw [e]
  · rw [show a + 2 + 3 * 0 = a + 2 by omega]; exact d0
  · rw [show a + 2 + 3 * 1 = a + 5 by omega]; exact d1
  · rw [show a + 2 + 3 * 2 = a + 8 by omega]; exact d2
