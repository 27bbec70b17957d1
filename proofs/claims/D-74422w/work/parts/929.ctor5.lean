def k_free (κ : x_Ka) (a : Int) : x_Ka := x_ku (x_km (x_km (x_km (x_ku (x_ku κ (a + 1) (.inr (1, 363))) (a + 2) (.inr (2, 363))) (a + 3) 3 12 1 15498) (a + 7) 3 13 0 15498) (a + 11) 3 13 0 15498) a (.inl (5, 1))
theorem c_X6_init {l : Launch} {E : x_E} {κ : x_Ka} {X : x_X} {a : Int} (ha : 0 ≤ a) (sz : X (-1) 0 = a + 1) (hk : κ a = some (.inl (5, 0))) : x_MetA l yX6_init cX6_init 2 none 2 14 140217 E κ X [x_rf E a, x_rf E 0] (k_free κ a) (fun v_ Y_ => v_ = none ∧ (∀ b, b ≠ -1 → (b < a ∨ a + 14 < b) → Y_ b = X b) ∧ Y_ (-1) 0 = a + 15 ∧ Y_ a 8 = X a 8 ∧ ∀ t, 0 ≤ t → t ≤ 2 → ∀ k, Y_ (a + 12 + t) k = 0) := by
  refine x_MetA.of [(false, x_rf E a), (false, x_rf E 0)] [some (x_rf E a), some (x_rf E 0)] 0 (by decide) rfl rfl ⟨x_cr E (a), x_cr E (0), trivial⟩ rfl rfl ?_
  intro p e s m args below meth c hargs hin B hAO
  have ka := hk
  have fr : ∀ b, b ≠ -1 → (b < a ∨ a + 14 < b) → X b = X b := fun _ _ _ => rfl
  refine x_aload_n B dX6_init_0 rfl ?_
  refine x_aload_n B dX6_init_1 rfl ?_
  refine x_putF2 B (ci := 5) (k := 9) (k2 := 2) (z := 0) rfl rfl trivial (x_rfn E _ 0).1 (x_rfn E _ 0).2 xc_5 (by decide) (by decide) (by decide) rfl hin rfl (by decide) hk q309 (fun _ h => h) dX6_init_2 (fun w_2 hw_2 => ?_)
  refine x_eqX (X2 := x_up (x_up X a 9 0) a 2 w_2) rfl ?_
  refine x_aload_n B dX6_init_5 rfl ?_
  refine x_aload_n B dX6_init_6 rfl ?_
  refine x_go (x_rIN B (by omega) (c_X4_init_F (by omega) (by assumption)) q298 q272 q116 q273 rfl hd_X4_init ⟨by decide, by decide⟩ ⟨by decide, by decide⟩ rfl rfl (by simp [x_cr, x_c1, x_c2]) dX6_init_7) (fun v_7 X_7 p_7 => ?_)
  obtain ⟨rfl, w7, hw7, rfl⟩ := p_7
  have e9 : w7 = 0 := by rcases hw7 with q | q; exact q.trans (by rw [x_up_n _ (Or.inr (by omega)), x_up_s]); exact q
  subst e9
  replace fr : ∀ b, b ≠ -1 → (b < a ∨ a + 14 < b) → (x_up (x_up (x_up (x_up X a 9 0) a 2 w_2) a 2 0) a 9 0) b = X b := fun b b1 b2 => by rw [x_up_o _ (by omega), x_up_o _ (by omega), x_up_o _ (by omega), x_up_o _ (by omega)]
  replace sz : (x_up (x_up (x_up (x_up X a 9 0) a 2 w_2) a 2 0) a 9 0) (-1) 0 = a + 1 := by rw [x_up_o _ (by omega), x_up_o _ (by omega), x_up_o _ (by omega), x_up_o _ (by omega)]; exact sz
  have g2 : (x_up (x_up (x_up (x_up X a 9 0) a 2 w_2) a 2 0) a 9 0) a 2 = 0 := by rw [x_up_n _ (Or.inr (by omega)), x_up_s]
  have g9 : (x_up (x_up (x_up (x_up X a 9 0) a 2 w_2) a 2 0) a 9 0) a 9 = 0 := x_up_s _ _ _ _
  have g8 : (x_up (x_up (x_up (x_up X a 9 0) a 2 w_2) a 2 0) a 9 0) a 8 = X a 8 := by rw [x_up_n _ (Or.inr (by omega)), x_up_n _ (Or.inr (by omega)), x_up_n _ (Or.inr (by omega)), x_up_n _ (Or.inr (by omega))]
  generalize (x_up (x_up (x_up (x_up X a 9 0) a 2 w_2) a 2 0) a 9 0) = S0 at fr sz g2 g9 g8 ⊢
  obtain ⟨g_, f0⟩ : ∃ g_, S0 a = g_ := ⟨_, rfl⟩
  rw [f0] at g2 g9 g8
  refine x_aload_n B dX6_init_10 rfl ?_
  refine x_sipush B dX6_init_11 (by decide) ?_
  refine x_newa B (t := 1) (atype := .long) (n := 363) rfl q291 (fun h => h) rfl ⟨by decide, by decide⟩ rfl ⟨by omega, by omega⟩ (by decide) (Nat.le_of_ble_eq_true rfl) (Nat.le_of_ble_eq_true rfl) dX6_init_14 (fun z_14 n_14 => ?_)
  rw [sz] at n_14 ⊢
  obtain ⟨κ1, hκ1⟩ : ∃ k_, k_ = x_ku κ (a + 1) (.inr (1, 363)) := ⟨_, rfl⟩
  rw [← hκ1]
  replace ka : κ1 (a) = some (.inl (5, 0)) := by rw [hκ1]; rw [x_ku_ne (by omega)]; exact ka
  replace fr : ∀ b, b ≠ -1 → (b < a ∨ a + 14 < b) → (x_nw S0 (fun _ => 0)) b = X b := fun b b1 b2 => (x_nw_oth S0 (fun _ => 0) (by omega) (by omega)).trans (fr b b1 b2)
  have sz1 : (x_nw S0 (fun _ => 0)) (-1) 0 = a + 2 := by rw [x_nw_sz, sz]; omega
  replace f0 : (x_nw S0 (fun _ => 0)) (a) = g_ := (x_nw_oth S0 (fun _ => 0) (by omega) (by omega)).trans f0
  generalize (x_nw S0 (fun _ => 0)) = S1 at fr sz1 f0 ⊢
  replace sz := sz1
  clear sz1
  refine x_putFA B (k := 3) 3 rfl rfl rfl xc_5 (by decide) rfl hin rfl nn_5_3 (fun h => absurd h (by decide)) ka q303 (fun _ h => h) dX6_init_16 ?_
  replace fr : ∀ b, b ≠ -1 → (b < a ∨ a + 14 < b) → (x_up S1 (a) 3 (a + 1)) b = X b := fun b b1 b2 => (x_up_o S1 (by omega)).trans (fr b b1 b2)
  have sz1 : (x_up S1 (a) 3 (a + 1)) (-1) 0 = a + 2 := by rw [x_up_o _ (by omega)]; exact sz
  replace f0 : (x_up S1 (a) 3 (a + 1)) (a) = (x_g g_ 3 (a + 1)) := (x_up_f _ _ _ _).trans (congrArg (fun g => x_g g 3 (a + 1)) f0)
  generalize (x_up S1 (a) 3 (a + 1)) = S2 at fr sz1 f0 ⊢
  replace sz := sz1
  clear sz1
  refine x_aload_n B dX6_init_19 rfl ?_
  refine x_sipush B dX6_init_20 (by decide) ?_
  refine x_newa B (t := 2) (atype := .boolean) (n := 363) rfl q292 (fun h => h) rfl ⟨by decide, by decide⟩ rfl ⟨by omega, by omega⟩ (by decide) (Nat.le_of_ble_eq_true rfl) (Nat.le_of_ble_eq_true rfl) dX6_init_23 (fun z_23 n_23 => ?_)
  rw [sz] at n_23 ⊢
  obtain ⟨κ2, hκ2⟩ : ∃ k_, k_ = x_ku κ1 (a + 2) (.inr (2, 363)) := ⟨_, rfl⟩
  rw [← hκ2]
  replace ka : κ2 (a) = some (.inl (5, 0)) := by rw [hκ2]; rw [x_ku_ne (by omega)]; exact ka
  replace fr : ∀ b, b ≠ -1 → (b < a ∨ a + 14 < b) → (x_nw S2 (fun _ => 0)) b = X b := fun b b1 b2 => (x_nw_oth S2 (fun _ => 0) (by omega) (by omega)).trans (fr b b1 b2)
  have sz1 : (x_nw S2 (fun _ => 0)) (-1) 0 = a + 3 := by rw [x_nw_sz, sz]; omega
  replace f0 : (x_nw S2 (fun _ => 0)) (a) = (x_g g_ 3 (a + 1)) := (x_nw_oth S2 (fun _ => 0) (by omega) (by omega)).trans f0
  generalize (x_nw S2 (fun _ => 0)) = S3 at fr sz1 f0 ⊢
  replace sz := sz1
  clear sz1
  refine x_putFA B (k := 4) 4 rfl rfl rfl xc_5 (by decide) rfl hin rfl nn_5_4 (fun h => absurd h (by decide)) ka q304 (fun _ h => h) dX6_init_25 ?_
  replace fr : ∀ b, b ≠ -1 → (b < a ∨ a + 14 < b) → (x_up S3 (a) 4 (a + 2)) b = X b := fun b b1 b2 => (x_up_o S3 (by omega)).trans (fr b b1 b2)
  have sz1 : (x_up S3 (a) 4 (a + 2)) (-1) 0 = a + 3 := by rw [x_up_o _ (by omega)]; exact sz
  replace f0 : (x_up S3 (a) 4 (a + 2)) (a) = (x_g (x_g g_ 3 (a + 1)) 4 (a + 2)) := (x_up_f _ _ _ _).trans (congrArg (fun g => x_g g 4 (a + 2)) f0)
  generalize (x_up S3 (a) 4 (a + 2)) = S4 at fr sz1 f0 ⊢
  replace sz := sz1
  clear sz1
  refine x_aload_n B dX6_init_28 rfl ?_
  refine x_iconst B dX6_init_29 ?_
  refine x_sipush B dX6_init_30 (by decide) ?_
  refine x_mnew B (t := 12) (t2 := 1) (ty := .long) (n := 3) (k := 15498) hAO.1 (by rw [show "[" ++ (FieldType.array .long).toString = "[[J" from by decide +kernel]; exact q299) q291 rfl rfl rfl rfl (fun h => h) (by decide +kernel) rfl ⟨by decide, by decide⟩ rfl rfl rfl ⟨by decide, by decide⟩ ⟨by decide, by decide⟩ (Nat.le_of_ble_eq_true rfl) (Nat.le_of_ble_eq_true rfl) (Nat.le_of_ble_eq_true rfl) dX6_init_33 (fun z_33 n_33 => ?_)
  rw [sz] at n_33 ⊢
  obtain ⟨κ3, hκ3⟩ : ∃ k_, k_ = x_km κ2 (a + 3) 3 12 1 15498 := ⟨_, rfl⟩
  rw [← hκ3]
  replace ka : κ3 (a) = some (.inl (5, 0)) := by rw [hκ3]; rw [x_km_o (by omega) (by omega)]; exact ka
  replace fr : ∀ b, b ≠ -1 → (b < a ∨ a + 14 < b) → (x_mn S4 3) b = X b := fun b b1 b2 => (x_mn_o S4 (by omega) (by omega) (by omega)).trans (fr b b1 b2)
  have sz1 : (x_mn S4 3) (-1) 0 = a + 7 := by rw [x_mn_sz, sz]; omega
  replace f0 : (x_mn S4 3) (a) = (x_g (x_g g_ 3 (a + 1)) 4 (a + 2)) := (x_mn_o S4 (by omega) (by omega) (by omega)).trans f0
  generalize (x_mn S4 3) = S5 at fr sz1 f0 ⊢
  replace sz := sz1
  clear sz1
  refine x_putFA B (k := 5) 5 rfl rfl rfl xc_5 (by decide) rfl hin rfl nn_5_5 (fun h => absurd h (by decide)) ka q305 (fun _ h => h) dX6_init_37 ?_
  replace fr : ∀ b, b ≠ -1 → (b < a ∨ a + 14 < b) → (x_up S5 (a) 5 (a + 3)) b = X b := fun b b1 b2 => (x_up_o S5 (by omega)).trans (fr b b1 b2)
  have sz1 : (x_up S5 (a) 5 (a + 3)) (-1) 0 = a + 7 := by rw [x_up_o _ (by omega)]; exact sz
  replace f0 : (x_up S5 (a) 5 (a + 3)) (a) = (x_g (x_g (x_g g_ 3 (a + 1)) 4 (a + 2)) 5 (a + 3)) := (x_up_f _ _ _ _).trans (congrArg (fun g => x_g g 5 (a + 3)) f0)
  generalize (x_up S5 (a) 5 (a + 3)) = S6 at fr sz1 f0 ⊢
  replace sz := sz1
  clear sz1
  refine x_aload_n B dX6_init_40 rfl ?_
  refine x_iconst B dX6_init_41 ?_
  refine x_sipush B dX6_init_42 (by decide) ?_
  refine x_mnew B (t := 13) (t2 := 0) (ty := .int) (n := 3) (k := 15498) hAO.2 (by rw [show "[" ++ (FieldType.array .int).toString = "[[I" from by decide +kernel]; exact q301) q241 rfl rfl rfl rfl (fun h => h) (by decide +kernel) rfl ⟨by decide, by decide⟩ rfl rfl rfl ⟨by decide, by decide⟩ ⟨by decide, by decide⟩ (Nat.le_of_ble_eq_true rfl) (Nat.le_of_ble_eq_true rfl) (Nat.le_of_ble_eq_true rfl) dX6_init_45 (fun z_45 n_45 => ?_)
  rw [sz] at n_45 ⊢
  obtain ⟨κ4, hκ4⟩ : ∃ k_, k_ = x_km κ3 (a + 7) 3 13 0 15498 := ⟨_, rfl⟩
  rw [← hκ4]
  replace ka : κ4 (a) = some (.inl (5, 0)) := by rw [hκ4]; rw [x_km_o (by omega) (by omega)]; exact ka
  replace fr : ∀ b, b ≠ -1 → (b < a ∨ a + 14 < b) → (x_mn S6 3) b = X b := fun b b1 b2 => (x_mn_o S6 (by omega) (by omega) (by omega)).trans (fr b b1 b2)
  have sz1 : (x_mn S6 3) (-1) 0 = a + 11 := by rw [x_mn_sz, sz]; omega
  replace f0 : (x_mn S6 3) (a) = (x_g (x_g (x_g g_ 3 (a + 1)) 4 (a + 2)) 5 (a + 3)) := (x_mn_o S6 (by omega) (by omega) (by omega)).trans f0
  generalize (x_mn S6 3) = S7 at fr sz1 f0 ⊢
  replace sz := sz1
  clear sz1
  refine x_putFA B (k := 6) 6 rfl rfl rfl xc_5 (by decide) rfl hin rfl nn_5_6 (fun h => absurd h (by decide)) ka q306 (fun _ h => h) dX6_init_49 ?_
  replace fr : ∀ b, b ≠ -1 → (b < a ∨ a + 14 < b) → (x_up S7 (a) 6 (a + 7)) b = X b := fun b b1 b2 => (x_up_o S7 (by omega)).trans (fr b b1 b2)
  have sz1 : (x_up S7 (a) 6 (a + 7)) (-1) 0 = a + 11 := by rw [x_up_o _ (by omega)]; exact sz
  replace f0 : (x_up S7 (a) 6 (a + 7)) (a) = (x_g (x_g (x_g (x_g g_ 3 (a + 1)) 4 (a + 2)) 5 (a + 3)) 6 (a + 7)) := (x_up_f _ _ _ _).trans (congrArg (fun g => x_g g 6 (a + 7)) f0)
  generalize (x_up S7 (a) 6 (a + 7)) = S8 at fr sz1 f0 ⊢
  replace sz := sz1
  clear sz1
  refine x_aload_n B dX6_init_52 rfl ?_
  refine x_iconst B dX6_init_53 ?_
  refine x_sipush B dX6_init_54 (by decide) ?_
  refine x_mnew B (t := 13) (t2 := 0) (ty := .int) (n := 3) (k := 15498) hAO.2 (by rw [show "[" ++ (FieldType.array .int).toString = "[[I" from by decide +kernel]; exact q301) q241 rfl rfl rfl rfl (fun h => h) (by decide +kernel) rfl ⟨by decide, by decide⟩ rfl rfl rfl ⟨by decide, by decide⟩ ⟨by decide, by decide⟩ (Nat.le_of_ble_eq_true rfl) (Nat.le_of_ble_eq_true rfl) (Nat.le_of_ble_eq_true rfl) dX6_init_57 (fun z_57 n_57 => ?_)
  rw [sz] at n_57 ⊢
  obtain ⟨κ5, hκ5⟩ : ∃ k_, k_ = x_km κ4 (a + 11) 3 13 0 15498 := ⟨_, rfl⟩
  rw [← hκ5]
  replace ka : κ5 (a) = some (.inl (5, 0)) := by rw [hκ5]; rw [x_km_o (by omega) (by omega)]; exact ka
  replace fr : ∀ b, b ≠ -1 → (b < a ∨ a + 14 < b) → (x_mn S8 3) b = X b := fun b b1 b2 => (x_mn_o S8 (by omega) (by omega) (by omega)).trans (fr b b1 b2)
  have sz1 : (x_mn S8 3) (-1) 0 = a + 15 := by rw [x_mn_sz, sz]; omega
  replace f0 : (x_mn S8 3) (a) = (x_g (x_g (x_g (x_g g_ 3 (a + 1)) 4 (a + 2)) 5 (a + 3)) 6 (a + 7)) := (x_mn_o S8 (by omega) (by omega) (by omega)).trans f0
  have s0 : (x_mn S8 3) (a + 12) = (fun _ => 0) := x_mn_in S8 (by omega) (by omega)
  have s1 : (x_mn S8 3) (a + 13) = (fun _ => 0) := x_mn_in S8 (by omega) (by omega)
  have s2 : (x_mn S8 3) (a + 14) = (fun _ => 0) := x_mn_in S8 (by omega) (by omega)
  generalize (x_mn S8 3) = S9 at fr sz1 f0 s0 s1 s2 ⊢
  replace sz := sz1
  clear sz1
  refine x_putFA B (k := 7) 7 rfl rfl rfl xc_5 (by decide) rfl hin rfl nn_5_7 (fun h => absurd h (by decide)) ka q307 (fun _ h => h) dX6_init_61 ?_
  replace fr : ∀ b, b ≠ -1 → (b < a ∨ a + 14 < b) → (x_up S9 (a) 7 (a + 11)) b = X b := fun b b1 b2 => (x_up_o S9 (by omega)).trans (fr b b1 b2)
  have sz1 : (x_up S9 (a) 7 (a + 11)) (-1) 0 = a + 15 := by rw [x_up_o _ (by omega)]; exact sz
  replace f0 : (x_up S9 (a) 7 (a + 11)) (a) = (x_g (x_g (x_g (x_g (x_g g_ 3 (a + 1)) 4 (a + 2)) 5 (a + 3)) 6 (a + 7)) 7 (a + 11)) := (x_up_f _ _ _ _).trans (congrArg (fun g => x_g g 7 (a + 11)) f0)
  replace s0 : (x_up S9 (a) 7 (a + 11)) (a + 12) = (fun _ => 0) := (x_up_o S9 (by omega)).trans s0
  replace s1 : (x_up S9 (a) 7 (a + 11)) (a + 13) = (fun _ => 0) := (x_up_o S9 (by omega)).trans s1
  replace s2 : (x_up S9 (a) 7 (a + 11)) (a + 14) = (fun _ => 0) := (x_up_o S9 (by omega)).trans s2
  generalize (x_up S9 (a) 7 (a + 11)) = S10 at fr sz1 f0 s0 s1 s2 ⊢
  replace sz := sz1
  clear sz1
  refine x_rip B (a := a) (ci := 5) ka (fun j q hq => ?_) ?_
  · match j, hq with
    | 0, hq => cases hq
    | 1, hq => cases hq
    | 2, hq => cases hq; rw [f0]; exact g2
    | 3, hq => cases hq; rw [f0]; rfl
    | 4, hq => cases hq; rw [f0]; rfl
    | 5, hq => cases hq; rw [f0]; rfl
    | 6, hq => cases hq; rw [f0]; rfl
    | 7, hq => cases hq; rw [f0]; rfl
    | 8, hq => cases hq
    | 9, hq => cases hq; rw [f0]; exact g9
    | j + 10, hq => cases (show x_fx 5 (j + 10) = none from rfl).symm.trans hq
  refine x_wide (cells' := 14) (slots' := 140217) (Nat.le_of_ble_eq_true rfl) (Nat.le_of_ble_eq_true rfl) ?_
  refine x_vret B (by rw [hκ5]; rw [hκ4]; rw [hκ3]; rw [hκ2]; rw [hκ1]; unfold k_free; exact fun _ _ h => h) ?_ dX6_init_64
  refine ⟨rfl, fr, sz, by rw [f0]; exact g8, fun t t1 t2 k => ?_⟩
  rcases (show t = 0 ∨ t = 1 ∨ t = 2 by omega) with e | e | e <;> rw [e]
  · rw [show a + 12 + 0 = a + 12 by omega, s0]
  · rw [show a + 12 + 1 = a + 13 by omega, s1]
  · rw [show a + 12 + 2 = a + 14 by omega, s2]
