def k_twin (κ : x_Ka) : x_Ka := x_ku (x_ku (x_ku (x_ku (x_ku (x_ku (x_ku (x_ku (x_ku (x_ku (x_ku (x_ku (x_ku (x_ku (x_ku (x_ku (x_ku (x_ku (x_ku (x_ku (x_ku (x_ku (x_ku (κ) 65 (.inr (1, 64))) 66 (.inr (0, 6))) 67 (.inr (0, 6))) 68 (.inr (0, 18))) 69 (.inr (0, 108))) 70 (.inr (0, 108))) 71 (.inr (0, 54))) 72 (.inr (0, 63))) 73 (.inr (0, 63))) 74 (.inr (0, 240))) 75 (.inr (0, 240))) 76 (.inr (0, 3))) 77 (.inr (0, 18))) 78 (.inr (0, 18))) 79 (.inr (0, 9))) 80 (.inr (0, 122))) 81 (.inr (0, 122))) 82 (.inr (0, 121))) 83 (.inr (0, 484))) 84 (.inr (0, 28224))) 85 (.inr (0, 15129))) 86 (.inr (0, 15129))) 64 (.inl (7, 1))
theorem c_X8_init {l : Launch} {E : x_E} {κ : x_Ka} {X : x_X}  (sz : X (-1) 0 = 65) (hk : κ 64 = some (.inl (7, 0))) (hd : X 64 = x_df 7) : x_Met l yX8_init cX8_init 1 none 1 22 60349 E κ X [x_rf E 64] (k_twin κ) (fun v_ Y_ => v_ = none ∧ (∀ b, b ≠ -1 → (b < 64 ∨ 86 < b) → Y_ b = X b) ∧ Y_ (-1) 0 = 87 ∧ (Y_ 64 0 = 0 ∧ Y_ 64 1 = 0 ∧ Y_ 64 3 = 0 ∧ Y_ 64 10 = 0 ∧ Y_ 64 13 = 0 ∧ Y_ 64 14 = 0 ∧ Y_ 64 18 = 0) ∧ ∀ k, Y_ 72 k = 0 ∧ Y_ 75 k = 0) := by
  refine x_Met.of [(false, x_rf E 64)] [some (x_rf E 64)] 0 (by decide) rfl rfl ⟨x_cr E (64), trivial⟩ rfl rfl ?_
  intro p e s m args below meth c hargs hin B
  have ka := hk
  have fr : ∀ b, b ≠ -1 → (b < 64 ∨ 86 < b) → X b = X b := fun _ _ _ => rfl
  have f0 : X 64 = X 64 := rfl
  refine x_aload_n B dX8_init_0 rfl ?_
  refine x_objI B (ha := by omega) q1334 dX8_init_1 (by decide) (by simp [x_cr, x_c1, x_c2]) ?_
  refine x_aload_n B dX8_init_4 rfl ?_
  refine x_bipush B dX8_init_5 (by decide) ?_
  refine x_newa B (t := 1) (atype := .long) (n := 64) rfl q291 (fun h => h) rfl ⟨by decide, by decide⟩ rfl ⟨by omega, by omega⟩ (by decide) (Nat.le_of_ble_eq_true rfl) (Nat.le_of_ble_eq_true rfl) dX8_init_7 (fun z_7 n_7 => ?_)
  rw [sz] at n_7 ⊢
  obtain ⟨κ1, hκ1⟩ : ∃ k_, k_ = x_ku κ 65 (.inr (1, 64)) := ⟨_, rfl⟩
  rw [← hκ1]
  replace ka : κ1 (64) = some (.inl (7, 0)) := by rw [hκ1]; rw [x_ku_ne (by omega)]; exact ka
  replace fr : ∀ b, b ≠ -1 → (b < 64 ∨ 86 < b) → (x_nw X (fun _ => 0)) b = X b := fun b b1 b2 => (x_nw_oth X (fun _ => 0) (by omega) (by omega)).trans (fr b b1 b2)
  have sz1 : (x_nw X (fun _ => 0)) (-1) 0 = 66 := by rw [x_nw_sz, sz]; omega
  replace f0 : (x_nw X (fun _ => 0)) (64) = (X 64) := (x_nw_oth X (fun _ => 0) (by omega) (by omega)).trans f0
  generalize (x_nw X (fun _ => 0)) = S1 at fr sz1 f0 ⊢
  replace sz := sz1
  clear sz1
  refine x_putFA B (k := 2) 2 rfl rfl rfl xc_7 (by decide) rfl hin rfl nn_7_2 (fun h => absurd h (by decide)) ka q1337 (fun _ h => h) dX8_init_9 ?_
  replace fr : ∀ b, b ≠ -1 → (b < 64 ∨ 86 < b) → (x_up S1 (64) 2 (65)) b = X b := fun b b1 b2 => (x_up_o S1 (by omega)).trans (fr b b1 b2)
  have sz1 : (x_up S1 (64) 2 (65)) (-1) 0 = 66 := by rw [x_up_o _ (by omega)]; exact sz
  replace f0 : (x_up S1 (64) 2 (65)) (64) = (x_g (X 64) 2 (65)) := (x_up_f _ _ _ _).trans (congrArg (fun g => x_g g 2 (65)) f0)
  generalize (x_up S1 (64) 2 (65)) = S2 at fr sz1 f0 ⊢
  replace sz := sz1
  clear sz1
  refine x_aload_n B dX8_init_12 rfl ?_
  refine x_bipush B dX8_init_13 (by decide) ?_
  refine x_newa B (t := 0) (atype := .int) (n := 6) rfl q241 (fun h => h) rfl ⟨by decide, by decide⟩ rfl ⟨by omega, by omega⟩ (by decide) (Nat.le_of_ble_eq_true rfl) (Nat.le_of_ble_eq_true rfl) dX8_init_15 (fun z_15 n_15 => ?_)
  rw [sz] at n_15 ⊢
  obtain ⟨κ2, hκ2⟩ : ∃ k_, k_ = x_ku κ1 66 (.inr (0, 6)) := ⟨_, rfl⟩
  rw [← hκ2]
  replace ka : κ2 (64) = some (.inl (7, 0)) := by rw [hκ2]; rw [x_ku_ne (by omega)]; exact ka
  replace fr : ∀ b, b ≠ -1 → (b < 64 ∨ 86 < b) → (x_nw S2 (fun _ => 0)) b = X b := fun b b1 b2 => (x_nw_oth S2 (fun _ => 0) (by omega) (by omega)).trans (fr b b1 b2)
  have sz1 : (x_nw S2 (fun _ => 0)) (-1) 0 = 67 := by rw [x_nw_sz, sz]; omega
  replace f0 : (x_nw S2 (fun _ => 0)) (64) = (x_g (X 64) 2 (65)) := (x_nw_oth S2 (fun _ => 0) (by omega) (by omega)).trans f0
  generalize (x_nw S2 (fun _ => 0)) = S3 at fr sz1 f0 ⊢
  replace sz := sz1
  clear sz1
  refine x_putFA B (k := 4) 4 rfl rfl rfl xc_7 (by decide) rfl hin rfl nn_7_4 (fun h => absurd h (by decide)) ka q1339 (fun _ h => h) dX8_init_17 ?_
  replace fr : ∀ b, b ≠ -1 → (b < 64 ∨ 86 < b) → (x_up S3 (64) 4 (66)) b = X b := fun b b1 b2 => (x_up_o S3 (by omega)).trans (fr b b1 b2)
  have sz1 : (x_up S3 (64) 4 (66)) (-1) 0 = 67 := by rw [x_up_o _ (by omega)]; exact sz
  replace f0 : (x_up S3 (64) 4 (66)) (64) = (x_g (x_g (X 64) 2 (65)) 4 (66)) := (x_up_f _ _ _ _).trans (congrArg (fun g => x_g g 4 (66)) f0)
  generalize (x_up S3 (64) 4 (66)) = S4 at fr sz1 f0 ⊢
  replace sz := sz1
  clear sz1
  refine x_aload_n B dX8_init_20 rfl ?_
  refine x_bipush B dX8_init_21 (by decide) ?_
  refine x_newa B (t := 0) (atype := .int) (n := 6) rfl q241 (fun h => h) rfl ⟨by decide, by decide⟩ rfl ⟨by omega, by omega⟩ (by decide) (Nat.le_of_ble_eq_true rfl) (Nat.le_of_ble_eq_true rfl) dX8_init_23 (fun z_23 n_23 => ?_)
  rw [sz] at n_23 ⊢
  obtain ⟨κ3, hκ3⟩ : ∃ k_, k_ = x_ku κ2 67 (.inr (0, 6)) := ⟨_, rfl⟩
  rw [← hκ3]
  replace ka : κ3 (64) = some (.inl (7, 0)) := by rw [hκ3]; rw [x_ku_ne (by omega)]; exact ka
  replace fr : ∀ b, b ≠ -1 → (b < 64 ∨ 86 < b) → (x_nw S4 (fun _ => 0)) b = X b := fun b b1 b2 => (x_nw_oth S4 (fun _ => 0) (by omega) (by omega)).trans (fr b b1 b2)
  have sz1 : (x_nw S4 (fun _ => 0)) (-1) 0 = 68 := by rw [x_nw_sz, sz]; omega
  replace f0 : (x_nw S4 (fun _ => 0)) (64) = (x_g (x_g (X 64) 2 (65)) 4 (66)) := (x_nw_oth S4 (fun _ => 0) (by omega) (by omega)).trans f0
  generalize (x_nw S4 (fun _ => 0)) = S5 at fr sz1 f0 ⊢
  replace sz := sz1
  clear sz1
  refine x_putFA B (k := 5) 5 rfl rfl rfl xc_7 (by decide) rfl hin rfl nn_7_5 (fun h => absurd h (by decide)) ka q1340 (fun _ h => h) dX8_init_25 ?_
  replace fr : ∀ b, b ≠ -1 → (b < 64 ∨ 86 < b) → (x_up S5 (64) 5 (67)) b = X b := fun b b1 b2 => (x_up_o S5 (by omega)).trans (fr b b1 b2)
  have sz1 : (x_up S5 (64) 5 (67)) (-1) 0 = 68 := by rw [x_up_o _ (by omega)]; exact sz
  replace f0 : (x_up S5 (64) 5 (67)) (64) = (x_g (x_g (x_g (X 64) 2 (65)) 4 (66)) 5 (67)) := (x_up_f _ _ _ _).trans (congrArg (fun g => x_g g 5 (67)) f0)
  generalize (x_up S5 (64) 5 (67)) = S6 at fr sz1 f0 ⊢
  replace sz := sz1
  clear sz1
  refine x_aload_n B dX8_init_28 rfl ?_
  refine x_bipush B dX8_init_29 (by decide) ?_
  refine x_newa B (t := 0) (atype := .int) (n := 18) rfl q241 (fun h => h) rfl ⟨by decide, by decide⟩ rfl ⟨by omega, by omega⟩ (by decide) (Nat.le_of_ble_eq_true rfl) (Nat.le_of_ble_eq_true rfl) dX8_init_31 (fun z_31 n_31 => ?_)
  rw [sz] at n_31 ⊢
  obtain ⟨κ4, hκ4⟩ : ∃ k_, k_ = x_ku κ3 68 (.inr (0, 18)) := ⟨_, rfl⟩
  rw [← hκ4]
  replace ka : κ4 (64) = some (.inl (7, 0)) := by rw [hκ4]; rw [x_ku_ne (by omega)]; exact ka
  replace fr : ∀ b, b ≠ -1 → (b < 64 ∨ 86 < b) → (x_nw S6 (fun _ => 0)) b = X b := fun b b1 b2 => (x_nw_oth S6 (fun _ => 0) (by omega) (by omega)).trans (fr b b1 b2)
  have sz1 : (x_nw S6 (fun _ => 0)) (-1) 0 = 69 := by rw [x_nw_sz, sz]; omega
  replace f0 : (x_nw S6 (fun _ => 0)) (64) = (x_g (x_g (x_g (X 64) 2 (65)) 4 (66)) 5 (67)) := (x_nw_oth S6 (fun _ => 0) (by omega) (by omega)).trans f0
  generalize (x_nw S6 (fun _ => 0)) = S7 at fr sz1 f0 ⊢
  replace sz := sz1
  clear sz1
  refine x_putFA B (k := 6) 6 rfl rfl rfl xc_7 (by decide) rfl hin rfl nn_7_6 (fun h => absurd h (by decide)) ka q1341 (fun _ h => h) dX8_init_33 ?_
  replace fr : ∀ b, b ≠ -1 → (b < 64 ∨ 86 < b) → (x_up S7 (64) 6 (68)) b = X b := fun b b1 b2 => (x_up_o S7 (by omega)).trans (fr b b1 b2)
  have sz1 : (x_up S7 (64) 6 (68)) (-1) 0 = 69 := by rw [x_up_o _ (by omega)]; exact sz
  replace f0 : (x_up S7 (64) 6 (68)) (64) = (x_g (x_g (x_g (x_g (X 64) 2 (65)) 4 (66)) 5 (67)) 6 (68)) := (x_up_f _ _ _ _).trans (congrArg (fun g => x_g g 6 (68)) f0)
  generalize (x_up S7 (64) 6 (68)) = S8 at fr sz1 f0 ⊢
  replace sz := sz1
  clear sz1
  refine x_aload_n B dX8_init_36 rfl ?_
  refine x_bipush B dX8_init_37 (by decide) ?_
  refine x_newa B (t := 0) (atype := .int) (n := 108) rfl q241 (fun h => h) rfl ⟨by decide, by decide⟩ rfl ⟨by omega, by omega⟩ (by decide) (Nat.le_of_ble_eq_true rfl) (Nat.le_of_ble_eq_true rfl) dX8_init_39 (fun z_39 n_39 => ?_)
  rw [sz] at n_39 ⊢
  obtain ⟨κ5, hκ5⟩ : ∃ k_, k_ = x_ku κ4 69 (.inr (0, 108)) := ⟨_, rfl⟩
  rw [← hκ5]
  replace ka : κ5 (64) = some (.inl (7, 0)) := by rw [hκ5]; rw [x_ku_ne (by omega)]; exact ka
  replace fr : ∀ b, b ≠ -1 → (b < 64 ∨ 86 < b) → (x_nw S8 (fun _ => 0)) b = X b := fun b b1 b2 => (x_nw_oth S8 (fun _ => 0) (by omega) (by omega)).trans (fr b b1 b2)
  have sz1 : (x_nw S8 (fun _ => 0)) (-1) 0 = 70 := by rw [x_nw_sz, sz]; omega
  replace f0 : (x_nw S8 (fun _ => 0)) (64) = (x_g (x_g (x_g (x_g (X 64) 2 (65)) 4 (66)) 5 (67)) 6 (68)) := (x_nw_oth S8 (fun _ => 0) (by omega) (by omega)).trans f0
  generalize (x_nw S8 (fun _ => 0)) = S9 at fr sz1 f0 ⊢
  replace sz := sz1
  clear sz1
  refine x_putFA B (k := 7) 7 rfl rfl rfl xc_7 (by decide) rfl hin rfl nn_7_7 (fun h => absurd h (by decide)) ka q1342 (fun _ h => h) dX8_init_41 ?_
  replace fr : ∀ b, b ≠ -1 → (b < 64 ∨ 86 < b) → (x_up S9 (64) 7 (69)) b = X b := fun b b1 b2 => (x_up_o S9 (by omega)).trans (fr b b1 b2)
  have sz1 : (x_up S9 (64) 7 (69)) (-1) 0 = 70 := by rw [x_up_o _ (by omega)]; exact sz
  replace f0 : (x_up S9 (64) 7 (69)) (64) = (x_g (x_g (x_g (x_g (x_g (X 64) 2 (65)) 4 (66)) 5 (67)) 6 (68)) 7 (69)) := (x_up_f _ _ _ _).trans (congrArg (fun g => x_g g 7 (69)) f0)
  generalize (x_up S9 (64) 7 (69)) = S10 at fr sz1 f0 ⊢
  replace sz := sz1
  clear sz1
  refine x_aload_n B dX8_init_44 rfl ?_
  refine x_bipush B dX8_init_45 (by decide) ?_
  refine x_newa B (t := 0) (atype := .int) (n := 108) rfl q241 (fun h => h) rfl ⟨by decide, by decide⟩ rfl ⟨by omega, by omega⟩ (by decide) (Nat.le_of_ble_eq_true rfl) (Nat.le_of_ble_eq_true rfl) dX8_init_47 (fun z_47 n_47 => ?_)
  rw [sz] at n_47 ⊢
  obtain ⟨κ6, hκ6⟩ : ∃ k_, k_ = x_ku κ5 70 (.inr (0, 108)) := ⟨_, rfl⟩
  rw [← hκ6]
  replace ka : κ6 (64) = some (.inl (7, 0)) := by rw [hκ6]; rw [x_ku_ne (by omega)]; exact ka
  replace fr : ∀ b, b ≠ -1 → (b < 64 ∨ 86 < b) → (x_nw S10 (fun _ => 0)) b = X b := fun b b1 b2 => (x_nw_oth S10 (fun _ => 0) (by omega) (by omega)).trans (fr b b1 b2)
  have sz1 : (x_nw S10 (fun _ => 0)) (-1) 0 = 71 := by rw [x_nw_sz, sz]; omega
  replace f0 : (x_nw S10 (fun _ => 0)) (64) = (x_g (x_g (x_g (x_g (x_g (X 64) 2 (65)) 4 (66)) 5 (67)) 6 (68)) 7 (69)) := (x_nw_oth S10 (fun _ => 0) (by omega) (by omega)).trans f0
  generalize (x_nw S10 (fun _ => 0)) = S11 at fr sz1 f0 ⊢
  replace sz := sz1
  clear sz1
  refine x_putFA B (k := 8) 8 rfl rfl rfl xc_7 (by decide) rfl hin rfl nn_7_8 (fun h => absurd h (by decide)) ka q1343 (fun _ h => h) dX8_init_49 ?_
  replace fr : ∀ b, b ≠ -1 → (b < 64 ∨ 86 < b) → (x_up S11 (64) 8 (70)) b = X b := fun b b1 b2 => (x_up_o S11 (by omega)).trans (fr b b1 b2)
  have sz1 : (x_up S11 (64) 8 (70)) (-1) 0 = 71 := by rw [x_up_o _ (by omega)]; exact sz
  replace f0 : (x_up S11 (64) 8 (70)) (64) = (x_g (x_g (x_g (x_g (x_g (x_g (X 64) 2 (65)) 4 (66)) 5 (67)) 6 (68)) 7 (69)) 8 (70)) := (x_up_f _ _ _ _).trans (congrArg (fun g => x_g g 8 (70)) f0)
  generalize (x_up S11 (64) 8 (70)) = S12 at fr sz1 f0 ⊢
  replace sz := sz1
  clear sz1
  refine x_aload_n B dX8_init_52 rfl ?_
  refine x_bipush B dX8_init_53 (by decide) ?_
  refine x_newa B (t := 0) (atype := .int) (n := 54) rfl q241 (fun h => h) rfl ⟨by decide, by decide⟩ rfl ⟨by omega, by omega⟩ (by decide) (Nat.le_of_ble_eq_true rfl) (Nat.le_of_ble_eq_true rfl) dX8_init_55 (fun z_55 n_55 => ?_)
  rw [sz] at n_55 ⊢
  obtain ⟨κ7, hκ7⟩ : ∃ k_, k_ = x_ku κ6 71 (.inr (0, 54)) := ⟨_, rfl⟩
  rw [← hκ7]
  replace ka : κ7 (64) = some (.inl (7, 0)) := by rw [hκ7]; rw [x_ku_ne (by omega)]; exact ka
  replace fr : ∀ b, b ≠ -1 → (b < 64 ∨ 86 < b) → (x_nw S12 (fun _ => 0)) b = X b := fun b b1 b2 => (x_nw_oth S12 (fun _ => 0) (by omega) (by omega)).trans (fr b b1 b2)
  have sz1 : (x_nw S12 (fun _ => 0)) (-1) 0 = 72 := by rw [x_nw_sz, sz]; omega
  replace f0 : (x_nw S12 (fun _ => 0)) (64) = (x_g (x_g (x_g (x_g (x_g (x_g (X 64) 2 (65)) 4 (66)) 5 (67)) 6 (68)) 7 (69)) 8 (70)) := (x_nw_oth S12 (fun _ => 0) (by omega) (by omega)).trans f0
  generalize (x_nw S12 (fun _ => 0)) = S13 at fr sz1 f0 ⊢
  replace sz := sz1
  clear sz1
  refine x_putFA B (k := 9) 9 rfl rfl rfl xc_7 (by decide) rfl hin rfl nn_7_9 (fun h => absurd h (by decide)) ka q1344 (fun _ h => h) dX8_init_57 ?_
  replace fr : ∀ b, b ≠ -1 → (b < 64 ∨ 86 < b) → (x_up S13 (64) 9 (71)) b = X b := fun b b1 b2 => (x_up_o S13 (by omega)).trans (fr b b1 b2)
  have sz1 : (x_up S13 (64) 9 (71)) (-1) 0 = 72 := by rw [x_up_o _ (by omega)]; exact sz
  replace f0 : (x_up S13 (64) 9 (71)) (64) = (x_g (x_g (x_g (x_g (x_g (x_g (x_g (X 64) 2 (65)) 4 (66)) 5 (67)) 6 (68)) 7 (69)) 8 (70)) 9 (71)) := (x_up_f _ _ _ _).trans (congrArg (fun g => x_g g 9 (71)) f0)
  generalize (x_up S13 (64) 9 (71)) = S14 at fr sz1 f0 ⊢
  replace sz := sz1
  clear sz1
  refine x_aload_n B dX8_init_60 rfl ?_
  refine x_bipush B dX8_init_61 (by decide) ?_
  refine x_newa B (t := 0) (atype := .int) (n := 63) rfl q241 (fun h => h) rfl ⟨by decide, by decide⟩ rfl ⟨by omega, by omega⟩ (by decide) (Nat.le_of_ble_eq_true rfl) (Nat.le_of_ble_eq_true rfl) dX8_init_63 (fun z_63 n_63 => ?_)
  rw [sz] at n_63 ⊢
  obtain ⟨κ8, hκ8⟩ : ∃ k_, k_ = x_ku κ7 72 (.inr (0, 63)) := ⟨_, rfl⟩
  rw [← hκ8]
  replace ka : κ8 (64) = some (.inl (7, 0)) := by rw [hκ8]; rw [x_ku_ne (by omega)]; exact ka
  replace fr : ∀ b, b ≠ -1 → (b < 64 ∨ 86 < b) → (x_nw S14 (fun _ => 0)) b = X b := fun b b1 b2 => (x_nw_oth S14 (fun _ => 0) (by omega) (by omega)).trans (fr b b1 b2)
  have sz1 : (x_nw S14 (fun _ => 0)) (-1) 0 = 73 := by rw [x_nw_sz, sz]; omega
  replace f0 : (x_nw S14 (fun _ => 0)) (64) = (x_g (x_g (x_g (x_g (x_g (x_g (x_g (X 64) 2 (65)) 4 (66)) 5 (67)) 6 (68)) 7 (69)) 8 (70)) 9 (71)) := (x_nw_oth S14 (fun _ => 0) (by omega) (by omega)).trans f0
  have f72 : (x_nw S14 (fun _ => 0)) (72) = (fun _ => 0) := by have hh := x_nw_at S14 (fun _ => 0) (by omega); rw [sz] at hh; exact hh
  generalize (x_nw S14 (fun _ => 0)) = S15 at fr sz1 f0 f72 ⊢
  replace sz := sz1
  clear sz1
  refine x_putFA B (k := 11) 11 rfl rfl rfl xc_7 (by decide) rfl hin rfl nn_7_11 (fun h => absurd h (by decide)) ka q1346 (fun _ h => h) dX8_init_65 ?_
  replace fr : ∀ b, b ≠ -1 → (b < 64 ∨ 86 < b) → (x_up S15 (64) 11 (72)) b = X b := fun b b1 b2 => (x_up_o S15 (by omega)).trans (fr b b1 b2)
  have sz1 : (x_up S15 (64) 11 (72)) (-1) 0 = 73 := by rw [x_up_o _ (by omega)]; exact sz
  replace f0 : (x_up S15 (64) 11 (72)) (64) = (x_g (x_g (x_g (x_g (x_g (x_g (x_g (x_g (X 64) 2 (65)) 4 (66)) 5 (67)) 6 (68)) 7 (69)) 8 (70)) 9 (71)) 11 (72)) := (x_up_f _ _ _ _).trans (congrArg (fun g => x_g g 11 (72)) f0)
  replace f72 : (x_up S15 (64) 11 (72)) (72) = (fun _ => 0) := (x_up_o S15 (by omega)).trans f72
  generalize (x_up S15 (64) 11 (72)) = S16 at fr sz1 f0 f72 ⊢
  replace sz := sz1
  clear sz1
  refine x_aload_n B dX8_init_68 rfl ?_
  refine x_bipush B dX8_init_69 (by decide) ?_
  refine x_newa B (t := 0) (atype := .int) (n := 63) rfl q241 (fun h => h) rfl ⟨by decide, by decide⟩ rfl ⟨by omega, by omega⟩ (by decide) (Nat.le_of_ble_eq_true rfl) (Nat.le_of_ble_eq_true rfl) dX8_init_71 (fun z_71 n_71 => ?_)
  rw [sz] at n_71 ⊢
  obtain ⟨κ9, hκ9⟩ : ∃ k_, k_ = x_ku κ8 73 (.inr (0, 63)) := ⟨_, rfl⟩
  rw [← hκ9]
  replace ka : κ9 (64) = some (.inl (7, 0)) := by rw [hκ9]; rw [x_ku_ne (by omega)]; exact ka
  replace fr : ∀ b, b ≠ -1 → (b < 64 ∨ 86 < b) → (x_nw S16 (fun _ => 0)) b = X b := fun b b1 b2 => (x_nw_oth S16 (fun _ => 0) (by omega) (by omega)).trans (fr b b1 b2)
  have sz1 : (x_nw S16 (fun _ => 0)) (-1) 0 = 74 := by rw [x_nw_sz, sz]; omega
  replace f0 : (x_nw S16 (fun _ => 0)) (64) = (x_g (x_g (x_g (x_g (x_g (x_g (x_g (x_g (X 64) 2 (65)) 4 (66)) 5 (67)) 6 (68)) 7 (69)) 8 (70)) 9 (71)) 11 (72)) := (x_nw_oth S16 (fun _ => 0) (by omega) (by omega)).trans f0
  replace f72 : (x_nw S16 (fun _ => 0)) (72) = (fun _ => 0) := (x_nw_oth S16 (fun _ => 0) (by omega) (by omega)).trans f72
  generalize (x_nw S16 (fun _ => 0)) = S17 at fr sz1 f0 f72 ⊢
  replace sz := sz1
  clear sz1
  refine x_putFA B (k := 12) 12 rfl rfl rfl xc_7 (by decide) rfl hin rfl nn_7_12 (fun h => absurd h (by decide)) ka q1347 (fun _ h => h) dX8_init_73 ?_
  replace fr : ∀ b, b ≠ -1 → (b < 64 ∨ 86 < b) → (x_up S17 (64) 12 (73)) b = X b := fun b b1 b2 => (x_up_o S17 (by omega)).trans (fr b b1 b2)
  have sz1 : (x_up S17 (64) 12 (73)) (-1) 0 = 74 := by rw [x_up_o _ (by omega)]; exact sz
  replace f0 : (x_up S17 (64) 12 (73)) (64) = (x_g (x_g (x_g (x_g (x_g (x_g (x_g (x_g (x_g (X 64) 2 (65)) 4 (66)) 5 (67)) 6 (68)) 7 (69)) 8 (70)) 9 (71)) 11 (72)) 12 (73)) := (x_up_f _ _ _ _).trans (congrArg (fun g => x_g g 12 (73)) f0)
  replace f72 : (x_up S17 (64) 12 (73)) (72) = (fun _ => 0) := (x_up_o S17 (by omega)).trans f72
  generalize (x_up S17 (64) 12 (73)) = S18 at fr sz1 f0 f72 ⊢
  replace sz := sz1
  clear sz1
  refine x_aload_n B dX8_init_76 rfl ?_
  refine x_sipush B dX8_init_77 (by decide) ?_
  refine x_newa B (t := 0) (atype := .int) (n := 240) rfl q241 (fun h => h) rfl ⟨by decide, by decide⟩ rfl ⟨by omega, by omega⟩ (by decide) (Nat.le_of_ble_eq_true rfl) (Nat.le_of_ble_eq_true rfl) dX8_init_80 (fun z_80 n_80 => ?_)
  rw [sz] at n_80 ⊢
  obtain ⟨κ10, hκ10⟩ : ∃ k_, k_ = x_ku κ9 74 (.inr (0, 240)) := ⟨_, rfl⟩
  rw [← hκ10]
  replace ka : κ10 (64) = some (.inl (7, 0)) := by rw [hκ10]; rw [x_ku_ne (by omega)]; exact ka
  replace fr : ∀ b, b ≠ -1 → (b < 64 ∨ 86 < b) → (x_nw S18 (fun _ => 0)) b = X b := fun b b1 b2 => (x_nw_oth S18 (fun _ => 0) (by omega) (by omega)).trans (fr b b1 b2)
  have sz1 : (x_nw S18 (fun _ => 0)) (-1) 0 = 75 := by rw [x_nw_sz, sz]; omega
  replace f0 : (x_nw S18 (fun _ => 0)) (64) = (x_g (x_g (x_g (x_g (x_g (x_g (x_g (x_g (x_g (X 64) 2 (65)) 4 (66)) 5 (67)) 6 (68)) 7 (69)) 8 (70)) 9 (71)) 11 (72)) 12 (73)) := (x_nw_oth S18 (fun _ => 0) (by omega) (by omega)).trans f0
  replace f72 : (x_nw S18 (fun _ => 0)) (72) = (fun _ => 0) := (x_nw_oth S18 (fun _ => 0) (by omega) (by omega)).trans f72
  generalize (x_nw S18 (fun _ => 0)) = S19 at fr sz1 f0 f72 ⊢
  replace sz := sz1
  clear sz1
  refine x_putFA B (k := 15) 15 rfl rfl rfl xc_7 (by decide) rfl hin rfl nn_7_15 (fun h => absurd h (by decide)) ka q1350 (fun _ h => h) dX8_init_82 ?_
  replace fr : ∀ b, b ≠ -1 → (b < 64 ∨ 86 < b) → (x_up S19 (64) 15 (74)) b = X b := fun b b1 b2 => (x_up_o S19 (by omega)).trans (fr b b1 b2)
  have sz1 : (x_up S19 (64) 15 (74)) (-1) 0 = 75 := by rw [x_up_o _ (by omega)]; exact sz
  replace f0 : (x_up S19 (64) 15 (74)) (64) = (x_g (x_g (x_g (x_g (x_g (x_g (x_g (x_g (x_g (x_g (X 64) 2 (65)) 4 (66)) 5 (67)) 6 (68)) 7 (69)) 8 (70)) 9 (71)) 11 (72)) 12 (73)) 15 (74)) := (x_up_f _ _ _ _).trans (congrArg (fun g => x_g g 15 (74)) f0)
  replace f72 : (x_up S19 (64) 15 (74)) (72) = (fun _ => 0) := (x_up_o S19 (by omega)).trans f72
  generalize (x_up S19 (64) 15 (74)) = S20 at fr sz1 f0 f72 ⊢
  replace sz := sz1
  clear sz1
  refine x_aload_n B dX8_init_85 rfl ?_
  refine x_sipush B dX8_init_86 (by decide) ?_
  refine x_newa B (t := 0) (atype := .int) (n := 240) rfl q241 (fun h => h) rfl ⟨by decide, by decide⟩ rfl ⟨by omega, by omega⟩ (by decide) (Nat.le_of_ble_eq_true rfl) (Nat.le_of_ble_eq_true rfl) dX8_init_89 (fun z_89 n_89 => ?_)
  rw [sz] at n_89 ⊢
  obtain ⟨κ11, hκ11⟩ : ∃ k_, k_ = x_ku κ10 75 (.inr (0, 240)) := ⟨_, rfl⟩
  rw [← hκ11]
  replace ka : κ11 (64) = some (.inl (7, 0)) := by rw [hκ11]; rw [x_ku_ne (by omega)]; exact ka
  replace fr : ∀ b, b ≠ -1 → (b < 64 ∨ 86 < b) → (x_nw S20 (fun _ => 0)) b = X b := fun b b1 b2 => (x_nw_oth S20 (fun _ => 0) (by omega) (by omega)).trans (fr b b1 b2)
  have sz1 : (x_nw S20 (fun _ => 0)) (-1) 0 = 76 := by rw [x_nw_sz, sz]; omega
  replace f0 : (x_nw S20 (fun _ => 0)) (64) = (x_g (x_g (x_g (x_g (x_g (x_g (x_g (x_g (x_g (x_g (X 64) 2 (65)) 4 (66)) 5 (67)) 6 (68)) 7 (69)) 8 (70)) 9 (71)) 11 (72)) 12 (73)) 15 (74)) := (x_nw_oth S20 (fun _ => 0) (by omega) (by omega)).trans f0
  replace f72 : (x_nw S20 (fun _ => 0)) (72) = (fun _ => 0) := (x_nw_oth S20 (fun _ => 0) (by omega) (by omega)).trans f72
  have f75 : (x_nw S20 (fun _ => 0)) (75) = (fun _ => 0) := by have hh := x_nw_at S20 (fun _ => 0) (by omega); rw [sz] at hh; exact hh
  generalize (x_nw S20 (fun _ => 0)) = S21 at fr sz1 f0 f72 f75 ⊢
  replace sz := sz1
  clear sz1
  refine x_putFA B (k := 17) 17 rfl rfl rfl xc_7 (by decide) rfl hin rfl nn_7_17 (fun h => absurd h (by decide)) ka q1352 (fun _ h => h) dX8_init_91 ?_
  replace fr : ∀ b, b ≠ -1 → (b < 64 ∨ 86 < b) → (x_up S21 (64) 17 (75)) b = X b := fun b b1 b2 => (x_up_o S21 (by omega)).trans (fr b b1 b2)
  have sz1 : (x_up S21 (64) 17 (75)) (-1) 0 = 76 := by rw [x_up_o _ (by omega)]; exact sz
  replace f0 : (x_up S21 (64) 17 (75)) (64) = (x_g (x_g (x_g (x_g (x_g (x_g (x_g (x_g (x_g (x_g (x_g (X 64) 2 (65)) 4 (66)) 5 (67)) 6 (68)) 7 (69)) 8 (70)) 9 (71)) 11 (72)) 12 (73)) 15 (74)) 17 (75)) := (x_up_f _ _ _ _).trans (congrArg (fun g => x_g g 17 (75)) f0)
  replace f72 : (x_up S21 (64) 17 (75)) (72) = (fun _ => 0) := (x_up_o S21 (by omega)).trans f72
  replace f75 : (x_up S21 (64) 17 (75)) (75) = (fun _ => 0) := (x_up_o S21 (by omega)).trans f75
  generalize (x_up S21 (64) 17 (75)) = S22 at fr sz1 f0 f72 f75 ⊢
  replace sz := sz1
  clear sz1
  refine x_aload_n B dX8_init_94 rfl ?_
  refine x_iconst B dX8_init_95 ?_
  refine x_newa B (t := 0) (atype := .int) (n := 3) rfl q241 (fun h => h) rfl ⟨by decide, by decide⟩ rfl ⟨by omega, by omega⟩ (by decide) (Nat.le_of_ble_eq_true rfl) (Nat.le_of_ble_eq_true rfl) dX8_init_96 (fun z_96 n_96 => ?_)
  rw [sz] at n_96 ⊢
  obtain ⟨κ12, hκ12⟩ : ∃ k_, k_ = x_ku κ11 76 (.inr (0, 3)) := ⟨_, rfl⟩
  rw [← hκ12]
  replace ka : κ12 (64) = some (.inl (7, 0)) := by rw [hκ12]; rw [x_ku_ne (by omega)]; exact ka
  replace fr : ∀ b, b ≠ -1 → (b < 64 ∨ 86 < b) → (x_nw S22 (fun _ => 0)) b = X b := fun b b1 b2 => (x_nw_oth S22 (fun _ => 0) (by omega) (by omega)).trans (fr b b1 b2)
  have sz1 : (x_nw S22 (fun _ => 0)) (-1) 0 = 77 := by rw [x_nw_sz, sz]; omega
  replace f0 : (x_nw S22 (fun _ => 0)) (64) = (x_g (x_g (x_g (x_g (x_g (x_g (x_g (x_g (x_g (x_g (x_g (X 64) 2 (65)) 4 (66)) 5 (67)) 6 (68)) 7 (69)) 8 (70)) 9 (71)) 11 (72)) 12 (73)) 15 (74)) 17 (75)) := (x_nw_oth S22 (fun _ => 0) (by omega) (by omega)).trans f0
  replace f72 : (x_nw S22 (fun _ => 0)) (72) = (fun _ => 0) := (x_nw_oth S22 (fun _ => 0) (by omega) (by omega)).trans f72
  replace f75 : (x_nw S22 (fun _ => 0)) (75) = (fun _ => 0) := (x_nw_oth S22 (fun _ => 0) (by omega) (by omega)).trans f75
  generalize (x_nw S22 (fun _ => 0)) = S23 at fr sz1 f0 f72 f75 ⊢
  replace sz := sz1
  clear sz1
  refine x_putFA B (k := 24) 24 rfl rfl rfl xc_7 (by decide) rfl hin rfl nn_7_24 (fun h => absurd h (by decide)) ka q1359 (fun _ h => h) dX8_init_98 ?_
  replace fr : ∀ b, b ≠ -1 → (b < 64 ∨ 86 < b) → (x_up S23 (64) 24 (76)) b = X b := fun b b1 b2 => (x_up_o S23 (by omega)).trans (fr b b1 b2)
  have sz1 : (x_up S23 (64) 24 (76)) (-1) 0 = 77 := by rw [x_up_o _ (by omega)]; exact sz
  replace f0 : (x_up S23 (64) 24 (76)) (64) = (x_g (x_g (x_g (x_g (x_g (x_g (x_g (x_g (x_g (x_g (x_g (x_g (X 64) 2 (65)) 4 (66)) 5 (67)) 6 (68)) 7 (69)) 8 (70)) 9 (71)) 11 (72)) 12 (73)) 15 (74)) 17 (75)) 24 (76)) := (x_up_f _ _ _ _).trans (congrArg (fun g => x_g g 24 (76)) f0)
  replace f72 : (x_up S23 (64) 24 (76)) (72) = (fun _ => 0) := (x_up_o S23 (by omega)).trans f72
  replace f75 : (x_up S23 (64) 24 (76)) (75) = (fun _ => 0) := (x_up_o S23 (by omega)).trans f75
  generalize (x_up S23 (64) 24 (76)) = S24 at fr sz1 f0 f72 f75 ⊢
  replace sz := sz1
  clear sz1
  refine x_aload_n B dX8_init_101 rfl ?_
  refine x_bipush B dX8_init_102 (by decide) ?_
  refine x_newa B (t := 0) (atype := .int) (n := 18) rfl q241 (fun h => h) rfl ⟨by decide, by decide⟩ rfl ⟨by omega, by omega⟩ (by decide) (Nat.le_of_ble_eq_true rfl) (Nat.le_of_ble_eq_true rfl) dX8_init_104 (fun z_104 n_104 => ?_)
  rw [sz] at n_104 ⊢
  obtain ⟨κ13, hκ13⟩ : ∃ k_, k_ = x_ku κ12 77 (.inr (0, 18)) := ⟨_, rfl⟩
  rw [← hκ13]
  replace ka : κ13 (64) = some (.inl (7, 0)) := by rw [hκ13]; rw [x_ku_ne (by omega)]; exact ka
  replace fr : ∀ b, b ≠ -1 → (b < 64 ∨ 86 < b) → (x_nw S24 (fun _ => 0)) b = X b := fun b b1 b2 => (x_nw_oth S24 (fun _ => 0) (by omega) (by omega)).trans (fr b b1 b2)
  have sz1 : (x_nw S24 (fun _ => 0)) (-1) 0 = 78 := by rw [x_nw_sz, sz]; omega
  replace f0 : (x_nw S24 (fun _ => 0)) (64) = (x_g (x_g (x_g (x_g (x_g (x_g (x_g (x_g (x_g (x_g (x_g (x_g (X 64) 2 (65)) 4 (66)) 5 (67)) 6 (68)) 7 (69)) 8 (70)) 9 (71)) 11 (72)) 12 (73)) 15 (74)) 17 (75)) 24 (76)) := (x_nw_oth S24 (fun _ => 0) (by omega) (by omega)).trans f0
  replace f72 : (x_nw S24 (fun _ => 0)) (72) = (fun _ => 0) := (x_nw_oth S24 (fun _ => 0) (by omega) (by omega)).trans f72
  replace f75 : (x_nw S24 (fun _ => 0)) (75) = (fun _ => 0) := (x_nw_oth S24 (fun _ => 0) (by omega) (by omega)).trans f75
  generalize (x_nw S24 (fun _ => 0)) = S25 at fr sz1 f0 f72 f75 ⊢
  replace sz := sz1
  clear sz1
  refine x_putFA B (k := 25) 25 rfl rfl rfl xc_7 (by decide) rfl hin rfl nn_7_25 (fun h => absurd h (by decide)) ka q1360 (fun _ h => h) dX8_init_106 ?_
  replace fr : ∀ b, b ≠ -1 → (b < 64 ∨ 86 < b) → (x_up S25 (64) 25 (77)) b = X b := fun b b1 b2 => (x_up_o S25 (by omega)).trans (fr b b1 b2)
  have sz1 : (x_up S25 (64) 25 (77)) (-1) 0 = 78 := by rw [x_up_o _ (by omega)]; exact sz
  replace f0 : (x_up S25 (64) 25 (77)) (64) = (x_g (x_g (x_g (x_g (x_g (x_g (x_g (x_g (x_g (x_g (x_g (x_g (x_g (X 64) 2 (65)) 4 (66)) 5 (67)) 6 (68)) 7 (69)) 8 (70)) 9 (71)) 11 (72)) 12 (73)) 15 (74)) 17 (75)) 24 (76)) 25 (77)) := (x_up_f _ _ _ _).trans (congrArg (fun g => x_g g 25 (77)) f0)
  replace f72 : (x_up S25 (64) 25 (77)) (72) = (fun _ => 0) := (x_up_o S25 (by omega)).trans f72
  replace f75 : (x_up S25 (64) 25 (77)) (75) = (fun _ => 0) := (x_up_o S25 (by omega)).trans f75
  generalize (x_up S25 (64) 25 (77)) = S26 at fr sz1 f0 f72 f75 ⊢
  replace sz := sz1
  clear sz1
  refine x_aload_n B dX8_init_109 rfl ?_
  refine x_bipush B dX8_init_110 (by decide) ?_
  refine x_newa B (t := 0) (atype := .int) (n := 18) rfl q241 (fun h => h) rfl ⟨by decide, by decide⟩ rfl ⟨by omega, by omega⟩ (by decide) (Nat.le_of_ble_eq_true rfl) (Nat.le_of_ble_eq_true rfl) dX8_init_112 (fun z_112 n_112 => ?_)
  rw [sz] at n_112 ⊢
  obtain ⟨κ14, hκ14⟩ : ∃ k_, k_ = x_ku κ13 78 (.inr (0, 18)) := ⟨_, rfl⟩
  rw [← hκ14]
  replace ka : κ14 (64) = some (.inl (7, 0)) := by rw [hκ14]; rw [x_ku_ne (by omega)]; exact ka
  replace fr : ∀ b, b ≠ -1 → (b < 64 ∨ 86 < b) → (x_nw S26 (fun _ => 0)) b = X b := fun b b1 b2 => (x_nw_oth S26 (fun _ => 0) (by omega) (by omega)).trans (fr b b1 b2)
  have sz1 : (x_nw S26 (fun _ => 0)) (-1) 0 = 79 := by rw [x_nw_sz, sz]; omega
  replace f0 : (x_nw S26 (fun _ => 0)) (64) = (x_g (x_g (x_g (x_g (x_g (x_g (x_g (x_g (x_g (x_g (x_g (x_g (x_g (X 64) 2 (65)) 4 (66)) 5 (67)) 6 (68)) 7 (69)) 8 (70)) 9 (71)) 11 (72)) 12 (73)) 15 (74)) 17 (75)) 24 (76)) 25 (77)) := (x_nw_oth S26 (fun _ => 0) (by omega) (by omega)).trans f0
  replace f72 : (x_nw S26 (fun _ => 0)) (72) = (fun _ => 0) := (x_nw_oth S26 (fun _ => 0) (by omega) (by omega)).trans f72
  replace f75 : (x_nw S26 (fun _ => 0)) (75) = (fun _ => 0) := (x_nw_oth S26 (fun _ => 0) (by omega) (by omega)).trans f75
  generalize (x_nw S26 (fun _ => 0)) = S27 at fr sz1 f0 f72 f75 ⊢
  replace sz := sz1
  clear sz1
  refine x_putFA B (k := 26) 26 rfl rfl rfl xc_7 (by decide) rfl hin rfl nn_7_26 (fun h => absurd h (by decide)) ka q1361 (fun _ h => h) dX8_init_114 ?_
  replace fr : ∀ b, b ≠ -1 → (b < 64 ∨ 86 < b) → (x_up S27 (64) 26 (78)) b = X b := fun b b1 b2 => (x_up_o S27 (by omega)).trans (fr b b1 b2)
  have sz1 : (x_up S27 (64) 26 (78)) (-1) 0 = 79 := by rw [x_up_o _ (by omega)]; exact sz
  replace f0 : (x_up S27 (64) 26 (78)) (64) = (x_g (x_g (x_g (x_g (x_g (x_g (x_g (x_g (x_g (x_g (x_g (x_g (x_g (x_g (X 64) 2 (65)) 4 (66)) 5 (67)) 6 (68)) 7 (69)) 8 (70)) 9 (71)) 11 (72)) 12 (73)) 15 (74)) 17 (75)) 24 (76)) 25 (77)) 26 (78)) := (x_up_f _ _ _ _).trans (congrArg (fun g => x_g g 26 (78)) f0)
  replace f72 : (x_up S27 (64) 26 (78)) (72) = (fun _ => 0) := (x_up_o S27 (by omega)).trans f72
  replace f75 : (x_up S27 (64) 26 (78)) (75) = (fun _ => 0) := (x_up_o S27 (by omega)).trans f75
  generalize (x_up S27 (64) 26 (78)) = S28 at fr sz1 f0 f72 f75 ⊢
  replace sz := sz1
  clear sz1
  refine x_aload_n B dX8_init_117 rfl ?_
  refine x_bipush B dX8_init_118 (by decide) ?_
  refine x_newa B (t := 0) (atype := .int) (n := 9) rfl q241 (fun h => h) rfl ⟨by decide, by decide⟩ rfl ⟨by omega, by omega⟩ (by decide) (Nat.le_of_ble_eq_true rfl) (Nat.le_of_ble_eq_true rfl) dX8_init_120 (fun z_120 n_120 => ?_)
  rw [sz] at n_120 ⊢
  obtain ⟨κ15, hκ15⟩ : ∃ k_, k_ = x_ku κ14 79 (.inr (0, 9)) := ⟨_, rfl⟩
  rw [← hκ15]
  replace ka : κ15 (64) = some (.inl (7, 0)) := by rw [hκ15]; rw [x_ku_ne (by omega)]; exact ka
  replace fr : ∀ b, b ≠ -1 → (b < 64 ∨ 86 < b) → (x_nw S28 (fun _ => 0)) b = X b := fun b b1 b2 => (x_nw_oth S28 (fun _ => 0) (by omega) (by omega)).trans (fr b b1 b2)
  have sz1 : (x_nw S28 (fun _ => 0)) (-1) 0 = 80 := by rw [x_nw_sz, sz]; omega
  replace f0 : (x_nw S28 (fun _ => 0)) (64) = (x_g (x_g (x_g (x_g (x_g (x_g (x_g (x_g (x_g (x_g (x_g (x_g (x_g (x_g (X 64) 2 (65)) 4 (66)) 5 (67)) 6 (68)) 7 (69)) 8 (70)) 9 (71)) 11 (72)) 12 (73)) 15 (74)) 17 (75)) 24 (76)) 25 (77)) 26 (78)) := (x_nw_oth S28 (fun _ => 0) (by omega) (by omega)).trans f0
  replace f72 : (x_nw S28 (fun _ => 0)) (72) = (fun _ => 0) := (x_nw_oth S28 (fun _ => 0) (by omega) (by omega)).trans f72
  replace f75 : (x_nw S28 (fun _ => 0)) (75) = (fun _ => 0) := (x_nw_oth S28 (fun _ => 0) (by omega) (by omega)).trans f75
  generalize (x_nw S28 (fun _ => 0)) = S29 at fr sz1 f0 f72 f75 ⊢
  replace sz := sz1
  clear sz1
  refine x_putFA B (k := 27) 27 rfl rfl rfl xc_7 (by decide) rfl hin rfl nn_7_27 (fun h => absurd h (by decide)) ka q1362 (fun _ h => h) dX8_init_122 ?_
  replace fr : ∀ b, b ≠ -1 → (b < 64 ∨ 86 < b) → (x_up S29 (64) 27 (79)) b = X b := fun b b1 b2 => (x_up_o S29 (by omega)).trans (fr b b1 b2)
  have sz1 : (x_up S29 (64) 27 (79)) (-1) 0 = 80 := by rw [x_up_o _ (by omega)]; exact sz
  replace f0 : (x_up S29 (64) 27 (79)) (64) = (x_g (x_g (x_g (x_g (x_g (x_g (x_g (x_g (x_g (x_g (x_g (x_g (x_g (x_g (x_g (X 64) 2 (65)) 4 (66)) 5 (67)) 6 (68)) 7 (69)) 8 (70)) 9 (71)) 11 (72)) 12 (73)) 15 (74)) 17 (75)) 24 (76)) 25 (77)) 26 (78)) 27 (79)) := (x_up_f _ _ _ _).trans (congrArg (fun g => x_g g 27 (79)) f0)
  replace f72 : (x_up S29 (64) 27 (79)) (72) = (fun _ => 0) := (x_up_o S29 (by omega)).trans f72
  replace f75 : (x_up S29 (64) 27 (79)) (75) = (fun _ => 0) := (x_up_o S29 (by omega)).trans f75
  generalize (x_up S29 (64) 27 (79)) = S30 at fr sz1 f0 f72 f75 ⊢
  replace sz := sz1
  clear sz1
  refine x_aload_n B dX8_init_125 rfl ?_
  refine x_bipush B dX8_init_126 (by decide) ?_
  refine x_newa B (t := 0) (atype := .int) (n := 122) rfl q241 (fun h => h) rfl ⟨by decide, by decide⟩ rfl ⟨by omega, by omega⟩ (by decide) (Nat.le_of_ble_eq_true rfl) (Nat.le_of_ble_eq_true rfl) dX8_init_128 (fun z_128 n_128 => ?_)
  rw [sz] at n_128 ⊢
  obtain ⟨κ16, hκ16⟩ : ∃ k_, k_ = x_ku κ15 80 (.inr (0, 122)) := ⟨_, rfl⟩
  rw [← hκ16]
  replace ka : κ16 (64) = some (.inl (7, 0)) := by rw [hκ16]; rw [x_ku_ne (by omega)]; exact ka
  replace fr : ∀ b, b ≠ -1 → (b < 64 ∨ 86 < b) → (x_nw S30 (fun _ => 0)) b = X b := fun b b1 b2 => (x_nw_oth S30 (fun _ => 0) (by omega) (by omega)).trans (fr b b1 b2)
  have sz1 : (x_nw S30 (fun _ => 0)) (-1) 0 = 81 := by rw [x_nw_sz, sz]; omega
  replace f0 : (x_nw S30 (fun _ => 0)) (64) = (x_g (x_g (x_g (x_g (x_g (x_g (x_g (x_g (x_g (x_g (x_g (x_g (x_g (x_g (x_g (X 64) 2 (65)) 4 (66)) 5 (67)) 6 (68)) 7 (69)) 8 (70)) 9 (71)) 11 (72)) 12 (73)) 15 (74)) 17 (75)) 24 (76)) 25 (77)) 26 (78)) 27 (79)) := (x_nw_oth S30 (fun _ => 0) (by omega) (by omega)).trans f0
  replace f72 : (x_nw S30 (fun _ => 0)) (72) = (fun _ => 0) := (x_nw_oth S30 (fun _ => 0) (by omega) (by omega)).trans f72
  replace f75 : (x_nw S30 (fun _ => 0)) (75) = (fun _ => 0) := (x_nw_oth S30 (fun _ => 0) (by omega) (by omega)).trans f75
  generalize (x_nw S30 (fun _ => 0)) = S31 at fr sz1 f0 f72 f75 ⊢
  replace sz := sz1
  clear sz1
  refine x_putFA B (k := 28) 28 rfl rfl rfl xc_7 (by decide) rfl hin rfl nn_7_28 (fun h => absurd h (by decide)) ka q1363 (fun _ h => h) dX8_init_130 ?_
  replace fr : ∀ b, b ≠ -1 → (b < 64 ∨ 86 < b) → (x_up S31 (64) 28 (80)) b = X b := fun b b1 b2 => (x_up_o S31 (by omega)).trans (fr b b1 b2)
  have sz1 : (x_up S31 (64) 28 (80)) (-1) 0 = 81 := by rw [x_up_o _ (by omega)]; exact sz
  replace f0 : (x_up S31 (64) 28 (80)) (64) = (x_g (x_g (x_g (x_g (x_g (x_g (x_g (x_g (x_g (x_g (x_g (x_g (x_g (x_g (x_g (x_g (X 64) 2 (65)) 4 (66)) 5 (67)) 6 (68)) 7 (69)) 8 (70)) 9 (71)) 11 (72)) 12 (73)) 15 (74)) 17 (75)) 24 (76)) 25 (77)) 26 (78)) 27 (79)) 28 (80)) := (x_up_f _ _ _ _).trans (congrArg (fun g => x_g g 28 (80)) f0)
  replace f72 : (x_up S31 (64) 28 (80)) (72) = (fun _ => 0) := (x_up_o S31 (by omega)).trans f72
  replace f75 : (x_up S31 (64) 28 (80)) (75) = (fun _ => 0) := (x_up_o S31 (by omega)).trans f75
  generalize (x_up S31 (64) 28 (80)) = S32 at fr sz1 f0 f72 f75 ⊢
  replace sz := sz1
  clear sz1
  refine x_aload_n B dX8_init_133 rfl ?_
  refine x_bipush B dX8_init_134 (by decide) ?_
  refine x_newa B (t := 0) (atype := .int) (n := 122) rfl q241 (fun h => h) rfl ⟨by decide, by decide⟩ rfl ⟨by omega, by omega⟩ (by decide) (Nat.le_of_ble_eq_true rfl) (Nat.le_of_ble_eq_true rfl) dX8_init_136 (fun z_136 n_136 => ?_)
  rw [sz] at n_136 ⊢
  obtain ⟨κ17, hκ17⟩ : ∃ k_, k_ = x_ku κ16 81 (.inr (0, 122)) := ⟨_, rfl⟩
  rw [← hκ17]
  replace ka : κ17 (64) = some (.inl (7, 0)) := by rw [hκ17]; rw [x_ku_ne (by omega)]; exact ka
  replace fr : ∀ b, b ≠ -1 → (b < 64 ∨ 86 < b) → (x_nw S32 (fun _ => 0)) b = X b := fun b b1 b2 => (x_nw_oth S32 (fun _ => 0) (by omega) (by omega)).trans (fr b b1 b2)
  have sz1 : (x_nw S32 (fun _ => 0)) (-1) 0 = 82 := by rw [x_nw_sz, sz]; omega
  replace f0 : (x_nw S32 (fun _ => 0)) (64) = (x_g (x_g (x_g (x_g (x_g (x_g (x_g (x_g (x_g (x_g (x_g (x_g (x_g (x_g (x_g (x_g (X 64) 2 (65)) 4 (66)) 5 (67)) 6 (68)) 7 (69)) 8 (70)) 9 (71)) 11 (72)) 12 (73)) 15 (74)) 17 (75)) 24 (76)) 25 (77)) 26 (78)) 27 (79)) 28 (80)) := (x_nw_oth S32 (fun _ => 0) (by omega) (by omega)).trans f0
  replace f72 : (x_nw S32 (fun _ => 0)) (72) = (fun _ => 0) := (x_nw_oth S32 (fun _ => 0) (by omega) (by omega)).trans f72
  replace f75 : (x_nw S32 (fun _ => 0)) (75) = (fun _ => 0) := (x_nw_oth S32 (fun _ => 0) (by omega) (by omega)).trans f75
  generalize (x_nw S32 (fun _ => 0)) = S33 at fr sz1 f0 f72 f75 ⊢
  replace sz := sz1
  clear sz1
  refine x_putFA B (k := 29) 29 rfl rfl rfl xc_7 (by decide) rfl hin rfl nn_7_29 (fun h => absurd h (by decide)) ka q1364 (fun _ h => h) dX8_init_138 ?_
  replace fr : ∀ b, b ≠ -1 → (b < 64 ∨ 86 < b) → (x_up S33 (64) 29 (81)) b = X b := fun b b1 b2 => (x_up_o S33 (by omega)).trans (fr b b1 b2)
  have sz1 : (x_up S33 (64) 29 (81)) (-1) 0 = 82 := by rw [x_up_o _ (by omega)]; exact sz
  replace f0 : (x_up S33 (64) 29 (81)) (64) = (x_g (x_g (x_g (x_g (x_g (x_g (x_g (x_g (x_g (x_g (x_g (x_g (x_g (x_g (x_g (x_g (x_g (X 64) 2 (65)) 4 (66)) 5 (67)) 6 (68)) 7 (69)) 8 (70)) 9 (71)) 11 (72)) 12 (73)) 15 (74)) 17 (75)) 24 (76)) 25 (77)) 26 (78)) 27 (79)) 28 (80)) 29 (81)) := (x_up_f _ _ _ _).trans (congrArg (fun g => x_g g 29 (81)) f0)
  replace f72 : (x_up S33 (64) 29 (81)) (72) = (fun _ => 0) := (x_up_o S33 (by omega)).trans f72
  replace f75 : (x_up S33 (64) 29 (81)) (75) = (fun _ => 0) := (x_up_o S33 (by omega)).trans f75
  generalize (x_up S33 (64) 29 (81)) = S34 at fr sz1 f0 f72 f75 ⊢
  replace sz := sz1
  clear sz1
  refine x_aload_n B dX8_init_141 rfl ?_
  refine x_bipush B dX8_init_142 (by decide) ?_
  refine x_newa B (t := 0) (atype := .int) (n := 121) rfl q241 (fun h => h) rfl ⟨by decide, by decide⟩ rfl ⟨by omega, by omega⟩ (by decide) (Nat.le_of_ble_eq_true rfl) (Nat.le_of_ble_eq_true rfl) dX8_init_144 (fun z_144 n_144 => ?_)
  rw [sz] at n_144 ⊢
  obtain ⟨κ18, hκ18⟩ : ∃ k_, k_ = x_ku κ17 82 (.inr (0, 121)) := ⟨_, rfl⟩
  rw [← hκ18]
  replace ka : κ18 (64) = some (.inl (7, 0)) := by rw [hκ18]; rw [x_ku_ne (by omega)]; exact ka
  replace fr : ∀ b, b ≠ -1 → (b < 64 ∨ 86 < b) → (x_nw S34 (fun _ => 0)) b = X b := fun b b1 b2 => (x_nw_oth S34 (fun _ => 0) (by omega) (by omega)).trans (fr b b1 b2)
  have sz1 : (x_nw S34 (fun _ => 0)) (-1) 0 = 83 := by rw [x_nw_sz, sz]; omega
  replace f0 : (x_nw S34 (fun _ => 0)) (64) = (x_g (x_g (x_g (x_g (x_g (x_g (x_g (x_g (x_g (x_g (x_g (x_g (x_g (x_g (x_g (x_g (x_g (X 64) 2 (65)) 4 (66)) 5 (67)) 6 (68)) 7 (69)) 8 (70)) 9 (71)) 11 (72)) 12 (73)) 15 (74)) 17 (75)) 24 (76)) 25 (77)) 26 (78)) 27 (79)) 28 (80)) 29 (81)) := (x_nw_oth S34 (fun _ => 0) (by omega) (by omega)).trans f0
  replace f72 : (x_nw S34 (fun _ => 0)) (72) = (fun _ => 0) := (x_nw_oth S34 (fun _ => 0) (by omega) (by omega)).trans f72
  replace f75 : (x_nw S34 (fun _ => 0)) (75) = (fun _ => 0) := (x_nw_oth S34 (fun _ => 0) (by omega) (by omega)).trans f75
  generalize (x_nw S34 (fun _ => 0)) = S35 at fr sz1 f0 f72 f75 ⊢
  replace sz := sz1
  clear sz1
  refine x_putFA B (k := 30) 30 rfl rfl rfl xc_7 (by decide) rfl hin rfl nn_7_30 (fun h => absurd h (by decide)) ka q1365 (fun _ h => h) dX8_init_146 ?_
  replace fr : ∀ b, b ≠ -1 → (b < 64 ∨ 86 < b) → (x_up S35 (64) 30 (82)) b = X b := fun b b1 b2 => (x_up_o S35 (by omega)).trans (fr b b1 b2)
  have sz1 : (x_up S35 (64) 30 (82)) (-1) 0 = 83 := by rw [x_up_o _ (by omega)]; exact sz
  replace f0 : (x_up S35 (64) 30 (82)) (64) = (x_g (x_g (x_g (x_g (x_g (x_g (x_g (x_g (x_g (x_g (x_g (x_g (x_g (x_g (x_g (x_g (x_g (x_g (X 64) 2 (65)) 4 (66)) 5 (67)) 6 (68)) 7 (69)) 8 (70)) 9 (71)) 11 (72)) 12 (73)) 15 (74)) 17 (75)) 24 (76)) 25 (77)) 26 (78)) 27 (79)) 28 (80)) 29 (81)) 30 (82)) := (x_up_f _ _ _ _).trans (congrArg (fun g => x_g g 30 (82)) f0)
  replace f72 : (x_up S35 (64) 30 (82)) (72) = (fun _ => 0) := (x_up_o S35 (by omega)).trans f72
  replace f75 : (x_up S35 (64) 30 (82)) (75) = (fun _ => 0) := (x_up_o S35 (by omega)).trans f75
  generalize (x_up S35 (64) 30 (82)) = S36 at fr sz1 f0 f72 f75 ⊢
  replace sz := sz1
  clear sz1
  refine x_aload_n B dX8_init_149 rfl ?_
  refine x_sipush B dX8_init_150 (by decide) ?_
  refine x_newa B (t := 0) (atype := .int) (n := 484) rfl q241 (fun h => h) rfl ⟨by decide, by decide⟩ rfl ⟨by omega, by omega⟩ (by decide) (Nat.le_of_ble_eq_true rfl) (Nat.le_of_ble_eq_true rfl) dX8_init_153 (fun z_153 n_153 => ?_)
  rw [sz] at n_153 ⊢
  obtain ⟨κ19, hκ19⟩ : ∃ k_, k_ = x_ku κ18 83 (.inr (0, 484)) := ⟨_, rfl⟩
  rw [← hκ19]
  replace ka : κ19 (64) = some (.inl (7, 0)) := by rw [hκ19]; rw [x_ku_ne (by omega)]; exact ka
  replace fr : ∀ b, b ≠ -1 → (b < 64 ∨ 86 < b) → (x_nw S36 (fun _ => 0)) b = X b := fun b b1 b2 => (x_nw_oth S36 (fun _ => 0) (by omega) (by omega)).trans (fr b b1 b2)
  have sz1 : (x_nw S36 (fun _ => 0)) (-1) 0 = 84 := by rw [x_nw_sz, sz]; omega
  replace f0 : (x_nw S36 (fun _ => 0)) (64) = (x_g (x_g (x_g (x_g (x_g (x_g (x_g (x_g (x_g (x_g (x_g (x_g (x_g (x_g (x_g (x_g (x_g (x_g (X 64) 2 (65)) 4 (66)) 5 (67)) 6 (68)) 7 (69)) 8 (70)) 9 (71)) 11 (72)) 12 (73)) 15 (74)) 17 (75)) 24 (76)) 25 (77)) 26 (78)) 27 (79)) 28 (80)) 29 (81)) 30 (82)) := (x_nw_oth S36 (fun _ => 0) (by omega) (by omega)).trans f0
  replace f72 : (x_nw S36 (fun _ => 0)) (72) = (fun _ => 0) := (x_nw_oth S36 (fun _ => 0) (by omega) (by omega)).trans f72
  replace f75 : (x_nw S36 (fun _ => 0)) (75) = (fun _ => 0) := (x_nw_oth S36 (fun _ => 0) (by omega) (by omega)).trans f75
  generalize (x_nw S36 (fun _ => 0)) = S37 at fr sz1 f0 f72 f75 ⊢
  replace sz := sz1
  clear sz1
  refine x_putFA B (k := 31) 31 rfl rfl rfl xc_7 (by decide) rfl hin rfl nn_7_31 (fun h => absurd h (by decide)) ka q1366 (fun _ h => h) dX8_init_155 ?_
  replace fr : ∀ b, b ≠ -1 → (b < 64 ∨ 86 < b) → (x_up S37 (64) 31 (83)) b = X b := fun b b1 b2 => (x_up_o S37 (by omega)).trans (fr b b1 b2)
  have sz1 : (x_up S37 (64) 31 (83)) (-1) 0 = 84 := by rw [x_up_o _ (by omega)]; exact sz
  replace f0 : (x_up S37 (64) 31 (83)) (64) = (x_g (x_g (x_g (x_g (x_g (x_g (x_g (x_g (x_g (x_g (x_g (x_g (x_g (x_g (x_g (x_g (x_g (x_g (x_g (X 64) 2 (65)) 4 (66)) 5 (67)) 6 (68)) 7 (69)) 8 (70)) 9 (71)) 11 (72)) 12 (73)) 15 (74)) 17 (75)) 24 (76)) 25 (77)) 26 (78)) 27 (79)) 28 (80)) 29 (81)) 30 (82)) 31 (83)) := (x_up_f _ _ _ _).trans (congrArg (fun g => x_g g 31 (83)) f0)
  replace f72 : (x_up S37 (64) 31 (83)) (72) = (fun _ => 0) := (x_up_o S37 (by omega)).trans f72
  replace f75 : (x_up S37 (64) 31 (83)) (75) = (fun _ => 0) := (x_up_o S37 (by omega)).trans f75
  generalize (x_up S37 (64) 31 (83)) = S38 at fr sz1 f0 f72 f75 ⊢
  replace sz := sz1
  clear sz1
  refine x_aload_n B dX8_init_158 rfl ?_
  refine x_sipush B dX8_init_159 (by decide) ?_
  refine x_newa B (t := 0) (atype := .int) (n := 28224) rfl q241 (fun h => h) rfl ⟨by decide, by decide⟩ rfl ⟨by omega, by omega⟩ (by decide) (Nat.le_of_ble_eq_true rfl) (Nat.le_of_ble_eq_true rfl) dX8_init_162 (fun z_162 n_162 => ?_)
  rw [sz] at n_162 ⊢
  obtain ⟨κ20, hκ20⟩ : ∃ k_, k_ = x_ku κ19 84 (.inr (0, 28224)) := ⟨_, rfl⟩
  rw [← hκ20]
  replace ka : κ20 (64) = some (.inl (7, 0)) := by rw [hκ20]; rw [x_ku_ne (by omega)]; exact ka
  replace fr : ∀ b, b ≠ -1 → (b < 64 ∨ 86 < b) → (x_nw S38 (fun _ => 0)) b = X b := fun b b1 b2 => (x_nw_oth S38 (fun _ => 0) (by omega) (by omega)).trans (fr b b1 b2)
  have sz1 : (x_nw S38 (fun _ => 0)) (-1) 0 = 85 := by rw [x_nw_sz, sz]; omega
  replace f0 : (x_nw S38 (fun _ => 0)) (64) = (x_g (x_g (x_g (x_g (x_g (x_g (x_g (x_g (x_g (x_g (x_g (x_g (x_g (x_g (x_g (x_g (x_g (x_g (x_g (X 64) 2 (65)) 4 (66)) 5 (67)) 6 (68)) 7 (69)) 8 (70)) 9 (71)) 11 (72)) 12 (73)) 15 (74)) 17 (75)) 24 (76)) 25 (77)) 26 (78)) 27 (79)) 28 (80)) 29 (81)) 30 (82)) 31 (83)) := (x_nw_oth S38 (fun _ => 0) (by omega) (by omega)).trans f0
  replace f72 : (x_nw S38 (fun _ => 0)) (72) = (fun _ => 0) := (x_nw_oth S38 (fun _ => 0) (by omega) (by omega)).trans f72
  replace f75 : (x_nw S38 (fun _ => 0)) (75) = (fun _ => 0) := (x_nw_oth S38 (fun _ => 0) (by omega) (by omega)).trans f75
  generalize (x_nw S38 (fun _ => 0)) = S39 at fr sz1 f0 f72 f75 ⊢
  replace sz := sz1
  clear sz1
  refine x_putFA B (k := 32) 32 rfl rfl rfl xc_7 (by decide) rfl hin rfl nn_7_32 (fun h => absurd h (by decide)) ka q1367 (fun _ h => h) dX8_init_164 ?_
  replace fr : ∀ b, b ≠ -1 → (b < 64 ∨ 86 < b) → (x_up S39 (64) 32 (84)) b = X b := fun b b1 b2 => (x_up_o S39 (by omega)).trans (fr b b1 b2)
  have sz1 : (x_up S39 (64) 32 (84)) (-1) 0 = 85 := by rw [x_up_o _ (by omega)]; exact sz
  replace f0 : (x_up S39 (64) 32 (84)) (64) = (x_g (x_g (x_g (x_g (x_g (x_g (x_g (x_g (x_g (x_g (x_g (x_g (x_g (x_g (x_g (x_g (x_g (x_g (x_g (x_g (X 64) 2 (65)) 4 (66)) 5 (67)) 6 (68)) 7 (69)) 8 (70)) 9 (71)) 11 (72)) 12 (73)) 15 (74)) 17 (75)) 24 (76)) 25 (77)) 26 (78)) 27 (79)) 28 (80)) 29 (81)) 30 (82)) 31 (83)) 32 (84)) := (x_up_f _ _ _ _).trans (congrArg (fun g => x_g g 32 (84)) f0)
  replace f72 : (x_up S39 (64) 32 (84)) (72) = (fun _ => 0) := (x_up_o S39 (by omega)).trans f72
  replace f75 : (x_up S39 (64) 32 (84)) (75) = (fun _ => 0) := (x_up_o S39 (by omega)).trans f75
  generalize (x_up S39 (64) 32 (84)) = S40 at fr sz1 f0 f72 f75 ⊢
  replace sz := sz1
  clear sz1
  refine x_aload_n B dX8_init_167 rfl ?_
  refine x_sipush B dX8_init_168 (by decide) ?_
  refine x_newa B (t := 0) (atype := .int) (n := 15129) rfl q241 (fun h => h) rfl ⟨by decide, by decide⟩ rfl ⟨by omega, by omega⟩ (by decide) (Nat.le_of_ble_eq_true rfl) (Nat.le_of_ble_eq_true rfl) dX8_init_171 (fun z_171 n_171 => ?_)
  rw [sz] at n_171 ⊢
  obtain ⟨κ21, hκ21⟩ : ∃ k_, k_ = x_ku κ20 85 (.inr (0, 15129)) := ⟨_, rfl⟩
  rw [← hκ21]
  replace ka : κ21 (64) = some (.inl (7, 0)) := by rw [hκ21]; rw [x_ku_ne (by omega)]; exact ka
  replace fr : ∀ b, b ≠ -1 → (b < 64 ∨ 86 < b) → (x_nw S40 (fun _ => 0)) b = X b := fun b b1 b2 => (x_nw_oth S40 (fun _ => 0) (by omega) (by omega)).trans (fr b b1 b2)
  have sz1 : (x_nw S40 (fun _ => 0)) (-1) 0 = 86 := by rw [x_nw_sz, sz]; omega
  replace f0 : (x_nw S40 (fun _ => 0)) (64) = (x_g (x_g (x_g (x_g (x_g (x_g (x_g (x_g (x_g (x_g (x_g (x_g (x_g (x_g (x_g (x_g (x_g (x_g (x_g (x_g (X 64) 2 (65)) 4 (66)) 5 (67)) 6 (68)) 7 (69)) 8 (70)) 9 (71)) 11 (72)) 12 (73)) 15 (74)) 17 (75)) 24 (76)) 25 (77)) 26 (78)) 27 (79)) 28 (80)) 29 (81)) 30 (82)) 31 (83)) 32 (84)) := (x_nw_oth S40 (fun _ => 0) (by omega) (by omega)).trans f0
  replace f72 : (x_nw S40 (fun _ => 0)) (72) = (fun _ => 0) := (x_nw_oth S40 (fun _ => 0) (by omega) (by omega)).trans f72
  replace f75 : (x_nw S40 (fun _ => 0)) (75) = (fun _ => 0) := (x_nw_oth S40 (fun _ => 0) (by omega) (by omega)).trans f75
  generalize (x_nw S40 (fun _ => 0)) = S41 at fr sz1 f0 f72 f75 ⊢
  replace sz := sz1
  clear sz1
  refine x_putFA B (k := 37) 37 rfl rfl rfl xc_7 (by decide) rfl hin rfl nn_7_37 (fun h => absurd h (by decide)) ka q1372 (fun _ h => h) dX8_init_173 ?_
  replace fr : ∀ b, b ≠ -1 → (b < 64 ∨ 86 < b) → (x_up S41 (64) 37 (85)) b = X b := fun b b1 b2 => (x_up_o S41 (by omega)).trans (fr b b1 b2)
  have sz1 : (x_up S41 (64) 37 (85)) (-1) 0 = 86 := by rw [x_up_o _ (by omega)]; exact sz
  replace f0 : (x_up S41 (64) 37 (85)) (64) = (x_g (x_g (x_g (x_g (x_g (x_g (x_g (x_g (x_g (x_g (x_g (x_g (x_g (x_g (x_g (x_g (x_g (x_g (x_g (x_g (x_g (X 64) 2 (65)) 4 (66)) 5 (67)) 6 (68)) 7 (69)) 8 (70)) 9 (71)) 11 (72)) 12 (73)) 15 (74)) 17 (75)) 24 (76)) 25 (77)) 26 (78)) 27 (79)) 28 (80)) 29 (81)) 30 (82)) 31 (83)) 32 (84)) 37 (85)) := (x_up_f _ _ _ _).trans (congrArg (fun g => x_g g 37 (85)) f0)
  replace f72 : (x_up S41 (64) 37 (85)) (72) = (fun _ => 0) := (x_up_o S41 (by omega)).trans f72
  replace f75 : (x_up S41 (64) 37 (85)) (75) = (fun _ => 0) := (x_up_o S41 (by omega)).trans f75
  generalize (x_up S41 (64) 37 (85)) = S42 at fr sz1 f0 f72 f75 ⊢
  replace sz := sz1
  clear sz1
  refine x_aload_n B dX8_init_176 rfl ?_
  refine x_sipush B dX8_init_177 (by decide) ?_
  refine x_newa B (t := 0) (atype := .int) (n := 15129) rfl q241 (fun h => h) rfl ⟨by decide, by decide⟩ rfl ⟨by omega, by omega⟩ (by decide) (Nat.le_of_ble_eq_true rfl) (Nat.le_of_ble_eq_true rfl) dX8_init_180 (fun z_180 n_180 => ?_)
  rw [sz] at n_180 ⊢
  obtain ⟨κ22, hκ22⟩ : ∃ k_, k_ = x_ku κ21 86 (.inr (0, 15129)) := ⟨_, rfl⟩
  rw [← hκ22]
  replace ka : κ22 (64) = some (.inl (7, 0)) := by rw [hκ22]; rw [x_ku_ne (by omega)]; exact ka
  replace fr : ∀ b, b ≠ -1 → (b < 64 ∨ 86 < b) → (x_nw S42 (fun _ => 0)) b = X b := fun b b1 b2 => (x_nw_oth S42 (fun _ => 0) (by omega) (by omega)).trans (fr b b1 b2)
  have sz1 : (x_nw S42 (fun _ => 0)) (-1) 0 = 87 := by rw [x_nw_sz, sz]; omega
  replace f0 : (x_nw S42 (fun _ => 0)) (64) = (x_g (x_g (x_g (x_g (x_g (x_g (x_g (x_g (x_g (x_g (x_g (x_g (x_g (x_g (x_g (x_g (x_g (x_g (x_g (x_g (x_g (X 64) 2 (65)) 4 (66)) 5 (67)) 6 (68)) 7 (69)) 8 (70)) 9 (71)) 11 (72)) 12 (73)) 15 (74)) 17 (75)) 24 (76)) 25 (77)) 26 (78)) 27 (79)) 28 (80)) 29 (81)) 30 (82)) 31 (83)) 32 (84)) 37 (85)) := (x_nw_oth S42 (fun _ => 0) (by omega) (by omega)).trans f0
  replace f72 : (x_nw S42 (fun _ => 0)) (72) = (fun _ => 0) := (x_nw_oth S42 (fun _ => 0) (by omega) (by omega)).trans f72
  replace f75 : (x_nw S42 (fun _ => 0)) (75) = (fun _ => 0) := (x_nw_oth S42 (fun _ => 0) (by omega) (by omega)).trans f75
  generalize (x_nw S42 (fun _ => 0)) = S43 at fr sz1 f0 f72 f75 ⊢
  replace sz := sz1
  clear sz1
  refine x_putFA B (k := 38) 38 rfl rfl rfl xc_7 (by decide) rfl hin rfl nn_7_38 (fun h => absurd h (by decide)) ka q1373 (fun _ h => h) dX8_init_182 ?_
  replace fr : ∀ b, b ≠ -1 → (b < 64 ∨ 86 < b) → (x_up S43 (64) 38 (86)) b = X b := fun b b1 b2 => (x_up_o S43 (by omega)).trans (fr b b1 b2)
  have sz1 : (x_up S43 (64) 38 (86)) (-1) 0 = 87 := by rw [x_up_o _ (by omega)]; exact sz
  replace f0 : (x_up S43 (64) 38 (86)) (64) = (x_g (x_g (x_g (x_g (x_g (x_g (x_g (x_g (x_g (x_g (x_g (x_g (x_g (x_g (x_g (x_g (x_g (x_g (x_g (x_g (x_g (x_g (X 64) 2 (65)) 4 (66)) 5 (67)) 6 (68)) 7 (69)) 8 (70)) 9 (71)) 11 (72)) 12 (73)) 15 (74)) 17 (75)) 24 (76)) 25 (77)) 26 (78)) 27 (79)) 28 (80)) 29 (81)) 30 (82)) 31 (83)) 32 (84)) 37 (85)) 38 (86)) := (x_up_f _ _ _ _).trans (congrArg (fun g => x_g g 38 (86)) f0)
  replace f72 : (x_up S43 (64) 38 (86)) (72) = (fun _ => 0) := (x_up_o S43 (by omega)).trans f72
  replace f75 : (x_up S43 (64) 38 (86)) (75) = (fun _ => 0) := (x_up_o S43 (by omega)).trans f75
  generalize (x_up S43 (64) 38 (86)) = S44 at fr sz1 f0 f72 f75 ⊢
  replace sz := sz1
  clear sz1
  refine x_rip B (a := 64) (ci := 7) ka (fun j q hq => ?_) ?_
  · match j, hq with
    | 0, hq => cases hq
    | 1, hq => cases hq
    | 2, hq => cases hq; rw [f0]; rfl
    | 3, hq => cases hq
    | 4, hq => cases hq; rw [f0]; rfl
    | 5, hq => cases hq; rw [f0]; rfl
    | 6, hq => cases hq; rw [f0]; rfl
    | 7, hq => cases hq; rw [f0]; rfl
    | 8, hq => cases hq; rw [f0]; rfl
    | 9, hq => cases hq; rw [f0]; rfl
    | 10, hq => cases hq
    | 11, hq => cases hq; rw [f0]; rfl
    | 12, hq => cases hq; rw [f0]; rfl
    | 13, hq => cases hq
    | 14, hq => cases hq
    | 15, hq => cases hq; rw [f0]; rfl
    | 16, hq => cases hq
    | 17, hq => cases hq; rw [f0]; rfl
    | 18, hq => cases hq
    | 19, hq => cases hq
    | 20, hq => cases hq
    | 21, hq => cases hq
    | 22, hq => cases hq
    | 23, hq => cases hq
    | 24, hq => cases hq; rw [f0]; rfl
    | 25, hq => cases hq; rw [f0]; rfl
    | 26, hq => cases hq; rw [f0]; rfl
    | 27, hq => cases hq; rw [f0]; rfl
    | 28, hq => cases hq; rw [f0]; rfl
    | 29, hq => cases hq; rw [f0]; rfl
    | 30, hq => cases hq; rw [f0]; rfl
    | 31, hq => cases hq; rw [f0]; rfl
    | 32, hq => cases hq; rw [f0]; rfl
    | 33, hq => cases hq
    | 34, hq => cases hq
    | 35, hq => cases hq
    | 36, hq => cases hq
    | 37, hq => cases hq; rw [f0]; rfl
    | 38, hq => cases hq; rw [f0]; rfl
    | 39, hq => cases hq
    | j + 40, hq => cases (show x_fx 7 (j + 40) = none from rfl).symm.trans hq
  refine x_wide (cells' := 22) (slots' := 60349) (Nat.le_of_ble_eq_true rfl) (Nat.le_of_ble_eq_true rfl) ?_
  refine x_vret B (by rw [hκ22]; rw [hκ21]; rw [hκ20]; rw [hκ19]; rw [hκ18]; rw [hκ17]; rw [hκ16]; rw [hκ15]; rw [hκ14]; rw [hκ13]; rw [hκ12]; rw [hκ11]; rw [hκ10]; rw [hκ9]; rw [hκ8]; rw [hκ7]; rw [hκ6]; rw [hκ5]; rw [hκ4]; rw [hκ3]; rw [hκ2]; rw [hκ1]; unfold k_twin; exact fun _ _ h => h) ?_ dX8_init_185
  rw [hd] at f0
  refine ⟨rfl, fr, sz, ⟨?_, ?_, ?_, ?_, ?_, ?_, ?_⟩, fun k => ⟨by rw [f72], by rw [f75]⟩⟩
  · rw [f0]; rfl
  · rw [f0]; rfl
  · rw [f0]; rfl
  · rw [f0]; rfl
  · rw [f0]; rfl
  · rw [f0]; rfl
  · rw [f0]; rfl
