theorem x_nw_sz (X : x_X) (f : Int → Int) : x_nw X f (-1) 0 = X (-1) 0 + 1 := by unfold x_nw; rw [if_pos ⟨rfl, rfl⟩]
theorem x_nw_at (X : x_X) (f : Int → Int) (h : 0 ≤ X (-1) 0) : x_nw X f (X (-1) 0) = f := by
  funext i
  unfold x_nw
  rw [if_neg (by omega), if_pos rfl]
theorem x_nw_oth (X : x_X) (f : Int → Int) {b : Int} (h1 : b ≠ -1) (h2 : b ≠ X (-1) 0) : x_nw X f b = X b := by
  funext i
  unfold x_nw
  rw [if_neg (by omega), if_neg h2]
theorem c_X11_init {l : Launch} {E : x_E} {κ : x_Ka} {X : x_X} {a : Int} (ha : 0 ≤ a) (hsz : X (-1) 0 = a + 1) (hk : κ a = some (.inl (9, 0))) : x_Met l yX11_init cX11_init 1 none 1 2 12 E κ X [x_rf E a] (x_ku (x_ku (x_ku κ (a + 1) (.inr (0, 6))) (a + 2) (.inr (0, 6))) a (.inl (9, 1))) (fun v_ Y_ => v_ = none ∧ (∀ b, b ≠ -1 → b ≠ a → b ≠ a + 1 → b ≠ a + 2 → Y_ b = X b) ∧ Y_ (-1) 0 = a + 3 ∧ (Y_ a 0 = a + 1 ∧ Y_ a 1 = a + 2 ∧ ∀ k, k ≠ 0 → k ≠ 1 → Y_ a k = X a k) ∧ ∀ k, Y_ (a + 1) k = 0 ∧ Y_ (a + 2) k = 0) := by
  refine x_Met.of [(false, x_rf E a)] [some (x_rf E a)] 0 (by decide) rfl rfl ⟨x_cr E (a), trivial⟩ rfl rfl ?_
  intro p e s m args below meth c hargs hin B
  refine x_aload_n B dX11_init_0 rfl ?_
  refine x_objI B (ha := by omega) q504 dX11_init_1 (by decide) (by simp [x_cr, x_c1, x_c2]) ?_
  refine x_aload_n B dX11_init_4 rfl ?_
  refine x_bipush B dX11_init_5 (by decide) ?_
  refine x_newa B (t := 0) (atype := .int) (n := 6) rfl q241 (fun h => h) rfl ⟨by decide, by decide⟩ rfl ⟨by omega, by omega⟩ (by decide) (by decide) (by decide) dX11_init_7 (fun z_7 n_7 => ?_)
  have hk := x_ku_le (kd := .inr (0, 6)) n_7 _ _ hk
  have e1 : (x_nw X (fun _ => 0)) (-1) 0 = a + 2 := by rw [x_nw_sz, hsz]; omega
  refine x_putFA B (k := 0) 0 rfl rfl rfl xc_9 (by decide) rfl hin rfl nn_9_0 (fun h => absurd h (by decide)) hk q505 (fun _ h => h) dX11_init_9 ?_
  have e2 : (x_up (x_nw X (fun _ => 0)) a 0 (X (-1) 0)) (-1) 0 = a + 2 := by rw [x_up_o _ (by omega)]; exact e1
  refine x_aload_n B dX11_init_12 rfl ?_
  refine x_bipush B dX11_init_13 (by decide) ?_
  refine x_newa B (t := 0) (atype := .int) (n := 6) rfl q241 (fun h => h) rfl ⟨by decide, by decide⟩ rfl ⟨by omega, by omega⟩ (by decide) (by decide) (by decide) dX11_init_15 (fun z_15 n_15 => ?_)
  have hk := x_ku_le (kd := .inr (0, 6)) n_15 _ _ hk
  have e3 : (x_nw (x_up (x_nw X (fun _ => 0)) a 0 (X (-1) 0)) (fun _ => 0)) (-1) 0 = a + 3 := by rw [x_nw_sz, e2]; omega
  refine x_putFA B (k := 1) 1 rfl rfl rfl xc_9 (by decide) rfl hin rfl nn_9_1 (fun h => absurd h (by decide)) hk q506 (fun _ h => h) dX11_init_17 ?_
  have a0 : (x_up (x_nw (x_up (x_nw X (fun _ => 0)) a 0 (X (-1) 0)) (fun _ => 0)) a 1 ((x_up (x_nw X (fun _ => 0)) a 0 (X (-1) 0)) (-1) 0)) a 0 = a + 1 := by rw [x_up_n _ (Or.inr (by omega)), x_nw_oth _ _ (by omega) (by omega), x_up_s, hsz]
  have a1 : (x_up (x_nw (x_up (x_nw X (fun _ => 0)) a 0 (X (-1) 0)) (fun _ => 0)) a 1 ((x_up (x_nw X (fun _ => 0)) a 0 (X (-1) 0)) (-1) 0)) a 1 = a + 2 := by rw [x_up_s, e2]
  refine x_rip B (ci := 9) hk (fun j q hq => ?_) ?_
  · match j, hq with
    | 0, hq => cases hq; exact a0
    | 1, hq => cases hq; exact a1
    | 2, hq => cases hq
    | j + 3, hq => cases (show x_fx 9 (j + 3) = none from rfl).symm.trans hq
  refine x_wide (cells' := 2) (slots' := 12) (by omega) (by omega) ?_
  refine x_vret B (by rw [e2, hsz]; exact fun _ _ h => h) ?_ dX11_init_20
  refine ⟨rfl, fun b b1 b2 b3 b4 => ?_, ?_, ⟨a0, a1, fun k k1 k2 => ?_⟩, fun k => ⟨?_, ?_⟩⟩
  · rw [x_up_o _ b2, x_nw_oth _ _ b1 (by omega), x_up_o _ b2, x_nw_oth _ _ b1 (by omega)]
  · rw [x_up_o _ (by omega)]; exact e3
  · rw [x_up_n _ (Or.inr k2), x_nw_oth _ _ (by omega) (by omega), x_up_n _ (Or.inr k1), x_nw_oth _ _ (by omega) (by omega)]
  · rw [x_up_o _ (by omega), x_nw_oth _ _ (by omega) (by omega), x_up_o _ (by omega), ← hsz, x_nw_at _ _ (by omega)]
  · rw [x_up_o _ (by omega)]
    have h := x_nw_at (x_up (x_nw X (fun _ => 0)) a 0 (X (-1) 0)) (fun _ => 0) (by omega)
    rw [e2] at h
    rw [h]
