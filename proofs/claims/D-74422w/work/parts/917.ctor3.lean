theorem c_X9_init {l : Launch} {E : x_E} {κ : x_Ka} {X : x_X} {a z : Int} (ha : 0 ≤ a) (hk : κ a = some (.inl (10, 0))) (h0 : κ 0 = some (.inl (0, 1))) (hz : xR z) : x_Met l yX9_init cX9_init 3 none 1 0 0 E κ X [x_rf E a, x_rf E 0, vi z] (x_ku κ a (.inl (10, 1))) (fun v_ Y_ => v_ = none ∧ Y_ = (x_up (x_up X a 2 0) a 0 z)) := by
  refine x_Met.of [(false, x_rf E a), (false, x_rf E 0), (false, vi z)] [some (x_rf E a), some (x_rf E 0), some (vi z)] 0 (by decide) rfl rfl ⟨x_cr E (a), x_cr E (0), rfl, trivial⟩ rfl rfl ?_
  intro p e s m args below meth c hargs hin B
  refine x_aload_n B dX9_init_0 rfl ?_
  refine x_aload_n B dX9_init_1 rfl ?_
  refine x_putFO B (k := 2) 2 rfl rfl rfl xc_10 (by decide) rfl hin rfl nn_10_2 (fun h => absurd h (by decide)) hk q480 (fun _ h => h) dX9_init_2 ?_
  refine x_aload_n B dX9_init_5 rfl ?_
  refine x_objI B (ha := by omega) q477 dX9_init_6 (by decide) (by simp [x_cr, x_c1, x_c2]) ?_
  refine x_aload_n B dX9_init_9 rfl ?_
  refine x_iload_n B dX9_init_10 rfl ?_
  refine x_putFI B (k := 0) 0 rfl rfl rfl hz xc_10 (by decide) rfl hin rfl nn_10_0 (fun h => absurd h (by decide)) hk q478 (fun _ h => h) dX9_init_11 ?_
  refine x_rip B (a := a) (ci := 10) hk (fun j q hq => ?_) ?_
  · match j, hq with
    | 0, hq => cases hq
    | 1, hq => cases hq
    | 2, hq => cases hq; show (x_up (x_up X a 2 0) a 0 z) a 2 = 0; rw [x_up_n _ (Or.inr (by omega)), x_up_s]
    | j + 3, hq => cases (show x_fx 10 (j + 3) = none from rfl).symm.trans hq
  refine x_vret B (fun _ _ h => h) ?_ dX9_init_14
  exact ⟨rfl, rfl⟩
theorem c_X3_init {l : Launch} {E : x_E} {κ : x_Ka} {X : x_X} {a : Int} (ha : 0 ≤ a) (hsz : X (-1) 0 = a + 1) (hk : κ a = some (.inl (3, 0))) : x_Met l yX3_init cX3_init 1 none 1 1 3 E κ X [x_rf E a] (x_ku (x_ku κ (a + 1) (.inr (0, 3))) a (.inl (3, 1))) (fun v_ Y_ => v_ = none ∧ (∀ b, b ≠ -1 → b ≠ a → b ≠ a + 1 → Y_ b = X b) ∧ Y_ (-1) 0 = a + 2 ∧ (Y_ a 0 = a + 1 ∧ ∀ k, k ≠ 0 → Y_ a k = X a k) ∧ ∀ k, Y_ (a + 1) k = 0) := by
  refine x_Met.of [(false, x_rf E a)] [some (x_rf E a)] 0 (by decide) rfl rfl ⟨x_cr E (a), trivial⟩ rfl rfl ?_
  intro p e s m args below meth c hargs hin B
  refine x_aload_n B dX3_init_0 rfl ?_
  refine x_objI B (ha := by omega) q190 dX3_init_1 (by decide) (by simp [x_cr, x_c1, x_c2]) ?_
  refine x_aload_n B dX3_init_4 rfl ?_
  refine x_iconst B dX3_init_5 ?_
  refine x_newa B (t := 0) (atype := .int) (n := 3) rfl q241 (fun h => h) rfl ⟨by decide, by decide⟩ rfl ⟨by omega, by omega⟩ (by decide) (by decide) (by decide) dX3_init_6 (fun z_6 n_6 => ?_)
  have hk := x_ku_le (kd := .inr (0, 3)) n_6 _ _ hk
  have e1 : (x_nw X (fun _ => 0)) (-1) 0 = a + 2 := by rw [x_nw_sz, hsz]; omega
  refine x_putFA B (k := 0) 0 rfl rfl rfl xc_3 (by decide) rfl hin rfl nn_3_0 (fun h => absurd h (by decide)) hk q191 (fun _ h => h) dX3_init_8 ?_
  have a0 : (x_up (x_nw X (fun _ => 0)) a 0 (X (-1) 0)) a 0 = a + 1 := by rw [x_up_s, hsz]
  refine x_rip B (ci := 3) hk (fun j q hq => ?_) ?_
  · match j, hq with
    | 0, hq => cases hq; exact a0
    | 1, hq => cases hq
    | 2, hq => cases hq
    | 3, hq => cases hq
    | 4, hq => cases hq
    | 5, hq => cases hq
    | 6, hq => cases hq
    | 7, hq => cases hq
    | j + 8, hq => cases (show x_fx 3 (j + 8) = none from rfl).symm.trans hq
  refine x_wide (cells' := 1) (slots' := 3) (by omega) (by omega) ?_
  refine x_vret B (by rw [hsz]; exact fun _ _ h => h) ?_ dX3_init_11
  refine ⟨rfl, fun b b1 b2 b3 => ?_, ?_, ⟨a0, fun k k1 => ?_⟩, fun k => ?_⟩
  · rw [x_up_o _ b2, x_nw_oth _ _ b1 (by omega)]
  · rw [x_up_o _ (by omega)]; exact e1
  · rw [x_up_n _ (Or.inr k1), x_nw_oth _ _ (by omega) (by omega)]
  · rw [x_up_o _ (by omega), ← hsz, x_nw_at _ _ (by omega)]
