theorem c_J5_init_2 {l : Launch} {E : x_E} {κ : x_Ka} {X : x_X} {a m1 m2 : Int} (ha : 0 ≤ a) (hk : κ a = some (.inl (11, 0))) : x_Met l yJ5_init_2 cJ5_init_2 5 none 1 0 0 E κ X [x_rf E a, x_rf E m1, x_rf E m2, vi 0, vi 0] κ (fun v_ Y_ => v_ = none ∧ (∀ b, b ≠ a → Y_ b = X b) ∧ ∀ k, 4 ≤ k → Y_ a k = X a k) := by
  refine x_Met.of [(false, x_rf E a), (false, x_rf E m1), (false, x_rf E m2), (false, vi 0), (false, vi 0)] [some (x_rf E a), some (x_rf E m1), some (x_rf E m2), some (vi 0), some (vi 0)] 0 (by decide) rfl rfl ⟨x_cr E (a), x_cr E (m1), x_cr E (m2), rfl, rfl, trivial⟩ rfl rfl ?_
  intro p e s m args below meth c hargs hin B
  refine x_aload_n B dJ5_init_2_0 rfl ?_
  refine x_objI B (ha := by omega) q584 dJ5_init_2_1 (by decide) (by simp [x_cr, x_c1, x_c2]) ?_
  refine x_aload_n B dJ5_init_2_4 rfl ?_
  refine x_aload_n B dJ5_init_2_5 rfl ?_
  refine x_putO B (k := 0) 0 rfl rfl rfl xc_11 (by decide) rfl nn_11_0 (fun _ => rfl) hk (Or.inl q612) (fun _ h => h) dJ5_init_2_6 ?_
  refine x_aload_n B dJ5_init_2_9 rfl ?_
  refine x_getUS B q585 dJ5_init_2_10 (fun z10 => ?_)
  refine x_putA B (k := 1) 1 rfl rfl rfl xc_11 (by decide) rfl nn_11_1 (fun _ => rfl) hk (Or.inl q613) (fun _ h => h) dJ5_init_2_13 ?_
  refine x_aload_n B dJ5_init_2_16 rfl ?_
  refine x_getSS B q587 dJ5_init_2_17 (fun z17 => ?_)
  refine x_putO B (k := 2) 2 rfl rfl rfl xc_11 (by decide) rfl nn_11_2 (fun _ => rfl) hk (Or.inl q614) (fun _ h => h) dJ5_init_2_20 ?_
  refine x_iload B dJ5_init_2_23 rfl ?_
  refine x_if_eq B (tgt := 36) dJ5_init_2_25 (by decide) ⟨by omega, by omega⟩ (fun h_25 => ?_) (fun h_25 => (by exfalso; omega))
  refine x_aload_n B dJ5_init_2_36 rfl ?_
  refine x_null B dJ5_init_2_37 ?_
  refine x_putA B (k := 1) 1 rfl rfl rfl xc_11 (by decide) rfl nn_11_1 (fun _ => rfl) hk (Or.inl q613) (fun _ h => h) dJ5_init_2_38 ?_
  refine x_aload_n B dJ5_init_2_41 rfl ?_
  refine x_aload_n B dJ5_init_2_42 rfl ?_
  refine x_putO B (k := 3) 3 rfl rfl rfl xc_11 (by decide) rfl nn_11_3 (fun _ => rfl) hk (Or.inl q611) (fun _ h => h) dJ5_init_2_43 ?_
  refine x_aload_n B dJ5_init_2_46 rfl ?_
  refine x_aload_n B dJ5_init_2_47 rfl ?_
  refine x_putO B (k := 0) 0 rfl rfl rfl xc_11 (by decide) rfl nn_11_0 (fun _ => rfl) hk (Or.inl q612) (fun _ h => h) dJ5_init_2_48 ?_
  refine x_iload_n B dJ5_init_2_51 rfl ?_
  refine x_if_ne B (tgt := 60) dJ5_init_2_52 (by decide) ⟨by omega, by omega⟩ (fun h_52 => (by exfalso; omega)) (fun h_52 => ?_)
  refine x_aload_n B dJ5_init_2_55 rfl ?_
  refine x_null B dJ5_init_2_56 ?_
  refine x_putO B (k := 2) 2 rfl rfl rfl xc_11 (by decide) rfl nn_11_2 (fun _ => rfl) hk (Or.inl q614) (fun _ h => h) dJ5_init_2_57 ?_
  refine x_vret B (fun _ _ h => h) ?_ dJ5_init_2_60
  refine ⟨rfl, fun b hb => ?_, fun k k1 => ?_⟩
  · repeat rw [x_up_o _ hb]
  · repeat rw [x_up_n _ (Or.inr (by omega))]
theorem c_J6_init {l : Launch} {E : x_E} {κ : x_Ka} {X : x_X} {a m1 m2 : Int} (ha : 0 ≤ a) (hk : κ a = some (.inl (11, 0))) : x_Met l yJ6_init cJ6_init 5 none 2 0 0 E κ X [x_rf E a, x_rf E m1, x_rf E m2, vi 0, vi 0] κ (fun v_ Y_ => v_ = none ∧ (∀ b, b ≠ a → Y_ b = X b) ∧ ∀ k, 4 ≤ k → Y_ a k = X a k) := by
  refine x_Met.of [(false, x_rf E a), (false, x_rf E m1), (false, x_rf E m2), (false, vi 0), (false, vi 0)] [some (x_rf E a), some (x_rf E m1), some (x_rf E m2), some (vi 0), some (vi 0)] 0 (by decide) rfl rfl ⟨x_cr E (a), x_cr E (m1), x_cr E (m2), rfl, rfl, trivial⟩ rfl rfl ?_
  intro p e s m args below meth c hargs hin B
  refine x_aload_n B dJ6_init_0 rfl ?_
  refine x_aload_n B dJ6_init_1 rfl ?_
  refine x_aload_n B dJ6_init_2 rfl ?_
  refine x_iload_n B dJ6_init_3 rfl ?_
  refine x_iload B dJ6_init_4 rfl ?_
  refine x_go (x_rI B (by omega) (c_J5_init_2 (by omega) (by assumption)) q605 q606 q126 q607 rfl hd_J5_init_2 ⟨by decide, by decide⟩ ⟨by decide, by decide⟩ rfl rfl (by simp [x_cr, x_c1, x_c2]) dJ6_init_6) (fun v_6 X_6 p_6 => ?_)
  obtain ⟨rfl, h6, h7⟩ := p_6
  refine x_vret B (fun _ _ h => h) ?_ dJ6_init_9
  exact ⟨rfl, h6, h7⟩
theorem c_X12_init {l : Launch} {E : x_E} {κ : x_Ka} {X : x_X} {a z : Int} (ha : 0 ≤ a) (hk : κ a = some (.inl (11, 0))) (hz : xR z) : x_Met l yX12_init cX12_init 2 none 3 0 0 E κ X [x_rf E a, vi z] κ (fun v_ Y_ => v_ = none ∧ (∀ b, b ≠ a → Y_ b = X b) ∧ Y_ a 6 = z) := by
  refine x_Met.of [(false, x_rf E a), (false, vi z)] [some (x_rf E a), some (vi z)] 0 (by decide) rfl rfl ⟨x_cr E (a), rfl, trivial⟩ rfl rfl ?_
  intro p e s m args below meth c hargs hin B
  refine x_aload_n B dX12_init_0 rfl ?_
  refine x_null B dX12_init_1 ?_
  refine x_null B dX12_init_2 ?_
  refine x_iconst B dX12_init_3 ?_
  refine x_iconst B dX12_init_4 ?_
  refine x_go (x_rI B (by omega) (c_J6_init (by omega) (by assumption)) q602 q603 q127 q604 rfl hd_J6_init ⟨by decide, by decide⟩ ⟨by decide, by decide⟩ rfl rfl (by simp [x_cr, x_c1, x_c2]) dX12_init_5) (fun v_5 X_5 p_5 => ?_)
  obtain ⟨rfl, h6, h7⟩ := p_5
  refine x_aload_n B dX12_init_8 rfl ?_
  refine x_iload_n B dX12_init_9 rfl ?_
  refine x_putFI B (k := 6) 6 rfl rfl rfl hz xc_11 (by decide) rfl hin rfl nn_11_6 (fun h => absurd h (by decide)) hk q608 (fun _ h => h) dX12_init_10 ?_
  refine x_vret B (fun _ _ h => h) ?_ dX12_init_13
  exact ⟨rfl, fun b hb => (x_up_o _ hb).trans (h6 b hb), x_up_s _ _ _ _⟩
/-- a Fault at z that tells the place w; of what was there nothing has moved but P -/
def f_thr (κ : x_Ka) (X : x_X) (P : Int → Prop) (w z : Int) (κ' : x_Ka) (Y : x_X) : Prop := κ' z = some (.inl (11, 0)) ∧ Y z 6 = w ∧ (∀ b k, κ b = some k → κ' b = some k) ∧ (∀ b, 0 ≤ b → b < X (-1) 0 → ¬ P b → Y b = X b) ∧ X (-1) 0 ≤ Y (-1) 0
theorem f_thr_new {κ : x_Ka} {X S Y : x_X} {P : Int → Prop} {w : Int} (hn : κ (S (-1) 0) = none) (h0 : 0 ≤ S (-1) 0) (hS : ∀ b, 0 ≤ b → b < X (-1) 0 → ¬ P b → S b = X b) (hs : X (-1) 0 ≤ S (-1) 0) (p : (∀ b, b ≠ S (-1) 0 → Y b = x_nw S (x_df 11) b) ∧ Y (S (-1) 0) 6 = w) : f_thr κ X P w (S (-1) 0) (x_ku κ (S (-1) 0) (.inl (11, 0))) Y := by
  refine ⟨x_ku_s _ _ _, p.2, x_ku_le hn, fun b b1 b2 b3 => ?_, ?_⟩
  · rw [p.1 b (by omega), x_nw_oth _ _ (by omega) (by omega)]; exact hS b b1 b2 b3
  · rw [p.1 (-1) (by omega), x_nw_sz]; omega
theorem f_thr.up {κ κ1 : x_Ka} {X S : x_X} {P P1 : Int → Prop} {w z : Int} {κ' : x_Ka} {Y : x_X} (h : f_thr κ1 S P1 w z κ' Y) (hk : ∀ b k, κ b = some k → κ1 b = some k) (hS : ∀ b, 0 ≤ b → b < X (-1) 0 → ¬ P b → S b = X b) (hP : ∀ b, 0 ≤ b → b < X (-1) 0 → ¬ P b → ¬ P1 b) (hs : X (-1) 0 ≤ S (-1) 0) : f_thr κ X P w z κ' Y := ⟨h.1, h.2.1, fun b k q => h.2.2.1 b k (hk b k q), fun b b1 b2 b3 => (h.2.2.2.1 b b1 (by omega) (hP b b1 b2 b3)).trans (hS b b1 b2 b3), by have := h.2.2.2.2; omega⟩
theorem x_up_id {X : x_X} {a i z : Int} (h : X a i = z) : x_up X a i z = X := by rw [← h]; exact x_up_self X a i
theorem rd.up {κ : x_Ka} {X : x_X} {r n q p : Int} (h : rd κ X r n q) (hp : 0 ≤ p ∧ p ≤ n) : rd κ (x_up X r 1 p) r n p := ⟨h.1, by rw [x_up_n _ (Or.inr (by omega))]; exact h.2.1, x_up_s _ _ _ _, hp, h.2.2.2.2⟩
theorem c_T_up {X : x_X} {r i z : Int} (h : r ≠ 31) : c_T (x_up X r i z) = c_T X := by funext p; unfold c_T; rw [x_up_o _ (Ne.symm h)]
