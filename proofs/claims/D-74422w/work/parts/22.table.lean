/-! a table of points: loads ld, odds od, many of them; odds at a load x -/
def t_go (ld od : Int → Int) (many x : Int) : Nat → Int → Int
  | 0, _ => 0
  | f + 1, k => if k < many then (if ld k < x then t_go ld od many x f (k + 1) else od (k - 1) - ((od (k - 1) - od k) * (x - ld (k - 1))).tdiv (ld k - ld (k - 1))) else 0
def t_of (ld od : Int → Int) (many x : Int) : Int := if x ≤ ld 0 then od 0 else t_go ld od many x 6 1
def t_wf (ld od : Int → Int) (many : Int) : Prop := (1 ≤ many ∧ many ≤ 6) ∧ ∀ k, 0 ≤ k → k < many → (1 ≤ ld k ∧ ld k ≤ 40) ∧ (0 ≤ od k ∧ od k ≤ 1000) ∧ (0 < k → ld (k - 1) < ld k ∧ od k ≤ od (k - 1))
theorem t_dv {A b c : Int} (hA : 0 ≤ A) (hb : 0 ≤ b ∧ b ≤ c) (hc : 0 < c) : 0 ≤ (A * b).tdiv c ∧ (A * b).tdiv c ≤ A := by
  refine ⟨Int.tdiv_nonneg (Int.mul_nonneg hA hb.1) (by omega), ?_⟩
  have h1 : A * b ≤ A * c := Int.mul_le_mul_of_nonneg_left hb.2 hA
  have h2 := Int.tdiv_le_tdiv hc h1
  rwa [Int.mul_tdiv_cancel _ (by omega)] at h2
theorem t_go_r {ld od : Int → Int} {many x : Int} (h : t_wf ld od many) : ∀ (f : Nat) (k : Int), 1 ≤ k → (k < many → ld (k - 1) < x) → 0 ≤ t_go ld od many x f k ∧ t_go ld od many x f k ≤ 1000
  | 0, k, _, _ => by simp [t_go]
  | f + 1, k, hk, hx => by
    unfold t_go
    by_cases h1 : k < many
    · rw [if_pos h1]
      by_cases h2 : ld k < x
      · rw [if_pos h2]
        exact t_go_r h f (k + 1) (by omega) (fun _ => by rw [show k + 1 - 1 = k by omega]; exact h2)
      · rw [if_neg h2]
        obtain ⟨a1, a2, a3⟩ := h.2 k (by omega) h1
        obtain ⟨b1, b2, -⟩ := h.2 (k - 1) (by omega) (by omega)
        have a4 := a3 (by omega)
        have hx := hx h1
        have := t_dv (A := od (k - 1) - od k) (b := x - ld (k - 1)) (c := ld k - ld (k - 1)) (by omega) (by omega) (by omega)
        omega
    · rw [if_neg h1]; omega
theorem t_of_r {ld od : Int → Int} {many x : Int} (h : t_wf ld od many) : 0 ≤ t_of ld od many x ∧ t_of ld od many x ≤ 1000 := by
  unfold t_of
  by_cases h1 : x ≤ ld 0
  · rw [if_pos h1]
    have := h.1
    exact (h.2 0 (by omega) (by omega)).2.1
  · rw [if_neg h1]
    exact t_go_r h 6 1 (by omega) (fun _ => by rw [show (1 : Int) - 1 = 0 by rfl]; omega)
theorem t_go_c {ld od ld2 od2 : Int → Int} {many x : Int} (h : ∀ k, 0 ≤ k → k < many → ld k = ld2 k ∧ od k = od2 k) : ∀ (f : Nat) (k : Int), 1 ≤ k → t_go ld od many x f k = t_go ld2 od2 many x f k
  | 0, _, _ => rfl
  | f + 1, k, hk => by
    unfold t_go
    by_cases h1 : k < many
    · rw [if_pos h1, if_pos h1, (h k (by omega) h1).1, (h k (by omega) h1).2, (h (k - 1) (by omega) (by omega)).1, (h (k - 1) (by omega) (by omega)).2, t_go_c h f (k + 1) (by omega)]
    · rw [if_neg h1, if_neg h1]
theorem t_of_c {ld od ld2 od2 : Int → Int} {many x : Int} (hm : 1 ≤ many) (h : ∀ k, 0 ≤ k → k < many → ld k = ld2 k ∧ od k = od2 k) : t_of ld od many x = t_of ld2 od2 many x := by
  unfold t_of
  rw [(h 0 (by omega) (by omega)).1, (h 0 (by omega) (by omega)).2, t_go_c h 6 1 (by omega)]
theorem c_X11_of {l : Launch} {E : x_E} {κ : x_Ka} {X : x_X} {a x : Int} (hT : x_T κ) (hk : κ a = some (.inl (9, 1))) (hw : t_wf (X (a + 1)) (X (a + 2)) (X a 2)) (hx : xR x) : x_Pu l yX11_of cX11_of 3 (some .int) 0 E κ X [x_rf E a, vi x] (vi (t_of (X (a + 1)) (X (a + 2)) (X a 2) x)) := by
  refine x_Met.of [(false, x_rf E a), (false, vi x)] [some (x_rf E a), some (vi x), none] 1 (by decide) rfl rfl ⟨x_cr E (a), rfl, trivial⟩ rfl rfl ?_
  intro p e s m args below meth c hargs hin B
  have hm := hw.1
  have lp_19 : ∀ (n : Nat) (k : Int) (f : Nat), ((1 ≤ k ∧ k ≤ 6 ∧ (f : Int) = 7 - k) ∧ (k < X a 2 → X (a + 1) (k - 1) < x) ∧ t_of (X (a + 1)) (X (a + 2)) (X a 2) x = t_go (X (a + 1)) (X (a + 2)) (X a 2) x f k) → ((7 - k).toNat < n) → x_G p l e (x_rm 0 0 0) s m args below meth c 3 E 0 0 (MQ below (x_Q E κ (fun v_ X_ => v_ = some (vi (t_of (X (a + 1)) (X (a + 2)) (X a 2) x)) ∧ X_ = X)) args s 0 0 (fun q => E.1 ≤ q)) κ 19 [some (x_rf E a), some (vi x), some (vi k)] [] X := by
    intro n
    induction n with
    | zero => intro k f hi hme; exfalso; omega
    | succ n ih =>
      intro k f hi hme
      obtain ⟨hk1, hk2, hk3⟩ := hi
      obtain ⟨f, rfl⟩ : ∃ g, f = g + 1 := ⟨f - 1, by omega⟩
      unfold t_go at hk3
      refine x_iload_n B dX11_of_19 rfl ?_
      refine x_aload_n B dX11_of_20 rfl ?_
      refine x_getI B (k := 2) 2 rfl rfl xc_9 (by decide) hk (Or.inl q507) (fun _ h => h) dX11_of_21 (fun r_21 => ?_)
      refine x_icmp_ge B (tgt := 98) dX11_of_24 (by decide) ⟨by omega, by omega⟩ ⟨by omega, by omega⟩ (fun h_24 => ?_) (fun h_24 => ?_)
      · rw [if_neg (by omega)] at hk3
        refine x_iconst B dX11_of_98 ?_
        refine x_iret B (fun _ _ h => h) ?_ dX11_of_99
        exact ⟨congrArg (fun z => some (vi z)) (by rw [hk3]), rfl⟩
      · rw [if_pos h_24] at hk3
        obtain ⟨a1, a2, a3⟩ := hw.2 k (by omega) h_24
        obtain ⟨b1, b2, -⟩ := hw.2 (k - 1) (by omega) (by omega)
        have a4 := a3 (by omega)
        have hk2 := hk2 h_24
        refine x_iload_n B dX11_of_27 rfl ?_
        refine x_aload_n B dX11_of_28 rfl ?_
        refine x_getC1 B (k := 0) hT rfl rfl xc_9 (by decide) hk (Or.inl q505) (fun _ h => h) dX11_of_29 (fun k_29 => ?_)
        refine x_iload_n B dX11_of_32 rfl ?_
        refine x_iald B k_29 ⟨by omega, by omega⟩ dX11_of_33 (fun r_33 => ?_)
        refine x_icmp_le B (tgt := 40) dX11_of_34 (by decide) ⟨by omega, by omega⟩ ⟨by omega, by omega⟩ (fun h_34 => ?_) (fun h_34 => ?_)
        · rw [if_neg (by omega)] at hk3
          have hmb := x_mb (a := X (a + 2) (k - 1) - X (a + 2) k) (b := x - X (a + 1) (k - 1)) (A := 1000) (B := 40) (by omega) (by omega)
          refine x_aload_n B dX11_of_40 rfl ?_
          refine x_getC1 B (k := 1) hT rfl rfl xc_9 (by decide) hk (Or.inl q506) (fun _ h => h) dX11_of_41 (fun k_41 => ?_)
          refine x_iload_n B dX11_of_44 rfl ?_
          refine x_iconst B dX11_of_45 ?_
          refine x_isub B dX11_of_46 ?_
          refine x_iald B k_41 ⟨by omega, by omega⟩ dX11_of_47 (fun r_47 => ?_)
          refine x_aload_n B dX11_of_48 rfl ?_
          refine x_getC1 B (k := 1) hT rfl rfl xc_9 (by decide) hk (Or.inl q506) (fun _ h => h) dX11_of_49 (fun k_49 => ?_)
          refine x_iload_n B dX11_of_52 rfl ?_
          refine x_iconst B dX11_of_53 ?_
          refine x_isub B dX11_of_54 ?_
          refine x_iald B k_49 ⟨by omega, by omega⟩ dX11_of_55 (fun r_55 => ?_)
          refine x_aload_n B dX11_of_56 rfl ?_
          refine x_getC1 B (k := 1) hT rfl rfl xc_9 (by decide) hk (Or.inl q506) (fun _ h => h) dX11_of_57 (fun k_57 => ?_)
          refine x_iload_n B dX11_of_60 rfl ?_
          refine x_iald B k_57 ⟨by omega, by omega⟩ dX11_of_61 (fun r_61 => ?_)
          refine x_isub B dX11_of_62 ?_
          refine x_iload_n B dX11_of_63 rfl ?_
          refine x_aload_n B dX11_of_64 rfl ?_
          refine x_getC1 B (k := 0) hT rfl rfl xc_9 (by decide) hk (Or.inl q505) (fun _ h => h) dX11_of_65 (fun k_65 => ?_)
          refine x_iload_n B dX11_of_68 rfl ?_
          refine x_iconst B dX11_of_69 ?_
          refine x_isub B dX11_of_70 ?_
          refine x_iald B k_65 ⟨by omega, by omega⟩ dX11_of_71 (fun r_71 => ?_)
          refine x_isub B dX11_of_72 ?_
          refine x_imul B dX11_of_73 ?_
          refine x_aload_n B dX11_of_74 rfl ?_
          refine x_getC1 B (k := 0) hT rfl rfl xc_9 (by decide) hk (Or.inl q505) (fun _ h => h) dX11_of_75 (fun k_75 => ?_)
          refine x_iload_n B dX11_of_78 rfl ?_
          refine x_iald B k_75 ⟨by omega, by omega⟩ dX11_of_79 (fun r_79 => ?_)
          refine x_aload_n B dX11_of_80 rfl ?_
          refine x_getC1 B (k := 0) hT rfl rfl xc_9 (by decide) hk (Or.inl q505) (fun _ h => h) dX11_of_81 (fun k_81 => ?_)
          refine x_iload_n B dX11_of_84 rfl ?_
          refine x_iconst B dX11_of_85 ?_
          refine x_isub B dX11_of_86 ?_
          refine x_iald B k_81 ⟨by omega, by omega⟩ dX11_of_87 (fun r_87 => ?_)
          refine x_isub B dX11_of_88 ?_
          refine x_idiv B dX11_of_89 ⟨by omega, by omega⟩ ⟨by omega, by omega⟩ ?_
          refine x_isub B dX11_of_90 ?_
          refine x_iret B (fun _ _ h => h) ?_ dX11_of_91
          exact ⟨congrArg (fun z => some (vi z)) (by rw [hk3]), rfl⟩
        · rw [if_pos h_34] at hk3
          refine x_goto B (tgt := 92) dX11_of_37 (by decide) ?_
          refine x_iinc_2 B dX11_of_92 (by first | rfl | exact x_cr _ _) ?_
          refine x_goto B (tgt := 19) dX11_of_95 (by decide) ?_
          refine ih _ f ⟨⟨by omega, by omega, by omega⟩, fun _ => ?_, hk3⟩ (by omega)
          rw [show k + 1 - 1 = k by omega]; exact h_34
  refine x_iload_n B dX11_of_0 rfl ?_
  refine x_aload_n B dX11_of_1 rfl ?_
  refine x_getC1 B (k := 0) hT rfl rfl xc_9 (by decide) hk (Or.inl q505) (fun _ h => h) dX11_of_2 (fun k_2 => ?_)
  refine x_iconst B dX11_of_5 ?_
  refine x_iald B k_2 ⟨by omega, by omega⟩ dX11_of_6 (fun r_6 => ?_)
  refine x_icmp_gt B (tgt := 17) dX11_of_7 (by decide) ⟨by omega, by omega⟩ ⟨by omega, by omega⟩ (fun h_7 => ?_) (fun h_7 => ?_)
  · refine x_iconst B dX11_of_17 ?_
    refine x_ist_2 B dX11_of_18 (by first | rfl | exact x_cr _ _) ?_
    refine lp_19 _ _ 6 ⟨⟨by omega, by omega, by omega⟩, fun _ => ?_, ?_⟩ (Nat.lt_succ_self _)
    · show X (a + 1) 0 < x; omega
    · unfold t_of; rw [if_neg (by omega)]
  · refine x_aload_n B dX11_of_10 rfl ?_
    refine x_getC1 B (k := 1) hT rfl rfl xc_9 (by decide) hk (Or.inl q506) (fun _ h => h) dX11_of_11 (fun k_11 => ?_)
    refine x_iconst B dX11_of_14 ?_
    refine x_iald B k_11 ⟨by omega, by omega⟩ dX11_of_15 (fun r_15 => ?_)
    refine x_iret B (fun _ _ h => h) ?_ dX11_of_16
    exact ⟨congrArg (fun z => some (vi z)) (by unfold t_of; rw [if_pos (by omega)]), rfl⟩
theorem c_X10_plan {l : Launch} {E : x_E} {κ : x_Ka} {X : x_X} {a w : Int} (hT : x_T κ) (hk : κ a = some (.inl (8, 1))) (hw : 0 ≤ w ∧ w ≤ 2) : x_Pu l yX10_plan cX10_plan 2 (some (.array .int)) 0 E κ X [x_rf E a, vi w] (x_rf E (a + 11 + w)) := by
  refine x_Met.of [(false, x_rf E a), (false, vi w)] [some (x_rf E a), some (vi w)] 0 (by decide) rfl rfl ⟨x_cr E (a), rfl, trivial⟩ rfl rfl ?_
  intro p e s m args below meth c hargs hin B
  refine x_iload_n B dX10_plan_0 rfl ?_
  refine x_if_ne B (tgt := 11) dX10_plan_1 (by decide) ⟨by omega, by omega⟩ (fun h_1 => ?_) (fun h_1 => ?_)
  · refine x_iload_n B dX10_plan_11 rfl ?_
    refine x_iconst B dX10_plan_12 ?_
    refine x_icmp_ne B (tgt := 23) dX10_plan_13 (by decide) ⟨by omega, by omega⟩ ⟨by omega, by omega⟩ (fun h_13 => ?_) (fun h_13 => ?_)
    · refine x_aload_n B dX10_plan_23 rfl ?_
      refine x_getC1 B (k := 5) hT rfl rfl xc_8 (by decide) hk (Or.inl q533) (fun _ h => h) dX10_plan_24 (fun k_24 => ?_)
      refine x_aret B (Or.inr ⟨_, rfl⟩) (fun _ _ h => h) ?_ dX10_plan_27
      exact ⟨congrArg (fun z => some (x_rf E z)) (by omega), rfl⟩
    · refine x_aload_n B dX10_plan_16 rfl ?_
      refine x_getC1 B (k := 4) hT rfl rfl xc_8 (by decide) hk (Or.inl q530) (fun _ h => h) dX10_plan_17 (fun k_17 => ?_)
      refine x_goto B (tgt := 27) dX10_plan_20 (by decide) ?_
      refine x_aret B (Or.inr ⟨_, rfl⟩) (fun _ _ h => h) ?_ dX10_plan_27
      exact ⟨congrArg (fun z => some (x_rf E z)) (by omega), rfl⟩
  · refine x_aload_n B dX10_plan_4 rfl ?_
    refine x_getC1 B (k := 3) hT rfl rfl xc_8 (by decide) hk (Or.inl q525) (fun _ h => h) dX10_plan_5 (fun k_5 => ?_)
    refine x_goto B (tgt := 27) dX10_plan_8 (by decide) ?_
    refine x_aret B (Or.inr ⟨_, rfl⟩) (fun _ _ h => h) ?_ dX10_plan_27
    exact ⟨congrArg (fun z => some (x_rf E z)) (by omega), rfl⟩
/-- a lifter's tables -/
def l_wf (X : x_X) (a : Int) : Prop := ∀ t, 0 ≤ t → t < 3 → t_wf (X (a + 1 + 1 + 3 * t + 1)) (X (a + 1 + 1 + 3 * t + 2)) (X (a + 1 + 1 + 3 * t) 2)
def l_od (X : x_X) (a t x : Int) : Int := t_of (X (a + 1 + 1 + 3 * t + 1)) (X (a + 1 + 1 + 3 * t + 2)) (X (a + 1 + 1 + 3 * t) 2) x
def l_odds (X : x_X) (a t x f : Int) : Int := max 0 (l_od X a t x - X 0 1 * f)
theorem c_X1_oddsOf {l : Launch} {E : x_E} {κ : x_Ka} {X : x_X} {a t x f : Int} (hT : x_T κ) (h0 : κ 0 = some (.inl (0, 1))) (hk : κ a = some (.inl (8, 1))) (hw : l_wf X a) (ht : 0 ≤ t ∧ t < 3) (hx : xR x) (hf : 0 ≤ f ∧ f ≤ 3) (hti : 0 ≤ X 0 1 ∧ X 0 1 ≤ 300) : x_Pu l yX1_oddsOf cX1_oddsOf 5 (some .int) 2 E κ X [x_rf E 0, x_rf E a, vi t, vi x, vi f] (vi (l_odds X a t x f)) := by
  refine x_Met.of [(false, x_rf E 0), (false, x_rf E a), (false, vi t), (false, vi x), (false, vi f)] [some (x_rf E 0), some (x_rf E a), some (vi t), some (vi x), some (vi f)] 0 (by decide) rfl rfl ⟨x_cr E (0), x_cr E (a), rfl, rfl, rfl, trivial⟩ rfl rfl ?_
  intro p e s m args below meth c hargs hin B
  have hmb := x_mb hti hf
  have htr := t_of_r (x := x) (hw t ht.1 ht.2)
  refine x_iconst B dX1_oddsOf_0 ?_
  refine x_aload_n B dX1_oddsOf_1 rfl ?_
  refine x_getC1 B (k := 2) hT rfl rfl xc_8 (by decide) hk (Or.inr q523) (fun _ h => h) dX1_oddsOf_2 (fun k_2 => ?_)
  refine x_iload_n B dX1_oddsOf_5 rfl ?_
  refine x_aaldC B (t := 11) hT k_2 rfl rfl rfl rfl ⟨by omega, by omega⟩ dX1_oddsOf_6 (fun k_6 => ?_)
  refine x_iload_n B dX1_oddsOf_7 rfl ?_
  refine x_goP (x_rV B k_6 (show x_cl[9]? = some _ from rfl) (c_X11_of hT k_6 (hw t ht.1 ht.2) hx) (lw_V q768 q769 q770 q125 q771) hv_X11_of ⟨by decide, by decide⟩ ⟨by decide, by decide⟩ rfl rfl (by simp [x_cr, x_c1, x_c2]) dX1_oddsOf_8) ?_
  refine x_aload_n B dX1_oddsOf_11 rfl ?_
  refine x_getI B (k := 1) 1 rfl rfl xc_0 (by decide) h0 (Or.inl q398) (fun _ h => h) dX1_oddsOf_12 (fun r_12 => ?_)
  refine x_iload B dX1_oddsOf_15 rfl ?_
  refine x_imul B dX1_oddsOf_17 ?_
  refine x_isub B dX1_oddsOf_18 ?_
  refine x_max B ⟨by omega, by omega⟩ ⟨by omega, by omega⟩ q772 q666 q130 q667 (by decide) (by simp [x_cr, x_c1, x_c2]) ⟨by decide, by decide⟩ dX1_oddsOf_19 ?_
  refine x_iret B (fun _ _ h => h) ?_ dX1_oddsOf_22
  exact ⟨rfl, rfl⟩
