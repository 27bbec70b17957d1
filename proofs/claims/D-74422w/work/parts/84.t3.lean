theorem t_go_u {ld od : Int → Int} {many x : Int} {f : Nat} {k : Int} : t_go ld od many x (f + 1) k = if k < many then (if x > ld k then t_go ld od many x f (k + 1) else od (k - 1) - ((od (k - 1) - od k) * (x - ld (k - 1))).tdiv (ld k - ld (k - 1))) else 0 := rfl
theorem c_X8_tableOdds {l : Launch} {E : x_E} {κ : x_Ka} {X : x_X} {a t x : Int} (hT : x_T κ) (h8 : κ 64 = some (.inl (7, 1))) (ha : 0 ≤ a ∧ a < 6) (ht : 0 ≤ t ∧ t < 3) (hw : t_wf (fun k => X 69 (6 * (3 * a + t) + k)) (fun k => X 70 (6 * (3 * a + t) + k)) (X 68 (3 * a + t))) (hx : xR x) : x_Pu l yX8_tableOdds cX8_tableOdds 9 (some .int) 0 E κ X [x_rf E 64, vi a, vi t, vi x] (vi (t_tb X a t x)) := by
  refine x_Met.of [(false, x_rf E 64), (false, vi a), (false, vi t), (false, vi x)] [some (x_rf E 64), some (vi a), some (vi t), some (vi x), none, none, none, none, none] 5 (by decide) rfl rfl ⟨x_cr E (64), rfl, rfl, rfl, trivial⟩ rfl rfl ?_
  intro p e s m args below meth c hargs hin B
  have hwm : 1 ≤ X 68 (3 * a + t) ∧ X 68 (3 * a + t) ≤ 6 := hw.1
  have h0 := (hw.2 0 (by omega) (by omega)).1
  have e0 : X 69 (6 * (3 * a + t) + 0) = X 69 (6 * (3 * a + t)) := by rw [Int.add_zero]
  have d0 : X 70 (6 * (3 * a + t) + 0) = X 70 (6 * (3 * a + t)) := by rw [Int.add_zero]
  have hk8 : κ 68 = some (.inr (0, 18)) := hT.1 64 7 h8 6 (0, 68, .inr (0, 18)) rfl
  have lp_44 : ∀ (n : Nat) (k : Int) (f : Nat), ((1 ≤ k ∧ k ≤ (X 68 (3 * a + t)) ∧ k + f = 7) ∧ ((fun k => X 69 (6 * (3 * a + t) + k)) (k - 1) < x) ∧ t_tb X a t x = t_go (fun k => X 69 (6 * (3 * a + t) + k)) (fun k => X 70 (6 * (3 * a + t) + k)) (X 68 (3 * a + t)) x f k) → ((7 - k).toNat < n) → x_G p l e (x_rm 0 0 0) s m args below meth c 9 E 0 0 (MQ below (x_Q E κ (fun v_ X_ => v_ = some (vi (t_tb X a t x)) ∧ X_ = X)) args s 0 0 (fun q => E.1 ≤ q)) κ 44 [some (x_rf E 64), some (vi a), some (vi t), some (vi x), some (vi (6 * (3 * a + t))), some (vi (X 68 (3 * a + t))), some (vi k), none, none] [] X := by
    intro n
    induction n with
    | zero => intro k f hinv hme; exfalso; omega
    | succ n ih =>
      intro k f hinv hme
      obtain ⟨hk, hlx, hg⟩ := hinv
      refine x_iload B dX8_tableOdds_44 rfl ?_
      refine x_iload B dX8_tableOdds_46 rfl ?_
      refine x_icmp_ge B (tgt := 134) dX8_tableOdds_48 (by decide) ⟨by omega, by omega⟩ ⟨by omega, by omega⟩ (fun h_48 => ?_) (fun h_48 => ?_)
      · refine x_iconst B dX8_tableOdds_134 ?_
        refine x_iret B (fun _ _ h => h) ?_ dX8_tableOdds_135
        have hu := t_go_u (ld := (fun k => X 69 (6 * (3 * a + t) + k))) (od := (fun k => X 70 (6 * (3 * a + t) + k))) (many := (X 68 (3 * a + t))) (x := x) (f := f - 1) (k := k)
        rw [show f - 1 + 1 = f by have := hw.1; omega, if_neg (by omega)] at hu
        exact ⟨congrArg (fun z => some (vi z)) (by rw [hg, hu]), rfl⟩
      · have hwk := hw.2 k (by omega) (by omega)
        have hw1 := hw.2 (k - 1) (by omega) (by omega)
        have hwk3 := hwk.2.2 (by omega)
        dsimp only at hwk hw1 hwk3 hlx
        have ea : 6 * (3 * a + t) + k - 1 = 6 * (3 * a + t) + (k - 1) := by omega
        have hmb := x_mb (a := X 70 (6 * (3 * a + t) + (k - 1)) - X 70 (6 * (3 * a + t) + k)) (b := x - X 69 (6 * (3 * a + t) + (k - 1))) (A := 1000) (B := 40)
        refine x_iload B dX8_tableOdds_51 rfl ?_
        refine x_iload B dX8_tableOdds_53 rfl ?_
        refine x_iadd B dX8_tableOdds_55 ?_
        refine x_iconst B dX8_tableOdds_56 ?_
        refine x_isub B dX8_tableOdds_57 ?_
        rw [ea]
        refine x_istw_7 B dX8_tableOdds_58 (by first | rfl | exact x_cr _ _) ?_
        refine x_iload B dX8_tableOdds_60 rfl ?_
        refine x_iload B dX8_tableOdds_62 rfl ?_
        refine x_iadd B dX8_tableOdds_64 ?_
        refine x_istw_8 B dX8_tableOdds_65 (by first | rfl | exact x_cr _ _) ?_
        refine x_iload_n B dX8_tableOdds_67 rfl ?_
        refine x_aload_n B dX8_tableOdds_68 rfl ?_
        refine x_getC0 B (k := 7) hT rfl rfl xc_7 (by decide) h8 (Or.inl q1342) (fun _ h => h) dX8_tableOdds_69 (fun k_69 => ?_)
        refine x_iload B dX8_tableOdds_72 rfl ?_
        refine x_iald B k_69 ⟨by have := hw.1; omega, by have := hw.1; omega⟩ dX8_tableOdds_74 (fun r_74 => ?_)
        refine x_icmp_gt B (tgt := 128) dX8_tableOdds_75 (by decide) ⟨by omega, by omega⟩ ⟨by omega, by omega⟩ (fun h_75 => ?_) (fun h_75 => ?_)
        · refine x_iinc_6 B dX8_tableOdds_128 (by first | rfl | exact x_cr _ _) ?_
          refine x_goto B (tgt := 44) dX8_tableOdds_131 (by decide) ?_
          refine x_fg_7 ?_
          refine x_fg_8 ?_
          refine ih _ (f - 1) ⟨⟨by omega, by omega, by omega⟩, ?_, ?_⟩ (by omega)
          · show X 69 (6 * (3 * a + t) + (k + 1 - 1)) < x; rw [show k + 1 - 1 = k by omega]; omega
          · have hu := t_go_u (ld := (fun k => X 69 (6 * (3 * a + t) + k))) (od := (fun k => X 70 (6 * (3 * a + t) + k))) (many := (X 68 (3 * a + t))) (x := x) (f := f - 1) (k := k)
            rw [show f - 1 + 1 = f by omega, if_pos (by omega), if_pos (by show X 69 (6 * (3 * a + t) + k) < x; omega)] at hu
            rw [hg, hu]
        · refine x_aload_n B dX8_tableOdds_78 rfl ?_
          refine x_getC0 B (k := 8) hT rfl rfl xc_7 (by decide) h8 (Or.inl q1343) (fun _ h => h) dX8_tableOdds_79 (fun k_79 => ?_)
          refine x_iload B dX8_tableOdds_82 rfl ?_
          refine x_iald B k_79 ⟨by have := hw.1; omega, by have := hw.1; omega⟩ dX8_tableOdds_84 (fun r_84 => ?_)
          refine x_aload_n B dX8_tableOdds_85 rfl ?_
          refine x_getC0 B (k := 8) hT rfl rfl xc_7 (by decide) h8 (Or.inl q1343) (fun _ h => h) dX8_tableOdds_86 (fun k_86 => ?_)
          refine x_iload B dX8_tableOdds_89 rfl ?_
          refine x_iald B k_86 ⟨by have := hw.1; omega, by have := hw.1; omega⟩ dX8_tableOdds_91 (fun r_91 => ?_)
          refine x_aload_n B dX8_tableOdds_92 rfl ?_
          refine x_getC0 B (k := 8) hT rfl rfl xc_7 (by decide) h8 (Or.inl q1343) (fun _ h => h) dX8_tableOdds_93 (fun k_93 => ?_)
          refine x_iload B dX8_tableOdds_96 rfl ?_
          refine x_iald B k_93 ⟨by have := hw.1; omega, by have := hw.1; omega⟩ dX8_tableOdds_98 (fun r_98 => ?_)
          refine x_isub B dX8_tableOdds_99 ?_
          refine x_iload_n B dX8_tableOdds_100 rfl ?_
          refine x_aload_n B dX8_tableOdds_101 rfl ?_
          refine x_getC0 B (k := 7) hT rfl rfl xc_7 (by decide) h8 (Or.inl q1342) (fun _ h => h) dX8_tableOdds_102 (fun k_102 => ?_)
          refine x_iload B dX8_tableOdds_105 rfl ?_
          refine x_iald B k_102 ⟨by have := hw.1; omega, by have := hw.1; omega⟩ dX8_tableOdds_107 (fun r_107 => ?_)
          refine x_isub B dX8_tableOdds_108 ?_
          refine x_imul B dX8_tableOdds_109 ?_
          refine x_aload_n B dX8_tableOdds_110 rfl ?_
          refine x_getC0 B (k := 7) hT rfl rfl xc_7 (by decide) h8 (Or.inl q1342) (fun _ h => h) dX8_tableOdds_111 (fun k_111 => ?_)
          refine x_iload B dX8_tableOdds_114 rfl ?_
          refine x_iald B k_111 ⟨by have := hw.1; omega, by have := hw.1; omega⟩ dX8_tableOdds_116 (fun r_116 => ?_)
          refine x_aload_n B dX8_tableOdds_117 rfl ?_
          refine x_getC0 B (k := 7) hT rfl rfl xc_7 (by decide) h8 (Or.inl q1342) (fun _ h => h) dX8_tableOdds_118 (fun k_118 => ?_)
          refine x_iload B dX8_tableOdds_121 rfl ?_
          refine x_iald B k_118 ⟨by have := hw.1; omega, by have := hw.1; omega⟩ dX8_tableOdds_123 (fun r_123 => ?_)
          refine x_isub B dX8_tableOdds_124 ?_
          refine x_idiv B dX8_tableOdds_125 ⟨by have := hmb ⟨by omega, by omega⟩ ⟨by omega, by omega⟩; omega, by have := hmb ⟨by omega, by omega⟩ ⟨by omega, by omega⟩; omega⟩ ⟨by omega, by omega⟩ ?_
          refine x_isub B dX8_tableOdds_126 ?_
          refine x_iret B (fun _ _ h => h) ?_ dX8_tableOdds_127
          have hu := t_go_u (ld := (fun k => X 69 (6 * (3 * a + t) + k))) (od := (fun k => X 70 (6 * (3 * a + t) + k))) (many := (X 68 (3 * a + t))) (x := x) (f := f - 1) (k := k)
          rw [show f - 1 + 1 = f by omega, if_pos (by omega), if_neg (by show ¬ X 69 (6 * (3 * a + t) + k) < x; omega)] at hu
          exact ⟨congrArg (fun z => some (vi z)) (by rw [hg, hu]), rfl⟩
  refine x_bipush B dX8_tableOdds_0 (by decide) ?_
  refine x_iconst B dX8_tableOdds_2 ?_
  refine x_iload_n B dX8_tableOdds_3 rfl ?_
  refine x_imul B dX8_tableOdds_4 ?_
  refine x_iload_n B dX8_tableOdds_5 rfl ?_
  refine x_iadd B dX8_tableOdds_6 ?_
  refine x_imul B dX8_tableOdds_7 ?_
  refine x_istw_4 B dX8_tableOdds_8 (by first | rfl | exact x_cr _ _) ?_
  refine x_aload_n B dX8_tableOdds_10 rfl ?_
  refine x_getC0 B (k := 6) hT rfl rfl xc_7 (by decide) h8 (Or.inl q1341) (fun _ h => h) dX8_tableOdds_11 (fun k_11 => ?_)
  refine x_iconst B dX8_tableOdds_14 ?_
  refine x_iload_n B dX8_tableOdds_15 rfl ?_
  refine x_imul B dX8_tableOdds_16 ?_
  refine x_iload_n B dX8_tableOdds_17 rfl ?_
  refine x_iadd B dX8_tableOdds_18 ?_
  refine x_iald B k_11 ⟨by omega, by omega⟩ dX8_tableOdds_19 (fun r_19 => ?_)
  refine x_istw_5 B dX8_tableOdds_20 (by first | rfl | exact x_cr _ _) ?_
  refine x_iload_n B dX8_tableOdds_22 rfl ?_
  refine x_aload_n B dX8_tableOdds_23 rfl ?_
  refine x_getC0 B (k := 7) hT rfl rfl xc_7 (by decide) h8 (Or.inl q1342) (fun _ h => h) dX8_tableOdds_24 (fun k_24 => ?_)
  refine x_iload B dX8_tableOdds_27 rfl ?_
  refine x_iald B k_24 ⟨by omega, by omega⟩ dX8_tableOdds_29 (fun r_29 => ?_)
  refine x_icmp_gt B (tgt := 41) dX8_tableOdds_30 (by decide) ⟨by omega, by omega⟩ ⟨by omega, by omega⟩ (fun h_30 => ?_) (fun h_30 => ?_)
  · refine x_iconst B dX8_tableOdds_41 ?_
    refine x_istw_6 B dX8_tableOdds_42 (by first | rfl | exact x_cr _ _) ?_
    refine lp_44 _ 1 6 ⟨⟨by omega, by have := hw.1; omega, by omega⟩, ?_, ?_⟩ (Nat.lt_succ_self _)
    · show X 69 (6 * (3 * a + t) + (1 - 1)) < x; rw [show (1 : Int) - 1 = 0 by omega, e0]; omega
    · unfold t_tb t_of; rw [if_neg (by show ¬ x ≤ X 69 (6 * (3 * a + t) + 0); rw [e0]; omega)]
  · refine x_aload_n B dX8_tableOdds_33 rfl ?_
    refine x_getC0 B (k := 8) hT rfl rfl xc_7 (by decide) h8 (Or.inl q1343) (fun _ h => h) dX8_tableOdds_34 (fun k_34 => ?_)
    refine x_iload B dX8_tableOdds_37 rfl ?_
    refine x_iald B k_34 ⟨by omega, by omega⟩ dX8_tableOdds_39 (fun r_39 => ?_)
    refine x_iret B (fun _ _ h => h) ?_ dX8_tableOdds_40
    exact ⟨congrArg (fun z => some (vi z)) (by unfold t_tb t_of; rw [if_pos (by show x ≤ X 69 (6 * (3 * a + t) + 0); rw [e0]; omega)]; exact d0.symm), rfl⟩
theorem c_X8_oddsOf {l : Launch} {E : x_E} {κ : x_Ka} {X : x_X} {a t x f : Int} (hK : t_K κ X) (hO : t_Ow X) (ha : 0 ≤ a ∧ a < X 64 3) (ht : 0 ≤ t ∧ t < 3) (hx : xR x) (hf : 0 ≤ f ∧ f ≤ 3) : x_Pu l yX8_oddsOf cX8_oddsOf 5 (some .int) 1 E κ X [x_rf E 64, vi a, vi t, vi x, vi f] (vi (t_O X a t x f)) := by
  refine x_Met.of [(false, x_rf E 64), (false, vi a), (false, vi t), (false, vi x), (false, vi f)] [some (x_rf E 64), some (vi a), some (vi t), some (vi x), some (vi f)] 0 (by decide) rfl rfl ⟨x_cr E (64), rfl, rfl, rfl, rfl, trivial⟩ rfl rfl ?_
  intro p e s m args below meth c hargs hin B
  obtain ⟨hT, h8, hn⟩ := id hK
  have hw := hO.1 a ha.1 ha.2 t ht.1 ht.2
  have hr := t_of_r (x := x) hw
  have hmb := x_mb (a := X 64 10) (b := f) (A := 300) (B := 3) hO.2 hf
  have hr2 : 0 ≤ t_tb X a t x ∧ t_tb X a t x ≤ 1000 := hr
  refine x_iconst B dX8_oddsOf_0 ?_
  refine x_aload_n B dX8_oddsOf_1 rfl ?_
  refine x_iload_n B dX8_oddsOf_2 rfl ?_
  refine x_iload_n B dX8_oddsOf_3 rfl ?_
  refine x_iload_n B dX8_oddsOf_4 rfl ?_
  refine x_goP (x_rV B h8 (show x_cl[7]? = some _ from rfl) (c_X8_tableOdds hT h8 ⟨by omega, by omega⟩ ht hw hx) (lw_V q1580 q1582 qs59 q122 q1583) hv_X8_tableOdds ⟨by decide, by decide⟩ ⟨by decide, by decide⟩ rfl rfl (by simp [x_cr, x_c1, x_c2]) dX8_oddsOf_5) ?_
  refine x_aload_n B dX8_oddsOf_8 rfl ?_
  refine x_getI B (k := 10) 10 rfl rfl xc_7 (by decide) h8 (Or.inl q1345) (fun _ h => h) dX8_oddsOf_9 (fun r_9 => ?_)
  refine x_iload B dX8_oddsOf_12 rfl ?_
  refine x_imul B dX8_oddsOf_14 ?_
  refine x_isub B dX8_oddsOf_15 ?_
  refine x_max B ⟨by omega, by omega⟩ ⟨by omega, by omega⟩ q1584 q666 q130 q667 (by decide) (by simp [x_cr, x_c1, x_c2]) ⟨by decide, by decide⟩ dX8_oddsOf_16 ?_
  refine x_iret B (fun _ _ h => h) ?_ dX8_oddsOf_19
  exact ⟨congrArg (fun z => some (vi z)) (by unfold t_O; rw [if_pos ⟨ha.1, ha.2, ht.1, ht.2⟩]), rfl⟩
theorem c_X8_asksThen {l : Launch} {E : x_E} {κ : x_Ka} {X : x_X} {a t r x g : Int} (hK : t_K κ X) (hP : t_P X) (ha : 0 ≤ a ∧ a < X 64 3) (ht : 0 ≤ t ∧ t < 3) (hr : xR r) (hx : 0 ≤ x ∧ x ≤ 100) (hg : 0 ≤ g ∧ g ≤ 1) : x_Pu l yX8_asksThen cX8_asksThen 7 (some .int) 1 E κ X [x_rf E 64, vi a, vi t, vi r, vi x, vi g] (vi (if r = 2 then 0 else if x + t_p3 X a t (if g = 1 then 1 else 2) > 40 then 0 else x + t_p3 X a t (if g = 1 then 1 else 2))) := by
  refine x_Met.of [(false, x_rf E 64), (false, vi a), (false, vi t), (false, vi r), (false, vi x), (false, vi g)] [some (x_rf E 64), some (vi a), some (vi t), some (vi r), some (vi x), some (vi g), none] 1 (by decide) rfl rfl ⟨x_cr E (64), rfl, rfl, rfl, rfl, rfl, trivial⟩ rfl rfl ?_
  intro p e s m args below meth c hargs hin B
  obtain ⟨hT, h8, hn⟩ := id hK
  have hp := hP a ha.1 ha.2 t ht.1 ht.2
  refine x_iload B dX8_asksThen_0 rfl ?_
  refine x_aload_n B dX8_asksThen_2 rfl ?_
  refine x_iload_n B dX8_asksThen_3 rfl ?_
  refine x_iload_n B dX8_asksThen_4 rfl ?_
  refine x_iload B dX8_asksThen_5 rfl ?_
  refine x_if_eq B (tgt := 14) dX8_asksThen_7 (by decide) ⟨by omega, by omega⟩ (fun h_7 => ?_) (fun h_7 => ?_)
  · have eg : (if g = 1 then (1 : Int) else 2) = 2 := if_neg (by omega)
    rw [eg]
    refine x_iconst B dX8_asksThen_14 ?_
    refine x_goP (x_rV B h8 (show x_cl[7]? = some _ from rfl) (c_X8_planOf hK ⟨by omega, by omega⟩ ⟨by omega, by omega⟩ ⟨by omega, by omega⟩) (lw_V q1529 q1531 qs53 q122 q1532) hv_X8_planOf ⟨by decide, by decide⟩ ⟨by decide, by decide⟩ rfl rfl (by simp [x_cr, x_c1, x_c2]) dX8_asksThen_15) ?_
    refine x_iadd B dX8_asksThen_18 ?_
    refine x_istw_6 B dX8_asksThen_19 (by first | rfl | exact x_cr _ _) ?_
    refine x_iload_n B dX8_asksThen_21 rfl ?_
    refine x_iconst B dX8_asksThen_22 ?_
    refine x_icmp_eq B (tgt := 33) dX8_asksThen_23 (by decide) ⟨by omega, by omega⟩ ⟨by omega, by omega⟩ (fun h_23 => ?_) (fun h_23 => ?_)
    · refine x_iconst B dX8_asksThen_33 ?_
      refine x_goto B (tgt := 39) dX8_asksThen_34 (by decide) ?_
      refine x_iret B (fun _ _ h => h) ?_ dX8_asksThen_39
      first
      | exact ⟨by rw [if_pos (by omega)], rfl⟩
      | exact ⟨by rw [if_neg (by omega), if_pos (by omega)], rfl⟩
      | exact ⟨by rw [if_neg (by omega), if_neg (by omega)], rfl⟩
    · refine x_iload B dX8_asksThen_26 rfl ?_
      refine x_bipush B dX8_asksThen_28 (by decide) ?_
      refine x_icmp_le B (tgt := 37) dX8_asksThen_30 (by decide) ⟨by omega, by omega⟩ ⟨by omega, by omega⟩ (fun h_30 => ?_) (fun h_30 => ?_)
      · refine x_iload B dX8_asksThen_37 rfl ?_
        refine x_iret B (fun _ _ h => h) ?_ dX8_asksThen_39
        first
        | exact ⟨by rw [if_pos (by omega)], rfl⟩
        | exact ⟨by rw [if_neg (by omega), if_pos (by omega)], rfl⟩
        | exact ⟨by rw [if_neg (by omega), if_neg (by omega)], rfl⟩
      · refine x_iconst B dX8_asksThen_33 ?_
        refine x_goto B (tgt := 39) dX8_asksThen_34 (by decide) ?_
        refine x_iret B (fun _ _ h => h) ?_ dX8_asksThen_39
        first
        | exact ⟨by rw [if_pos (by omega)], rfl⟩
        | exact ⟨by rw [if_neg (by omega), if_pos (by omega)], rfl⟩
        | exact ⟨by rw [if_neg (by omega), if_neg (by omega)], rfl⟩
  · have eg : (if g = 1 then (1 : Int) else 2) = 1 := if_pos (by omega)
    rw [eg]
    refine x_iconst B dX8_asksThen_10 ?_
    refine x_goto B (tgt := 15) dX8_asksThen_11 (by decide) ?_
    refine x_goP (x_rV B h8 (show x_cl[7]? = some _ from rfl) (c_X8_planOf hK ⟨by omega, by omega⟩ ⟨by omega, by omega⟩ ⟨by omega, by omega⟩) (lw_V q1529 q1531 qs53 q122 q1532) hv_X8_planOf ⟨by decide, by decide⟩ ⟨by decide, by decide⟩ rfl rfl (by simp [x_cr, x_c1, x_c2]) dX8_asksThen_15) ?_
    refine x_iadd B dX8_asksThen_18 ?_
    refine x_istw_6 B dX8_asksThen_19 (by first | rfl | exact x_cr _ _) ?_
    refine x_iload_n B dX8_asksThen_21 rfl ?_
    refine x_iconst B dX8_asksThen_22 ?_
    refine x_icmp_eq B (tgt := 33) dX8_asksThen_23 (by decide) ⟨by omega, by omega⟩ ⟨by omega, by omega⟩ (fun h_23 => ?_) (fun h_23 => ?_)
    · refine x_iconst B dX8_asksThen_33 ?_
      refine x_goto B (tgt := 39) dX8_asksThen_34 (by decide) ?_
      refine x_iret B (fun _ _ h => h) ?_ dX8_asksThen_39
      first
      | exact ⟨by rw [if_pos (by omega)], rfl⟩
      | exact ⟨by rw [if_neg (by omega), if_pos (by omega)], rfl⟩
      | exact ⟨by rw [if_neg (by omega), if_neg (by omega)], rfl⟩
    · refine x_iload B dX8_asksThen_26 rfl ?_
      refine x_bipush B dX8_asksThen_28 (by decide) ?_
      refine x_icmp_le B (tgt := 37) dX8_asksThen_30 (by decide) ⟨by omega, by omega⟩ ⟨by omega, by omega⟩ (fun h_30 => ?_) (fun h_30 => ?_)
      · refine x_iload B dX8_asksThen_37 rfl ?_
        refine x_iret B (fun _ _ h => h) ?_ dX8_asksThen_39
        first
        | exact ⟨by rw [if_pos (by omega)], rfl⟩
        | exact ⟨by rw [if_neg (by omega), if_pos (by omega)], rfl⟩
        | exact ⟨by rw [if_neg (by omega), if_neg (by omega)], rfl⟩
      · refine x_iconst B dX8_asksThen_33 ?_
        refine x_goto B (tgt := 39) dX8_asksThen_34 (by decide) ?_
        refine x_iret B (fun _ _ h => h) ?_ dX8_asksThen_39
        first
        | exact ⟨by rw [if_pos (by omega)], rfl⟩
        | exact ⟨by rw [if_neg (by omega), if_pos (by omega)], rfl⟩
        | exact ⟨by rw [if_neg (by omega), if_neg (by omega)], rfl⟩
theorem t_La.of {X Z : x_X} {a y z : Int} (h : t_La X) (hn : Z 64 3 = X 64 3) (ha : 0 ≤ a) (h2 : Z 72 (3 + 10 * a + 2) = y) (h3 : Z 72 (3 + 10 * a + 3) = z) (hy : 0 ≤ y ∧ y ≤ 40) (hz : 0 ≤ z ∧ z ≤ 1) (ho : ∀ b, 0 ≤ b → b ≠ a → Z 72 (3 + 10 * b + 2) = X 72 (3 + 10 * b + 2) ∧ Z 72 (3 + 10 * b + 3) = X 72 (3 + 10 * b + 3)) : t_La Z := by
  intro b b1 b2
  rw [hn] at b2
  by_cases e : b = a
  · subst e; rw [h2, h3]; exact ⟨hy, hz⟩
  · rw [(ho b b1 e).1, (ho b b1 e).2]; exact h b b1 b2
/-- a try is told -/
def t_lg (Z : x_X) (c l t x g : Int) : x_X := x_up (x_up (x_up (x_up Z 74 (4 * c) l) 74 (4 * c + 1) t) 74 (4 * c + 2) x) 74 (4 * c + 3) g
theorem t_G_lg {X Y : x_X} {l t x g : Int} (h12 : 0 ≤ X 64 13) (h : Y 64 13 = X 64 13 + 1) (h4 : Y 74 = t_lg X (X 64 13) l t x g 74) : t_G Y = y_log (t_G X) (X 64 13) l t x g := by
  have ev : ∀ i, Y 74 i = if i = 4 * X 64 13 + 3 then g else if i = 4 * X 64 13 + 2 then x else if i = 4 * X 64 13 + 1 then t else if i = 4 * X 64 13 then l else X 74 i := fun i => by
    rw [h4]; unfold t_lg x_up
    by_cases q3 : i = 4 * X 64 13 + 3
    · simp [q3]
    · by_cases q2 : i = 4 * X 64 13 + 2
      · simp [q2]
      · by_cases q1 : i = 4 * X 64 13 + 1
        · simp [q1]
        · by_cases q0 : i = 4 * X 64 13
          · simp [q0]
          · simp [q0, q1, q2, q3]
  funext k w
  dsimp only [t_G, y_log]
  rw [h, ev]
  by_cases q : k = X 64 13
  · rw [if_pos (by omega), if_pos q]
    by_cases hw : 0 ≤ w ∧ w < 4
    · rw [if_pos hw]
      rcases (show w = 0 ∨ w = 1 ∨ w = 2 ∨ w = 3 by omega) with e | e | e | e
      · rw [if_neg (by omega), if_neg (by omega), if_neg (by omega), if_pos (by omega), if_pos e]
      · rw [if_neg (by omega), if_neg (by omega), if_pos (by omega), if_neg (by omega), if_pos e]
      · rw [if_neg (by omega), if_pos (by omega), if_neg (by omega), if_neg (by omega), if_pos e]
      · rw [if_pos (by omega), if_neg (by omega), if_neg (by omega), if_neg (by omega), if_pos e]
    · rw [if_neg hw, if_neg (by omega), if_neg (by omega), if_neg (by omega), if_neg (by omega)]
  · rw [if_neg q]
    by_cases q2 : 0 ≤ k ∧ k < X 64 13
    · rw [if_pos (by omega), if_pos q2]
      by_cases hw : 0 ≤ w ∧ w < 4
      · rw [if_pos hw, if_pos hw, if_neg (by omega), if_neg (by omega), if_neg (by omega), if_neg (by omega)]
      · rw [if_neg hw, if_neg hw]
    · rw [if_neg (by omega), if_neg q2]
theorem c_X8_doesTry {l : Launch} {E : x_E} {κ : x_Ka} {X : x_X} {a g : Int} (hC : t_C κ X) (hc : m_cal (X 64 3) (t_lot X) (t_M X) ≠ -1) (hca : m_cal (X 64 3) (t_lot X) (t_M X) = a) (hg : 0 ≤ g ∧ g ≤ 1) (h13 : 0 ≤ X 64 13 ∧ X 64 13 < 60) (h14 : 0 ≤ X 64 14 ∧ X 64 14 ≤ 60) : x_Met l yX8_doesTry cX8_doesTry 5 none 5 0 0 E κ X [x_rf E 64, vi a, vi g] κ (fun v Y => v = none ∧ (∀ b, b ≠ 72 → b ≠ 74 → b ≠ 64 → Y b = X b) ∧ (∀ i, i ≠ 13 → i ≠ 14 → i ≠ 16 → Y 64 i = X 64 i) ∧ (Y 64 13 = X 64 13 + 1 ∧ Y 64 14 = X 64 14 + g ∧ Y 64 16 = y_v (X 64 3) (t_lot X) (t_p3 X) (t_M X) g) ∧ t_G Y = y_G (X 64 3) (t_lot X) (t_M X) (X 64 13) (t_G X) g ∧ t_M Y = y_M (X 64 3) (t_lot X) (t_p3 X) (t_M X) g ∧ t_La Y ∧ ∀ k, k < 4 * X 64 13 → Y 74 k = X 74 k) := by
  refine x_Met.of [(false, x_rf E 64), (false, vi a), (false, vi g)] [some (x_rf E 64), some (vi a), some (vi g), none, none] 2 (by decide) rfl rfl ⟨x_cr E (64), rfl, rfl, trivial⟩ rfl rfl ?_
  intro p e s m args below meth c hargs hin B
  obtain ⟨hK, hP, hO, hW, hLa⟩ := id hC
  obtain ⟨hT, h8, hn⟩ := id hK
  have hcr := m_cb_r (t_lot X) (t_M X) (X 64 3).toNat
  have hco := m_cb_ok (t_lot X) (t_M X) (X 64 3).toNat hc
  have hcb : m_cb (t_lot X) (t_M X) (X 64 3).toNat = a := hca
  rw [hcb] at hcr hco
  have ha : 0 ≤ a ∧ a < X 64 3 := by rw [hca] at hc; omega
  have w1 := hW.1
  have w2 := hW.2.1 a ha.1 ha.2
  have w3 := hW.2.2 a ha.1 ha.2
  have g1 : t_M X (-1) 1 = X 72 0 := t_M_g (by omega)
  have g2 : t_M X (-1) 2 = X 72 1 := t_M_g (by omega)
  have g3 : t_M X (-1) 3 = X 72 2 := t_M_g (by omega)
  have s2 : t_M X a 2 = X 72 (3 + 10 * a + 4) := t_M_s (by assumption) (by decide) (by omega) (by omega)
  have s3 : t_M X a 3 = X 72 (3 + 10 * a + 0) := t_M_s (by assumption) (by decide) (by omega) (by omega)
  have s5 : t_M X a 5 = X 72 (3 + 10 * a + 5) := t_M_s (by assumption) (by decide) (by omega) (by omega)
  have s6 : t_M X a 6 = X 72 (3 + 10 * a + 1) := t_M_s (by assumption) (by decide) (by omega) (by omega)
  have s7 : t_M X a 7 = X 72 (3 + 10 * a + 6) := t_M_s (by assumption) (by decide) (by omega) (by omega)
  have hlt : X 72 0 < 3 := by rcases Int.lt_or_le (X 72 0) 3 with q | q; exact q; exfalso; have := w3.2.1 (by omega); omega
  have hti : ti (10 + X 72 0) = 7 + X 72 0 := by rcases (show X 72 0 = 0 ∨ X 72 0 = 1 ∨ X 72 0 = 2 by omega) with e | e | e <;> rw [e] <;> decide
  have sb : t_M X a (10 + X 72 0) = X 72 (3 + 10 * a + (7 + X 72 0)) := t_M_s ha hti (by omega) (by omega)
  have hbr : 0 ≤ X 72 (3 + 10 * a + (7 + X 72 0)) ∧ X 72 (3 + 10 * a + (7 + X 72 0)) ≤ 40 := by rw [← sb]; rcases (show X 72 0 = 0 ∨ X 72 0 = 1 ∨ X 72 0 = 2 by omega) with e | e | e <;> rw [e] <;> simp <;> omega
  have hpl := hP a ha.1 ha.2 (X 72 0) (by omega) hlt
  have hpw : 0 ≤ t_p3 X a (X 72 0) (if g = 1 then 1 else 2) ∧ t_p3 X a (X 72 0) (if g = 1 then 1 else 2) ≤ 9 := by by_cases e : g = 1; rw [if_pos e]; omega; rw [if_neg e]; omega
  have hpw1 : g = 1 → 1 ≤ t_p3 X a (X 72 0) (if g = 1 then 1 else 2) := by intro e; rw [if_pos e]; omega
  obtain ⟨av, hav⟩ : ∃ z, z = (if X 72 1 = 2 then 0 else if X 72 (3 + 10 * a + 0) + t_p3 X a (X 72 0) (if g = 1 then 1 else 2) > 40 then 0 else X 72 (3 + 10 * a + 0) + t_p3 X a (X 72 0) (if g = 1 then 1 else 2)) := ⟨_, rfl⟩
  have havr : 0 ≤ av ∧ av ≤ 40 := by rw [hav]; split; omega; split <;> omega
  have hq4 := w3.2.2.2.2 (by omega)
  rw [g1] at hq4
  have hWt := m_W_tr (w := (t_p3 X a (t_M X (-1) 1) (if g = 1 then 1 else 2))) hW ha hg hco (by rw [g1]; exact hpw) (by rw [g1]; exact hpw1)
  have hyv : y_v (X 64 3) (t_lot X) (t_p3 X) (t_M X) g = av := by unfold y_v; rw [hca, (m_tr_v ha.1).2.1, g1, g2, s3, hav]
  have hyM : y_M (X 64 3) (t_lot X) (t_p3 X) (t_M X) g = m_go (X 64 3) (fun l t => t_p3 X l t 0) (t_lot X) 20 (m_tr (t_M X) a g (t_p3 X a (t_M X (-1) 1) (if g = 1 then 1 else 2))) := by unfold y_M; rw [hca]
  have lp_130 : ∀ (n : Nat) (Z : x_X), ((∀ b, b ≠ 72 → b ≠ 64 → Z b = X b) ∧ (∀ i, i ≠ 16 → Z 64 i = X 64 i) ∧ Z 64 16 = av ∧ t_M Z = m_tr (t_M X) a g (t_p3 X a (t_M X (-1) 1) (if g = 1 then 1 else 2)) ∧ t_La Z) → (0 < n) → x_G p l e (x_rm 5 0 0) s m args below meth c 5 E 0 0 (MQ below (x_Q E κ (fun v Y => v = none ∧ (∀ b, b ≠ 72 → b ≠ 74 → b ≠ 64 → Y b = X b) ∧ (∀ i, i ≠ 13 → i ≠ 14 → i ≠ 16 → Y 64 i = X 64 i) ∧ (Y 64 13 = X 64 13 + 1 ∧ Y 64 14 = X 64 14 + g ∧ Y 64 16 = y_v (X 64 3) (t_lot X) (t_p3 X) (t_M X) g) ∧ t_G Y = y_G (X 64 3) (t_lot X) (t_M X) (X 64 13) (t_G X) g ∧ t_M Y = y_M (X 64 3) (t_lot X) (t_p3 X) (t_M X) g ∧ t_La Y ∧ ∀ k, k < 4 * X 64 13 → Y 74 k = X 74 k)) args s 0 0 (fun q => E.1 ≤ q)) κ 130 [some (x_rf E 64), some (vi a), some (vi g), some (vi (X 72 0)), some (vi (X 72 (3 + 10 * a + 0)))] [] Z := by
    intro n
    induction n with
    | zero => intro Z hinv hme; exfalso; omega
    | succ n ih =>
      intro Z hinv hme
      obtain ⟨zo, z64, z16, zM, zL⟩ := hinv
      have z13 : Z 64 13 = X 64 13 := z64 13 (by omega)
      have z14 : Z 64 14 = X 64 14 := z64 14 (by omega)
      have z3 : Z 64 3 = X 64 3 := z64 3 (by omega)
      have ul : ∀ (Z : x_X) (a i z b : Int), b ≠ a → x_up Z a i z b = Z b := fun Z a i z b h => x_up_o Z h
      refine x_aload_n B dX8_doesTry_130 rfl ?_
      refine x_getC0 B (k := 15) hT rfl rfl xc_7 (by decide) h8 (Or.inl q1350) (fun _ h => h) dX8_doesTry_131 (fun k_131 => ?_)
      refine x_iconst B dX8_doesTry_134 ?_
      refine x_aload_n B dX8_doesTry_135 rfl ?_
      refine x_getI B (k := 13) 13 rfl rfl xc_7 (by decide) h8 (Or.inl q1348) (fun _ h => h) dX8_doesTry_136 (fun r_136 => ?_)
      rw [z13] at r_136 ⊢
      refine x_imul B dX8_doesTry_139 ?_
      refine x_iload_n B dX8_doesTry_140 rfl ?_
      refine x_iast B k_131 ⟨by omega, by omega⟩ ⟨by omega, by omega⟩ dX8_doesTry_141 ?_
      refine x_aload_n B dX8_doesTry_142 rfl ?_
      refine x_getC0 B (k := 15) hT rfl rfl xc_7 (by decide) h8 (Or.inl q1350) (fun _ h => h) dX8_doesTry_143 (fun k_143 => ?_)
      refine x_iconst B dX8_doesTry_146 ?_
      refine x_aload_n B dX8_doesTry_147 rfl ?_
      refine x_getI B (k := 13) 13 rfl rfl xc_7 (by decide) h8 (Or.inl q1348) (fun _ h => h) dX8_doesTry_148 (fun r_148 => ?_)
      rw [ul _ _ _ _ 64 (by omega), z13] at r_148 ⊢
      refine x_imul B dX8_doesTry_151 ?_
      refine x_iconst B dX8_doesTry_152 ?_
      refine x_iadd B dX8_doesTry_153 ?_
      refine x_iload_n B dX8_doesTry_154 rfl ?_
      refine x_iast B k_143 ⟨by omega, by omega⟩ ⟨by omega, by omega⟩ dX8_doesTry_155 ?_
      refine x_aload_n B dX8_doesTry_156 rfl ?_
      refine x_getC0 B (k := 15) hT rfl rfl xc_7 (by decide) h8 (Or.inl q1350) (fun _ h => h) dX8_doesTry_157 (fun k_157 => ?_)
      refine x_iconst B dX8_doesTry_160 ?_
      refine x_aload_n B dX8_doesTry_161 rfl ?_
      refine x_getI B (k := 13) 13 rfl rfl xc_7 (by decide) h8 (Or.inl q1348) (fun _ h => h) dX8_doesTry_162 (fun r_162 => ?_)
      rw [ul _ _ _ _ 64 (by omega), ul _ _ _ _ 64 (by omega), z13] at r_162 ⊢
      refine x_imul B dX8_doesTry_165 ?_
      refine x_iconst B dX8_doesTry_166 ?_
      refine x_iadd B dX8_doesTry_167 ?_
      refine x_iload B dX8_doesTry_168 rfl ?_
      refine x_iast B k_157 ⟨by omega, by omega⟩ ⟨by omega, by omega⟩ dX8_doesTry_170 ?_
      refine x_aload_n B dX8_doesTry_171 rfl ?_
      refine x_getC0 B (k := 15) hT rfl rfl xc_7 (by decide) h8 (Or.inl q1350) (fun _ h => h) dX8_doesTry_172 (fun k_172 => ?_)
      refine x_iconst B dX8_doesTry_175 ?_
      refine x_aload_n B dX8_doesTry_176 rfl ?_
      refine x_getI B (k := 13) 13 rfl rfl xc_7 (by decide) h8 (Or.inl q1348) (fun _ h => h) dX8_doesTry_177 (fun r_177 => ?_)
      rw [ul _ _ _ _ 64 (by omega), ul _ _ _ _ 64 (by omega), ul _ _ _ _ 64 (by omega), z13] at r_177 ⊢
      refine x_imul B dX8_doesTry_180 ?_
      refine x_iconst B dX8_doesTry_181 ?_
      refine x_iadd B dX8_doesTry_182 ?_
      refine x_iload_n B dX8_doesTry_183 rfl ?_
      refine x_goP (x_rS B (c_X8_flag ⟨by omega, by omega⟩) (lw_S q1597 q1598 q122 q1599) hd_X8_flag ⟨by decide, by decide⟩ ⟨by decide, by decide⟩ rfl rfl (by simp [x_cr, x_c1, x_c2]) dX8_doesTry_184) ?_
      refine x_iast B k_172 ⟨by omega, by omega⟩ ⟨by omega, by omega⟩ dX8_doesTry_187 ?_
      change x_G _ _ _ _ _ _ _ _ _ _ _ _ _ _ _ _ _ _ _ (t_lg Z (X 64 13) a (X 72 0) (X 72 (3 + 10 * a + 0)) g)
      have l64 : t_lg Z (X 64 13) a (X 72 0) (X 72 (3 + 10 * a + 0)) g 64 = Z 64 := by unfold t_lg; rw [ul _ _ _ _ 64 (by omega), ul _ _ _ _ 64 (by omega), ul _ _ _ _ 64 (by omega), ul _ _ _ _ 64 (by omega)]
      have lo : ∀ b, b ≠ 74 → t_lg Z (X 64 13) a (X 72 0) (X 72 (3 + 10 * a + 0)) g b = Z b := fun b hb => by unfold t_lg; rw [ul _ _ _ _ b hb, ul _ _ _ _ b hb, ul _ _ _ _ b hb, ul _ _ _ _ b hb]
      have l74 : t_lg Z (X 64 13) a (X 72 0) (X 72 (3 + 10 * a + 0)) g 74 = t_lg X (X 64 13) a (X 72 0) (X 72 (3 + 10 * a + 0)) g 74 := by funext i; unfold t_lg x_up; rw [zo 74 (by omega) (by omega)]
      generalize t_lg Z (X 64 13) a (X 72 0) (X 72 (3 + 10 * a + 0)) g = V at l64 lo l74 ⊢
      refine x_aload_n B dX8_doesTry_188 rfl ?_
      refine x_dup B dX8_doesTry_189 (by first | rfl | exact x_cr _ _) ?_
      refine x_getI B (k := 13) 13 rfl rfl xc_7 (by decide) h8 (Or.inl q1348) (fun _ h => h) dX8_doesTry_190 (fun r_190 => ?_)
      rw [l64, z13] at r_190 ⊢
      refine x_iconst B dX8_doesTry_193 ?_
      refine x_iadd B dX8_doesTry_194 ?_
      refine x_putI B (k := 13) 13 rfl rfl rfl ⟨by omega, by omega⟩ xc_7 (by decide) rfl nn_7_13 (fun _ => rfl) h8 (Or.inl q1348) (fun _ h => h) dX8_doesTry_195 ?_
      refine x_aload_n B dX8_doesTry_198 rfl ?_
      refine x_dup B dX8_doesTry_199 (by first | rfl | exact x_cr _ _) ?_
      refine x_getI B (k := 14) 14 rfl rfl xc_7 (by decide) h8 (Or.inl q1349) (fun _ h => h) dX8_doesTry_200 (fun r_200 => ?_)
      rw [x_up_n _ (Or.inr (by omega)), l64, z14] at r_200 ⊢
      refine x_iload_n B dX8_doesTry_203 rfl ?_
      refine x_goP (x_rS B (c_X8_flag ⟨by omega, by omega⟩) (lw_S q1597 q1598 q122 q1599) hd_X8_flag ⟨by decide, by decide⟩ ⟨by decide, by decide⟩ rfl rfl (by simp [x_cr, x_c1, x_c2]) dX8_doesTry_204) ?_
      refine x_iadd B dX8_doesTry_207 ?_
      refine x_putI B (k := 14) 14 rfl rfl rfl ⟨by omega, by omega⟩ xc_7 (by decide) rfl nn_7_14 (fun _ => rfl) h8 (Or.inl q1349) (fun _ h => h) dX8_doesTry_208 ?_
      have v64 : ∀ i, i ≠ 13 → i ≠ 14 → x_up (x_up V 64 13 (X 64 13 + 1)) 64 14 (X 64 14 + g) 64 i = Z 64 i := fun i i1 i2 => by rw [x_up_n _ (Or.inr i2), x_up_n _ (Or.inr i1), l64]
      have v13 : x_up (x_up V 64 13 (X 64 13 + 1)) 64 14 (X 64 14 + g) 64 13 = X 64 13 + 1 := by rw [x_up_n _ (Or.inr (by omega)), x_up_s]
      have v14 : x_up (x_up V 64 13 (X 64 13 + 1)) 64 14 (X 64 14 + g) 64 14 = X 64 14 + g := x_up_s _ _ _ _
      have vo : ∀ b, b ≠ 64 → x_up (x_up V 64 13 (X 64 13 + 1)) 64 14 (X 64 14 + g) b = V b := fun b hb => by rw [x_up_o _ hb, x_up_o _ hb]
      generalize x_up (x_up V 64 13 (X 64 13 + 1)) 64 14 (X 64 14 + g) = U at v64 v13 v14 vo ⊢
      have u3 : U 64 3 = X 64 3 := by rw [v64 3 (by omega) (by omega), z3]
      have uo : ∀ b, b ≠ 72 → b ≠ 64 → b ≠ 74 → U b = X b := fun b b1 b2 b3 => by rw [vo b b2, lo b b3]; exact zo b b1 b2
      have uM : t_M U = t_M Z := t_M_e (by rw [u3, z3]) (by rw [vo 72 (by omega), lo 72 (by omega)])
      have up := t_p3_e u3 (uo 71 (by omega) (by omega) (by omega))
      have ul2 := t_lot_e u3 (uo 67 (by omega) (by omega) (by omega))
      have hKU : t_K κ U := by unfold t_K at *; rw [u3]; exact hK
      have hPU : t_P U := by unfold t_P at *; rw [u3, up]; exact hP
      have hLU : t_La U := by intro b b1 b2; rw [u3] at b2; rw [vo 72 (by omega), lo 72 (by omega)]; exact zL b b1 (by rw [z3]; exact b2)
      refine x_aload_n B dX8_doesTry_211 rfl ?_
      refine x_go (x_rV B h8 (show x_cl[7]? = some _ from rfl) (c_X8_goesOn hKU (by rw [u3, uM, zM]; exact hWt) hPU hLU (by omega)) (lw_V q1644 q1646 qs69 q122 q1647) hv_X8_goesOn ⟨by decide, by decide⟩ ⟨by decide, by decide⟩ rfl rfl (by simp [x_cr, x_c1, x_c2]) dX8_doesTry_212) (fun v_212 X_212 p_212 => ?_)
      obtain ⟨rfl, hf2, hM2, hL2⟩ := p_212
      refine x_vret B (fun _ _ h => h) ?_ dX8_doesTry_215
      have e13 : X_212 64 13 = X 64 13 + 1 := by rw [hf2 64 (by omega), v13]
      refine ⟨rfl, fun b b1 b2 b3 => (hf2 b b1).trans (uo b b1 b3 b2), fun i i1 i2 i3 => by rw [hf2 64 (by omega), v64 i i1 i2]; exact z64 i i3, ⟨e13, by rw [hf2 64 (by omega), v14], by rw [hf2 64 (by omega), v64 16 (by omega) (by omega), z16, hyv]⟩, ?_, ?_, hL2, ?_⟩
      · have e74 : X_212 74 = t_lg X (X 64 13) a (X 72 0) (X 72 (3 + 10 * a + 0)) g 74 := by rw [hf2 74 (by omega), vo 74 (by omega), l74]
        rw [t_G_lg h13.1 e13 e74]; unfold y_G; rw [hca, g1, s3]
      · rw [hM2, u3, up, ul2, uM, zM, hyM]
      · intro k hk; rw [hf2 74 (by omega), vo 74 (by omega), l74]; unfold t_lg; rw [x_up_n _ (Or.inr (by omega)), x_up_n _ (Or.inr (by omega)), x_up_n _ (Or.inr (by omega)), x_up_n _ (Or.inr (by omega))]
  refine x_aload_n B dX8_doesTry_0 rfl ?_
  refine x_getC0 B (k := 11) hT rfl rfl xc_7 (by decide) h8 (Or.inl q1346) (fun _ h => h) dX8_doesTry_1 (fun k_1 => ?_)
  refine x_iconst B dX8_doesTry_4 ?_
  refine x_iald B k_1 ⟨by omega, by omega⟩ dX8_doesTry_5 (fun r_5 => ?_)
  refine x_ist_3 B dX8_doesTry_6 (by first | rfl | exact x_cr _ _) ?_
  refine x_aload_n B dX8_doesTry_7 rfl ?_
  refine x_iload_n B dX8_doesTry_8 rfl ?_
  refine x_iconst B dX8_doesTry_9 ?_
  refine x_goP (x_rV B h8 (show x_cl[7]? = some _ from rfl) (c_X8_of hT h8 ⟨by omega, by omega⟩) (lw_V q1525 q1527 qs52 q122 q1528) hv_X8_of ⟨by decide, by decide⟩ ⟨by decide, by decide⟩ rfl rfl (by simp [x_cr, x_c1, x_c2]) dX8_doesTry_10) ?_
  refine x_istw_4 B dX8_doesTry_13 (by first | rfl | exact x_cr _ _) ?_
  refine x_aload_n B dX8_doesTry_15 rfl ?_
  refine x_aload_n B dX8_doesTry_16 rfl ?_
  refine x_iload_n B dX8_doesTry_17 rfl ?_
  refine x_iload_n B dX8_doesTry_18 rfl ?_
  refine x_aload_n B dX8_doesTry_19 rfl ?_
  refine x_getC0 B (k := 11) hT rfl rfl xc_7 (by decide) h8 (Or.inl q1346) (fun _ h => h) dX8_doesTry_20 (fun k_20 => ?_)
  refine x_iconst B dX8_doesTry_23 ?_
  refine x_iald B k_20 ⟨by omega, by omega⟩ dX8_doesTry_24 (fun r_24 => ?_)
  refine x_iload B dX8_doesTry_25 rfl ?_
  refine x_iload_n B dX8_doesTry_27 rfl ?_
  refine x_goP (x_rV B h8 (show x_cl[7]? = some _ from rfl) (c_X8_asksThen hK hP ha ⟨by omega, hlt⟩ ⟨by omega, by omega⟩ ⟨by omega, by omega⟩ hg) (lw_V q1640 q1642 qs68 q122 q1643) hv_X8_asksThen ⟨by decide, by decide⟩ ⟨by decide, by decide⟩ rfl rfl (by simp [x_cr, x_c1, x_c2]) dX8_doesTry_28) ?_
  rw [← hav]
  refine x_putI B (k := 16) 16 rfl rfl rfl ⟨by omega, by omega⟩ xc_7 (by decide) rfl nn_7_16 (fun _ => rfl) h8 (Or.inl q1351) (fun _ h => h) dX8_doesTry_31 ?_
  refine x_aload_n B dX8_doesTry_34 rfl ?_
  refine x_getC0 B (k := 11) hT rfl rfl xc_7 (by decide) h8 (Or.inl q1346) (fun _ h => h) dX8_doesTry_35 (fun k_35 => ?_)
  refine x_iconst B dX8_doesTry_38 ?_
  refine x_aload_n B dX8_doesTry_39 rfl ?_
  refine x_getC0 B (k := 11) hT rfl rfl xc_7 (by decide) h8 (Or.inl q1346) (fun _ h => h) dX8_doesTry_40 (fun k_40 => ?_)
  refine x_iconst B dX8_doesTry_43 ?_
  refine x_iald B k_40 ⟨by omega, by omega⟩ dX8_doesTry_44 (fun r_44 => ?_)
  rw [x_up_o _ (by omega)] at r_44 ⊢
  refine x_iload B dX8_doesTry_45 rfl ?_
  refine x_max B ⟨by omega, by omega⟩ ⟨by omega, by omega⟩ q1584 q666 q130 q667 (by decide) (by simp [x_cr, x_c1, x_c2]) ⟨by decide, by decide⟩ dX8_doesTry_47 ?_
  refine x_iast B k_35 ⟨by omega, by omega⟩ ⟨by omega, by omega⟩ dX8_doesTry_50 ?_
  refine x_aload_n B dX8_doesTry_51 rfl ?_
  refine x_iload_n B dX8_doesTry_52 rfl ?_
  refine x_iconst B dX8_doesTry_53 ?_
  refine x_iconst B dX8_doesTry_54 ?_
  refine x_goV (x_rV B h8 (show x_cl[7]? = some _ from rfl) (c_X8_sets hT h8 ⟨by omega, by omega⟩ ⟨by omega, by omega⟩) (lw_V q1533 q1535 qs54 q122 q1536) hv_X8_sets ⟨by decide, by decide⟩ ⟨by decide, by decide⟩ rfl rfl (by simp [x_cr, x_c1, x_c2]) dX8_doesTry_55) ?_
  refine x_aload_n B dX8_doesTry_58 rfl ?_
  refine x_iload_n B dX8_doesTry_59 rfl ?_
  refine x_iconst B dX8_doesTry_60 ?_
  refine x_iload B dX8_doesTry_61 rfl ?_
  refine x_goV (x_rV B h8 (show x_cl[7]? = some _ from rfl) (c_X8_sets hT h8 ⟨by omega, by omega⟩ ⟨by omega, by omega⟩) (lw_V q1533 q1535 qs54 q122 q1536) hv_X8_sets ⟨by decide, by decide⟩ ⟨by decide, by decide⟩ rfl rfl (by simp [x_cr, x_c1, x_c2]) dX8_doesTry_63) ?_
  refine x_aload_n B dX8_doesTry_66 rfl ?_
  refine x_iload_n B dX8_doesTry_67 rfl ?_
  refine x_iconst B dX8_doesTry_68 ?_
  refine x_iload_n B dX8_doesTry_69 rfl ?_
  refine x_goP (x_rS B (c_X8_flag hg) (lw_S q1597 q1598 q122 q1599) hd_X8_flag ⟨by decide, by decide⟩ ⟨by decide, by decide⟩ rfl rfl (by simp [x_cr, x_c1, x_c2]) dX8_doesTry_70) ?_
  refine x_goV (x_rV B h8 (show x_cl[7]? = some _ from rfl) (c_X8_sets hT h8 ⟨by omega, by omega⟩ ⟨by omega, by omega⟩) (lw_V q1533 q1535 qs54 q122 q1536) hv_X8_sets ⟨by decide, by decide⟩ ⟨by decide, by decide⟩ rfl rfl (by simp [x_cr, x_c1, x_c2]) dX8_doesTry_73) ?_
  refine x_aload_n B dX8_doesTry_76 rfl ?_
  refine x_iload_n B dX8_doesTry_77 rfl ?_
  refine x_iconst B dX8_doesTry_78 ?_
  refine x_aload_n B dX8_doesTry_79 rfl ?_
  refine x_getI B (k := 16) 16 rfl rfl xc_7 (by decide) h8 (Or.inl q1351) (fun _ h => h) dX8_doesTry_80 (fun r_80 => ?_)
  have e80 : (x_up (x_up (x_up (x_up (x_up X 64 16 av) 72 2 (max (X 72 2) (X 72 (3 + 10 * a + 0)))) 72 (3 + 10 * a + 1) 1) 72 (3 + 10 * a + 2) (X 72 (3 + 10 * a + 0))) 72 (3 + 10 * a + 3) g) 64 16 = av := by rw [x_up_o _ (by omega), x_up_o _ (by omega), x_up_o _ (by omega), x_up_o _ (by omega), x_up_s]
  rw [e80] at r_80 ⊢
  refine x_goV (x_rV B h8 (show x_cl[7]? = some _ from rfl) (c_X8_sets hT h8 ⟨by omega, by omega⟩ ⟨by omega, by omega⟩) (lw_V q1533 q1535 qs54 q122 q1536) hv_X8_sets ⟨by decide, by decide⟩ ⟨by decide, by decide⟩ rfl rfl (by simp [x_cr, x_c1, x_c2]) dX8_doesTry_83) ?_
  have zo : ∀ b, b ≠ 72 → b ≠ 64 → (x_up (x_up (x_up (x_up (x_up (x_up X 64 16 av) 72 2 (max (X 72 2) (X 72 (3 + 10 * a + 0)))) 72 (3 + 10 * a + 1) 1) 72 (3 + 10 * a + 2) (X 72 (3 + 10 * a + 0))) 72 (3 + 10 * a + 3) g) 72 (3 + 10 * a + 0) av) b = X b := fun b b1 b2 => by rw [x_up_o _ b1, x_up_o _ b1, x_up_o _ b1, x_up_o _ b1, x_up_o _ b1, x_up_o _ b2]
  have z64 : ∀ i, i ≠ 16 → (x_up (x_up (x_up (x_up (x_up (x_up X 64 16 av) 72 2 (max (X 72 2) (X 72 (3 + 10 * a + 0)))) 72 (3 + 10 * a + 1) 1) 72 (3 + 10 * a + 2) (X 72 (3 + 10 * a + 0))) 72 (3 + 10 * a + 3) g) 72 (3 + 10 * a + 0) av) 64 i = X 64 i := fun i i1 => by rw [x_up_o _ (by omega), x_up_o _ (by omega), x_up_o _ (by omega), x_up_o _ (by omega), x_up_o _ (by omega), x_up_n _ (Or.inr i1)]
  have z16 : (x_up (x_up (x_up (x_up (x_up (x_up X 64 16 av) 72 2 (max (X 72 2) (X 72 (3 + 10 * a + 0)))) 72 (3 + 10 * a + 1) 1) 72 (3 + 10 * a + 2) (X 72 (3 + 10 * a + 0))) 72 (3 + 10 * a + 3) g) 72 (3 + 10 * a + 0) av) 64 16 = av := by rw [x_up_o _ (by omega), x_up_o _ (by omega), x_up_o _ (by omega), x_up_o _ (by omega), x_up_o _ (by omega), x_up_s]
  have zr : ∀ j, 4 ≤ j → j ≤ 9 → (x_up (x_up (x_up (x_up (x_up (x_up X 64 16 av) 72 2 (max (X 72 2) (X 72 (3 + 10 * a + 0)))) 72 (3 + 10 * a + 1) 1) 72 (3 + 10 * a + 2) (X 72 (3 + 10 * a + 0))) 72 (3 + 10 * a + 3) g) 72 (3 + 10 * a + 0) av) 72 (3 + 10 * a + j) = X 72 (3 + 10 * a + j) := fun j j1 j2 => by rw [x_up_n _ (Or.inr (by omega)), x_up_n _ (Or.inr (by omega)), x_up_n _ (Or.inr (by omega)), x_up_n _ (Or.inr (by omega)), x_up_n _ (Or.inr (by omega)), x_up_o _ (by omega)]
  have zla : (x_up (x_up (x_up (x_up (x_up (x_up X 64 16 av) 72 2 (max (X 72 2) (X 72 (3 + 10 * a + 0)))) 72 (3 + 10 * a + 1) 1) 72 (3 + 10 * a + 2) (X 72 (3 + 10 * a + 0))) 72 (3 + 10 * a + 3) g) 72 (3 + 10 * a + 0) av) 72 (3 + 10 * a + 2) = X 72 (3 + 10 * a + 0) := by rw [x_up_n _ (Or.inr (by omega)), x_up_n _ (Or.inr (by omega)), x_up_s]
  have zga : (x_up (x_up (x_up (x_up (x_up (x_up X 64 16 av) 72 2 (max (X 72 2) (X 72 (3 + 10 * a + 0)))) 72 (3 + 10 * a + 1) 1) 72 (3 + 10 * a + 2) (X 72 (3 + 10 * a + 0))) 72 (3 + 10 * a + 3) g) 72 (3 + 10 * a + 0) av) 72 (3 + 10 * a + 3) = g := by rw [x_up_n _ (Or.inr (by omega)), x_up_s]
  have zL : t_La (x_up (x_up (x_up (x_up (x_up (x_up X 64 16 av) 72 2 (max (X 72 2) (X 72 (3 + 10 * a + 0)))) 72 (3 + 10 * a + 1) 1) 72 (3 + 10 * a + 2) (X 72 (3 + 10 * a + 0))) 72 (3 + 10 * a + 3) g) 72 (3 + 10 * a + 0) av) := t_La.of hLa (z64 3 (by omega)) ha.1 zla zga (by omega) hg (fun b b1 b2 => ⟨by rw [x_up_n _ (Or.inr (by omega)), x_up_n _ (Or.inr (by omega)), x_up_n _ (Or.inr (by omega)), x_up_n _ (Or.inr (by omega)), x_up_n _ (Or.inr (by omega)), x_up_o _ (by omega)], by rw [x_up_n _ (Or.inr (by omega)), x_up_n _ (Or.inr (by omega)), x_up_n _ (Or.inr (by omega)), x_up_n _ (Or.inr (by omega)), x_up_n _ (Or.inr (by omega)), x_up_o _ (by omega)]⟩)
  have zM : t_M (x_up (x_up (x_up (x_up (x_up (x_up X 64 16 av) 72 2 (max (X 72 2) (X 72 (3 + 10 * a + 0)))) 72 (3 + 10 * a + 1) 1) 72 (3 + 10 * a + 2) (X 72 (3 + 10 * a + 0))) 72 (3 + 10 * a + 3) g) 72 (3 + 10 * a + 0) av) = x_up (x_up (x_up (x_up (t_M X) (-1) 3 (max (X 72 2) (X 72 (3 + 10 * a + 0)))) a 6 1) a 4 (X 72 (3 + 10 * a + 0) + g)) a 3 av := by
    have n3 : x_up X 64 16 av 64 3 = X 64 3 := x_up_n _ (Or.inr (by omega))
    have eg := t_M_ug (X := x_up X 64 16 av) (f := 3) (z := max (X 72 2) (X 72 (3 + 10 * a + 0))) (by omega)
    rw [show (3 : Int) - 1 = 2 by omega, t_M_e n3 (x_up_o _ (by omega))] at eg
    rw [t_M_us (f := 3) (by rw [x_up_o _ (by omega), x_up_o _ (by omega), x_up_o _ (by omega), x_up_o _ (by omega), n3]; exact ha) (by decide) (by omega), t_M_ul (by rw [x_up_o _ (by omega), x_up_o _ (by omega), n3]; exact ha), t_M_us (f := 6) (by rw [x_up_o _ (by omega), n3]; exact ha) (by decide) (by omega), eg, if_neg (by omega)]
  generalize (x_up (x_up (x_up (x_up (x_up (x_up X 64 16 av) 72 2 (max (X 72 2) (X 72 (3 + 10 * a + 0)))) 72 (3 + 10 * a + 1) 1) 72 (3 + 10 * a + 2) (X 72 (3 + 10 * a + 0))) 72 (3 + 10 * a + 3) g) 72 (3 + 10 * a + 0) av) = Z at zo z64 z16 zr zla zga zL zM ⊢
  refine x_iload_n B dX8_doesTry_86 rfl ?_
  refine x_if_eq B (tgt := 116) dX8_doesTry_87 (by decide) ⟨by omega, by omega⟩ (fun h_87 => ?_) (fun h_87 => ?_)
  · refine x_aload_n B dX8_doesTry_116 rfl ?_
    refine x_iload_n B dX8_doesTry_117 rfl ?_
    refine x_iconst B dX8_doesTry_118 ?_
    refine x_aload_n B dX8_doesTry_119 rfl ?_
    refine x_iload_n B dX8_doesTry_120 rfl ?_
    refine x_iconst B dX8_doesTry_121 ?_
    refine x_goP (x_rV B h8 (show x_cl[7]? = some _ from rfl) (c_X8_of hT h8 ⟨by omega, by omega⟩) (lw_V q1525 q1527 qs52 q122 q1528) hv_X8_of ⟨by decide, by decide⟩ ⟨by decide, by decide⟩ rfl rfl (by simp [x_cr, x_c1, x_c2]) dX8_doesTry_122) ?_
    rw [zr 4 (by omega) (by omega)]
    refine x_iconst B dX8_doesTry_125 ?_
    refine x_iadd B dX8_doesTry_126 ?_
    refine x_goV (x_rV B h8 (show x_cl[7]? = some _ from rfl) (c_X8_sets hT h8 ⟨by omega, by omega⟩ ⟨by omega, by omega⟩) (lw_V q1533 q1535 qs54 q122 q1536) hv_X8_sets ⟨by decide, by decide⟩ ⟨by decide, by decide⟩ rfl rfl (by simp [x_cr, x_c1, x_c2]) dX8_doesTry_127) ?_
    first
    | (refine lp_130 _ _ ⟨fun b b1 b2 => by rw [x_up_o _ b1]; exact zo b b1 b2, fun i i1 => by rw [x_up_o _ (by omega)]; exact z64 i i1, by rw [x_up_o _ (by omega)]; exact z16, ?_, ?_⟩ (Nat.lt_succ_self _); rw [t_M_us (f := 10 + X 72 0) (by rw [z64 3 (by omega)]; exact ha) hti (by omega), zM, rb]; unfold m_tr; rw [g1, g2, g3, s2, s3, show g = 1 by omega]; funext b f; simp only [x_up]; grind; exact t_La.of zL (by rw [x_up_o _ (by omega)]) ha.1 (x_up_n _ (Or.inr (by omega))) (x_up_n _ (Or.inr (by omega))) (by rw [zla]; omega) (by rw [zga]; omega) (fun b b1 b2 => ⟨x_up_n _ (Or.inr (by omega)), x_up_n _ (Or.inr (by omega))⟩))
    | (refine lp_130 _ _ ⟨fun b b1 b2 => by rw [x_up_o _ b1]; exact zo b b1 b2, fun i i1 => by rw [x_up_o _ (by omega)]; exact z64 i i1, by rw [x_up_o _ (by omega)]; exact z16, ?_, ?_⟩ (Nat.lt_succ_self _); rw [t_M_us (f := 2) (by rw [z64 3 (by omega)]; exact ha) (by decide) (by omega), zM]; unfold m_tr; rw [g1, g2, g3, s2, s3, show g = 0 by omega]; funext b f; simp only [x_up]; grind; exact t_La.of zL (by rw [x_up_o _ (by omega)]) ha.1 (x_up_n _ (Or.inr (by omega))) (x_up_n _ (Or.inr (by omega))) (by rw [zla]; omega) (by rw [zga]; omega) (fun b b1 b2 => ⟨x_up_n _ (Or.inr (by omega)), x_up_n _ (Or.inr (by omega))⟩))
  · refine x_aload_n B dX8_doesTry_90 rfl ?_
    refine x_iload_n B dX8_doesTry_91 rfl ?_
    refine x_bipush B dX8_doesTry_92 (by decide) ?_
    refine x_iload_n B dX8_doesTry_94 rfl ?_
    refine x_iadd B dX8_doesTry_95 ?_
    refine x_iload B dX8_doesTry_96 rfl ?_
    refine x_aload_n B dX8_doesTry_98 rfl ?_
    refine x_iload_n B dX8_doesTry_99 rfl ?_
    refine x_bipush B dX8_doesTry_100 (by decide) ?_
    refine x_iload_n B dX8_doesTry_102 rfl ?_
    refine x_iadd B dX8_doesTry_103 ?_
    refine x_goP (x_rV B h8 (show x_cl[7]? = some _ from rfl) (c_X8_of hT h8 ⟨by omega, by omega⟩) (lw_V q1525 q1527 qs52 q122 q1528) hv_X8_of ⟨by decide, by decide⟩ ⟨by decide, by decide⟩ rfl rfl (by simp [x_cr, x_c1, x_c2]) dX8_doesTry_104) ?_
    have rb : max (X 72 (3 + 10 * a + 0)) (X 72 (3 + 10 * a + (7 + X 72 0))) = X 72 (3 + 10 * a + 0) := by omega
    rw [zr (7 + X 72 0) (by omega) (by omega)]
    refine x_max B ⟨by omega, by omega⟩ ⟨by omega, by omega⟩ q1584 q666 q130 q667 (by decide) (by simp [x_cr, x_c1, x_c2]) ⟨by decide, by decide⟩ dX8_doesTry_107 ?_
    refine x_goV (x_rV B h8 (show x_cl[7]? = some _ from rfl) (c_X8_sets hT h8 ⟨by omega, by omega⟩ ⟨by omega, by omega⟩) (lw_V q1533 q1535 qs54 q122 q1536) hv_X8_sets ⟨by decide, by decide⟩ ⟨by decide, by decide⟩ rfl rfl (by simp [x_cr, x_c1, x_c2]) dX8_doesTry_110) ?_
    refine x_goto B (tgt := 130) dX8_doesTry_113 (by decide) ?_
    first
    | (refine lp_130 _ _ ⟨fun b b1 b2 => by rw [x_up_o _ b1]; exact zo b b1 b2, fun i i1 => by rw [x_up_o _ (by omega)]; exact z64 i i1, by rw [x_up_o _ (by omega)]; exact z16, ?_, ?_⟩ (Nat.lt_succ_self _); rw [t_M_us (f := 10 + X 72 0) (by rw [z64 3 (by omega)]; exact ha) hti (by omega), zM, rb]; unfold m_tr; rw [g1, g2, g3, s2, s3, show g = 1 by omega]; funext b f; simp only [x_up]; grind; exact t_La.of zL (by rw [x_up_o _ (by omega)]) ha.1 (x_up_n _ (Or.inr (by omega))) (x_up_n _ (Or.inr (by omega))) (by rw [zla]; omega) (by rw [zga]; omega) (fun b b1 b2 => ⟨x_up_n _ (Or.inr (by omega)), x_up_n _ (Or.inr (by omega))⟩))
    | (refine lp_130 _ _ ⟨fun b b1 b2 => by rw [x_up_o _ b1]; exact zo b b1 b2, fun i i1 => by rw [x_up_o _ (by omega)]; exact z64 i i1, by rw [x_up_o _ (by omega)]; exact z16, ?_, ?_⟩ (Nat.lt_succ_self _); rw [t_M_us (f := 2) (by rw [z64 3 (by omega)]; exact ha) (by decide) (by omega), zM]; unfold m_tr; rw [g1, g2, g3, s2, s3, show g = 0 by omega]; funext b f; simp only [x_up]; grind; exact t_La.of zL (by rw [x_up_o _ (by omega)]) ha.1 (x_up_n _ (Or.inr (by omega))) (x_up_n _ (Or.inr (by omega))) (by rw [zla]; omega) (by rw [zga]; omega) (fun b b1 b2 => ⟨x_up_n _ (Or.inr (by omega)), x_up_n _ (Or.inr (by omega))⟩))
