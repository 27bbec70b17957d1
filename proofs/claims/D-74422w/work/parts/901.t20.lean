/-! ===== the twin reads a text ===== -/
theorem r_run_e {T : Int → Int} {n d p v : Int} (hd : 0 ≤ d ∧ d ≤ 4) (h : d = 4 ∨ ¬ ((d = 0 ∨ v > 0) ∧ r_dg T n p)) : r_run T n (4 - d).toNat p v = (p, v) := by
  by_cases q : d = 4
  · rw [show (4 - d).toNat = 0 by omega]; rfl
  · rw [show (4 - d).toNat = (3 - d).toNat + 1 by omega]
    unfold r_run
    rw [if_neg]
    intro z
    rcases h with h | h
    · exact q h
    · exact h ⟨by omega, z.2⟩
theorem r_run_s {T : Int → Int} {n d p v : Int} (hd : 0 ≤ d ∧ d < 4) (h : d = 0 ∨ v > 0) (hg : r_dg T n p) : r_run T n (4 - d).toNat p v = r_run T n (4 - (d + 1)).toNat (p + 1) (10 * v + T p - 48) := by
  rw [show (4 - d).toNat = (4 - (d + 1)).toNat + 1 by omega]
  conv => lhs; unfold r_run
  rw [if_pos ⟨by omega, hg⟩]
def q8 (κ : x_Ka) (X : x_X) (T : Int → Int) (n p : Int) : Prop := (x_T κ ∧ κ 64 = some (.inl (7, 1))) ∧ X 75 = T ∧ X 64 20 = n ∧ X 64 19 = p ∧ (0 ≤ p ∧ p ≤ n) ∧ n ≤ 240
/-- fields 19 and 21 alone have moved -/
def k8 (X Y : x_X) : Prop := (∀ b, b ≠ 64 → Y b = X b) ∧ ∀ i, i ≠ 19 → i ≠ 21 → Y 64 i = X 64 i
theorem k8.rf (X : x_X) : k8 X X := ⟨fun _ _ => rfl, fun _ _ _ => rfl⟩
theorem k8.trans {X Y Z : x_X} (h : k8 X Y) (h2 : k8 Y Z) : k8 X Z := ⟨fun b b1 => (h2.1 b b1).trans (h.1 b b1), fun i i1 i2 => (h2.2 i i1 i2).trans (h.2 i i1 i2)⟩
theorem k8.up {X Y : x_X} (h : k8 X Y) {i z : Int} (hi : i = 19 ∨ i = 21) : k8 X (x_up Y 64 i z) := ⟨fun b b1 => by rw [x_up_o _ b1]; exact h.1 b b1, fun j j1 j2 => by rw [x_up_n _ (Or.inr (by omega))]; exact h.2 j j1 j2⟩
theorem q8.k {κ : x_Ka} {X Y : x_X} {T : Int → Int} {n p q : Int} (h : q8 κ X T n p) (hk : k8 X Y) (hq : Y 64 19 = q) (hr : 0 ≤ q ∧ q ≤ n) : q8 κ Y T n q := ⟨h.1, (hk.1 75 (by omega)).trans h.2.1, (hk.2 20 (by omega) (by omega)).trans h.2.2.1, hq, hr, h.2.2.2.2.2⟩
theorem c_X8_takes {l : Launch} {E : x_E} {κ : x_Ka} {X : x_X} {T : Int → Int} {z0 w0 : Int} {c_ : Int} (h : q8 κ X T z0 w0) (hc : xR c_) : x_Met l yX8_takes cX8_takes 2 (some .boolean) 0 0 0 E κ X [x_rf E 64, vi c_] κ (fun v_ Y_ => ∃ s_ : Int, v_ = some (vi s_) ∧ ((s_ = 1 ∧ (w0 < z0 ∧ T w0 = c_) ∧ Y_ = x_up X 64 19 (w0 + 1)) ∨ (s_ = 0 ∧ ¬ (w0 < z0 ∧ T w0 = c_) ∧ Y_ = X))) := by
  refine x_Met.of [(false, x_rf E 64), (false, vi c_)] [some (x_rf E 64), some (vi c_)] 0 (by decide) rfl rfl ⟨x_cr E (64), rfl, trivial⟩ rfl rfl ?_
  intro p e s m args below meth c hargs hin B
  obtain ⟨⟨hT, h8⟩, e75, e20, e19, hp, hn⟩ := id h
  refine x_aload_n B dX8_takes_0 rfl ?_
  refine x_getI B (k := 19) 19 rfl rfl xc_7 (by decide) h8 (Or.inl q1354) (fun _ h => h) dX8_takes_1 (fun r_1 => ?_)
  rw [e19] at r_1 ⊢
  refine x_aload_n B dX8_takes_4 rfl ?_
  refine x_getI B (k := 20) 20 rfl rfl xc_7 (by decide) h8 (Or.inl q1355) (fun _ h => h) dX8_takes_5 (fun r_5 => ?_)
  rw [e20] at r_5 ⊢
  refine x_icmp_ge B (tgt := 24) dX8_takes_8 (by decide) ⟨by omega, by omega⟩ ⟨by omega, by omega⟩ (fun h_8 => ?_) (fun h_8 => ?_)
  · refine x_iconst B dX8_takes_24 ?_
    refine x_zret B (fun _ _ h => h) ⟨by omega, by omega⟩ ?_ dX8_takes_25
    exact ⟨0, rfl, Or.inr ⟨rfl, by omega, rfl⟩⟩
  · refine x_aload_n B dX8_takes_11 rfl ?_
    refine x_getC0 B (k := 17) hT rfl rfl xc_7 (by decide) h8 (Or.inl q1352) (fun _ h => h) dX8_takes_12 (fun k_12 => ?_)
    refine x_aload_n B dX8_takes_15 rfl ?_
    refine x_getI B (k := 19) 19 rfl rfl xc_7 (by decide) h8 (Or.inl q1354) (fun _ h => h) dX8_takes_16 (fun r_16 => ?_)
    rw [e19] at r_16 ⊢
    refine x_iald B k_12 ⟨by omega, by omega⟩ dX8_takes_19 (fun r_19 => ?_)
    rw [e75] at r_19 ⊢
    refine x_iload_n B dX8_takes_20 rfl ?_
    refine x_icmp_eq B (tgt := 26) dX8_takes_21 (by decide) ⟨by omega, by omega⟩ ⟨by omega, by omega⟩ (fun h_21 => ?_) (fun h_21 => ?_)
    · refine x_aload_n B dX8_takes_26 rfl ?_
      refine x_dup B dX8_takes_27 (by first | rfl | exact x_cr _ _) ?_
      refine x_getI B (k := 19) 19 rfl rfl xc_7 (by decide) h8 (Or.inl q1354) (fun _ h => h) dX8_takes_28 (fun r_28 => ?_)
      rw [e19] at r_28 ⊢
      refine x_iconst B dX8_takes_31 ?_
      refine x_iadd B dX8_takes_32 ?_
      refine x_putI B (k := 19) 19 rfl rfl rfl ⟨by omega, by omega⟩ xc_7 (by decide) rfl nn_7_19 (fun _ => rfl) h8 (Or.inl q1354) (fun _ h => h) dX8_takes_33 ?_
      refine x_iconst B dX8_takes_36 ?_
      refine x_zret B (fun _ _ h => h) ⟨by omega, by omega⟩ ?_ dX8_takes_37
      exact ⟨1, rfl, Or.inl ⟨rfl, by omega, rfl⟩⟩
    · refine x_iconst B dX8_takes_24 ?_
      refine x_zret B (fun _ _ h => h) ⟨by omega, by omega⟩ ?_ dX8_takes_25
      exact ⟨0, rfl, Or.inr ⟨rfl, by omega, rfl⟩⟩
theorem c_X8_isDigit {l : Launch} {E : x_E} {κ : x_Ka} {X : x_X} {T : Int → Int} {z0 w0 : Int} (h : q8 κ X T z0 w0) : x_Pu l yX8_isDigit cX8_isDigit 1 (some .boolean) 1 E κ X [x_rf E 64] (vi (if r_dg T z0 w0 then 1 else 0)) := by
  refine x_Met.of [(false, x_rf E 64)] [some (x_rf E 64)] 0 (by decide) rfl rfl ⟨x_cr E (64), trivial⟩ rfl rfl ?_
  intro p e s m args below meth c hargs hin B
  obtain ⟨⟨hT, h8⟩, e75, e20, e19, hp, hn⟩ := id h
  have z1 := x_in_01 (T w0) 48 57
  refine x_aload_n B dX8_isDigit_0 rfl ?_
  refine x_getI B (k := 19) 19 rfl rfl xc_7 (by decide) h8 (Or.inl q1354) (fun _ h => h) dX8_isDigit_1 (fun r_1 => ?_)
  rw [e19] at r_1 ⊢
  refine x_aload_n B dX8_isDigit_4 rfl ?_
  refine x_getI B (k := 20) 20 rfl rfl xc_7 (by decide) h8 (Or.inl q1355) (fun _ h => h) dX8_isDigit_5 (fun r_5 => ?_)
  rw [e20] at r_5 ⊢
  refine x_icmp_ge B (tgt := 37) dX8_isDigit_8 (by decide) ⟨by omega, by omega⟩ ⟨by omega, by omega⟩ (fun h_8 => ?_) (fun h_8 => ?_)
  · refine x_iconst B dX8_isDigit_37 ?_
    refine x_zret B (fun _ _ h => h) ⟨by omega, by omega⟩ ?_ dX8_isDigit_38
    exact ⟨congrArg (fun z => some (vi z)) (by unfold r_dg; first | (rw [if_pos (by refine ⟨by omega, ?_⟩; unfold x_in at h_30; split at h_30 <;> omega)]; done) | (rw [if_neg (by omega)]; done) | (rw [if_neg (by intro q; unfold x_in at h_30; rw [if_pos q.2] at h_30; omega)]; done)), rfl⟩
  · refine x_aload_n B dX8_isDigit_11 rfl ?_
    refine x_getC0 B (k := 17) hT rfl rfl xc_7 (by decide) h8 (Or.inl q1352) (fun _ h => h) dX8_isDigit_12 (fun k_12 => ?_)
    refine x_aload_n B dX8_isDigit_15 rfl ?_
    refine x_getI B (k := 19) 19 rfl rfl xc_7 (by decide) h8 (Or.inl q1354) (fun _ h => h) dX8_isDigit_16 (fun r_16 => ?_)
    rw [e19] at r_16 ⊢
    refine x_iald B k_12 ⟨by omega, by omega⟩ dX8_isDigit_19 (fun r_19 => ?_)
    rw [e75] at r_19 ⊢
    refine x_i2l B dX8_isDigit_20 ⟨by omega, by omega⟩ ?_
    refine x_ldc2 B (48) q1491 (by decide) dX8_isDigit_21 ?_
    refine x_ldc2 B (57) q1492 (by decide) dX8_isDigit_24 ?_
    refine x_goP (x_rS B (c_X8_in ⟨by omega, by omega⟩ ⟨by omega, by omega⟩ ⟨by omega, by omega⟩) (lw_S q1468 q1469 q122 q1470) hd_X8_in ⟨by decide, by decide⟩ ⟨by decide, by decide⟩ rfl rfl (by simp [x_cr, x_c1, x_c2]) dX8_isDigit_27) ?_
    refine x_if_eq B (tgt := 37) dX8_isDigit_30 (by decide) ⟨by omega, by omega⟩ (fun h_30 => ?_) (fun h_30 => ?_)
    · refine x_iconst B dX8_isDigit_37 ?_
      refine x_zret B (fun _ _ h => h) ⟨by omega, by omega⟩ ?_ dX8_isDigit_38
      exact ⟨congrArg (fun z => some (vi z)) (by unfold r_dg; first | (rw [if_pos (by refine ⟨by omega, ?_⟩; unfold x_in at h_30; split at h_30 <;> omega)]; done) | (rw [if_neg (by omega)]; done) | (rw [if_neg (by intro q; unfold x_in at h_30; rw [if_pos q.2] at h_30; omega)]; done)), rfl⟩
    · refine x_iconst B dX8_isDigit_33 ?_
      refine x_goto B (tgt := 38) dX8_isDigit_34 (by decide) ?_
      refine x_zret B (fun _ _ h => h) ⟨by omega, by omega⟩ ?_ dX8_isDigit_38
      exact ⟨congrArg (fun z => some (vi z)) (by unfold r_dg; first | (rw [if_pos (by refine ⟨by omega, ?_⟩; unfold x_in at h_30; split at h_30 <;> omega)]; done) | (rw [if_neg (by omega)]; done) | (rw [if_neg (by intro q; unfold x_in at h_30; rw [if_pos q.2] at h_30; omega)]; done)), rfl⟩
theorem c_X8_readsNumber {l : Launch} {E : x_E} {κ : x_Ka} {X : x_X} {T : Int → Int} {z0 w0 : Int} {lo hi_ : Int} (h : q8 κ X T z0 w0) (hl : xR lo) (hh : xR hi_) : x_Met l yX8_readsNumber cX8_readsNumber 4 (some .boolean) 2 0 0 E κ X [x_rf E 64, vi lo, vi hi_] κ (fun v_ Y_ => v_ = some (vi (r_num T z0 lo hi_ w0).1) ∧ k8 X Y_ ∧ Y_ 64 19 = (r_num T z0 lo hi_ w0).2.1 ∧ ((r_num T z0 lo hi_ w0).1 = 1 → Y_ 64 21 = (r_num T z0 lo hi_ w0).2.2)) := by
  refine x_Met.of [(false, x_rf E 64), (false, vi lo), (false, vi hi_)] [some (x_rf E 64), some (vi lo), some (vi hi_), none] 1 (by decide) rfl rfl ⟨x_cr E (64), rfl, rfl, trivial⟩ rfl rfl ?_
  intro p e s m args below meth c hargs hin B
  obtain ⟨⟨hT, h8⟩, e75, e20, e19, hp, hn⟩ := id h
  have lp_16 : ∀ (n : Nat) (d p2 v : Int) (Y : x_X), (r_dg T z0 w0 ∧ (0 ≤ d ∧ d ≤ 4) ∧ (w0 ≤ p2 ∧ p2 ≤ z0) ∧ (0 ≤ v ∧ (d = 0 → v ≤ 0) ∧ (d = 1 → v ≤ 9) ∧ (d = 2 → v ≤ 99) ∧ (d = 3 → v ≤ 999) ∧ v ≤ 9999 ∧ (d ≥ 1 → w0 < p2) ∧ (d = 0 → p2 = w0)) ∧ (k8 X Y ∧ Y 64 19 = p2 ∧ Y 64 21 = v) ∧ r_run T z0 4 w0 0 = r_run T z0 (4 - d).toNat p2 v) → ((5 - d).toNat < n) → x_G p l e (x_rm 2 0 0) s m args below meth c 4 E 0 0 (MQ below (x_Q E κ (fun v_ Y_ => v_ = some (vi (r_num T z0 lo hi_ w0).1) ∧ k8 X Y_ ∧ Y_ 64 19 = (r_num T z0 lo hi_ w0).2.1 ∧ ((r_num T z0 lo hi_ w0).1 = 1 → Y_ 64 21 = (r_num T z0 lo hi_ w0).2.2))) args s 0 0 (fun q => E.1 ≤ q)) κ 16 [some (x_rf E 64), some (vi lo), some (vi hi_), some (vi d)] [] Y := by
    intro n
    induction n with
    | zero => intro d p2 v Y hinv hme; exfalso; omega
    | succ n ih =>
      intro d p2 v Y hinv hme
      obtain ⟨hg0, hd, hp2, hv, ⟨hk, y19, y21⟩, he⟩ := hinv
      have hY := h.k hk y19 ⟨by omega, by omega⟩
      have y75 := hY.2.1
      have z1 := x_in_01 v lo hi_
      refine x_aload_n B dX8_readsNumber_16 rfl ?_
      refine x_goP (x_rV B h8 (show x_cl[7]? = some _ from rfl) (c_X8_isDigit hY) (lw_V q1487 q1489 qs43 q122 q1490) hv_X8_isDigit ⟨by decide, by decide⟩ ⟨by decide, by decide⟩ rfl rfl (by simp [x_cr, x_c1, x_c2]) dX8_readsNumber_17) ?_
      refine x_if_eq B (tgt := 79) dX8_readsNumber_20 (by decide) ⟨by split <;> omega, by split <;> omega⟩ (fun h_20 => ?_) (fun h_20 => ?_)
      · have hrr : r_run T z0 4 w0 0 = (p2, v) := by
          rw [he]; refine r_run_e hd ?_
          first | exact Or.inl (by omega) | exact Or.inr (fun q => by omega) | exact Or.inr (fun q => by rw [if_pos q.2] at h_20; omega)
        have h2 : p2 ≥ w0 + 1 := by
          by_cases q : d = 0
          · exfalso; have q2 := hv.2.2.2.2.2.2.2 q; first | (rw [q2, if_pos hg0] at h_20; omega) | omega
          · have := hv.2.2.2.2.2.2.1 (by omega); omega
        refine x_aload_n B dX8_readsNumber_79 rfl ?_
        refine x_getI B (k := 21) 21 rfl rfl xc_7 (by decide) h8 (Or.inl q1356) (fun _ h => h) dX8_readsNumber_80 (fun r_80 => ?_)
        rw [y21] at r_80 ⊢
        refine x_i2l B dX8_readsNumber_83 ⟨by omega, by omega⟩ ?_
        refine x_iload_n B dX8_readsNumber_84 rfl ?_
        refine x_i2l B dX8_readsNumber_85 ⟨by omega, by omega⟩ ?_
        refine x_iload_n B dX8_readsNumber_86 rfl ?_
        refine x_i2l B dX8_readsNumber_87 ⟨by omega, by omega⟩ ?_
        refine x_goP (x_rS B (c_X8_in ⟨by omega, by omega⟩ hl hh) (lw_S q1468 q1469 q122 q1470) hd_X8_in ⟨by decide, by decide⟩ ⟨by decide, by decide⟩ rfl rfl (by simp [x_cr, x_c1, x_c2]) dX8_readsNumber_88) ?_
        refine x_if_ne B (tgt := 106) dX8_readsNumber_91 (by decide) ⟨by omega, by omega⟩ (fun h_91 => ?_) (fun h_91 => ?_)
        · refine x_iconst B dX8_readsNumber_106 ?_
          refine x_zret B (fun _ _ h => h) ⟨by omega, by omega⟩ ?_ dX8_readsNumber_107
          have er : r_num T z0 lo hi_ w0 = (1, p2, v) := by
            unfold r_num; rw [if_pos hg0, hrr]; exact if_pos (by unfold x_in at h_91; split at h_91; assumption; omega)
          rw [er]
          exact ⟨rfl, hk, y19, fun _ => y21⟩
        · refine x_aload_n B dX8_readsNumber_94 rfl ?_
          refine x_dup B dX8_readsNumber_95 (by first | rfl | exact x_cr _ _) ?_
          refine x_getI B (k := 19) 19 rfl rfl xc_7 (by decide) h8 (Or.inl q1354) (fun _ h => h) dX8_readsNumber_96 (fun r_96 => ?_)
          rw [y19] at r_96 ⊢
          refine x_iconst B dX8_readsNumber_99 ?_
          refine x_isub B dX8_readsNumber_100 ?_
          refine x_putI B (k := 19) 19 rfl rfl rfl ⟨by omega, by omega⟩ xc_7 (by decide) rfl nn_7_19 (fun _ => rfl) h8 (Or.inl q1354) (fun _ h => h) dX8_readsNumber_101 ?_
          refine x_iconst B dX8_readsNumber_104 ?_
          refine x_zret B (fun _ _ h => h) ⟨by omega, by omega⟩ ?_ dX8_readsNumber_105
          have er : r_num T z0 lo hi_ w0 = (0, p2 - 1, 0) := by
            unfold r_num; rw [if_pos hg0, hrr]; exact if_neg (fun q => by unfold x_in at h_91; rw [if_pos q] at h_91; omega)
          rw [er]
          exact ⟨rfl, hk.up (Or.inl rfl), x_up_s _ _ _ _, fun q => by dsimp only at q; omega⟩
      · refine x_iload_n B dX8_readsNumber_23 rfl ?_
        refine x_iconst B dX8_readsNumber_24 ?_
        refine x_icmp_ge B (tgt := 79) dX8_readsNumber_25 (by decide) ⟨by omega, by omega⟩ ⟨by omega, by omega⟩ (fun h_25 => ?_) (fun h_25 => ?_)
        · have hrr : r_run T z0 4 w0 0 = (p2, v) := by
            rw [he]; refine r_run_e hd ?_
            first | exact Or.inl (by omega) | exact Or.inr (fun q => by omega) | exact Or.inr (fun q => by rw [if_pos q.2] at h_20; omega)
          have h2 : p2 ≥ w0 + 1 := by
            by_cases q : d = 0
            · exfalso; have q2 := hv.2.2.2.2.2.2.2 q; first | (rw [q2, if_pos hg0] at h_20; omega) | omega
            · have := hv.2.2.2.2.2.2.1 (by omega); omega
          refine x_aload_n B dX8_readsNumber_79 rfl ?_
          refine x_getI B (k := 21) 21 rfl rfl xc_7 (by decide) h8 (Or.inl q1356) (fun _ h => h) dX8_readsNumber_80 (fun r_80 => ?_)
          rw [y21] at r_80 ⊢
          refine x_i2l B dX8_readsNumber_83 ⟨by omega, by omega⟩ ?_
          refine x_iload_n B dX8_readsNumber_84 rfl ?_
          refine x_i2l B dX8_readsNumber_85 ⟨by omega, by omega⟩ ?_
          refine x_iload_n B dX8_readsNumber_86 rfl ?_
          refine x_i2l B dX8_readsNumber_87 ⟨by omega, by omega⟩ ?_
          refine x_goP (x_rS B (c_X8_in ⟨by omega, by omega⟩ hl hh) (lw_S q1468 q1469 q122 q1470) hd_X8_in ⟨by decide, by decide⟩ ⟨by decide, by decide⟩ rfl rfl (by simp [x_cr, x_c1, x_c2]) dX8_readsNumber_88) ?_
          refine x_if_ne B (tgt := 106) dX8_readsNumber_91 (by decide) ⟨by omega, by omega⟩ (fun h_91 => ?_) (fun h_91 => ?_)
          · refine x_iconst B dX8_readsNumber_106 ?_
            refine x_zret B (fun _ _ h => h) ⟨by omega, by omega⟩ ?_ dX8_readsNumber_107
            have er : r_num T z0 lo hi_ w0 = (1, p2, v) := by
              unfold r_num; rw [if_pos hg0, hrr]; exact if_pos (by unfold x_in at h_91; split at h_91; assumption; omega)
            rw [er]
            exact ⟨rfl, hk, y19, fun _ => y21⟩
          · refine x_aload_n B dX8_readsNumber_94 rfl ?_
            refine x_dup B dX8_readsNumber_95 (by first | rfl | exact x_cr _ _) ?_
            refine x_getI B (k := 19) 19 rfl rfl xc_7 (by decide) h8 (Or.inl q1354) (fun _ h => h) dX8_readsNumber_96 (fun r_96 => ?_)
            rw [y19] at r_96 ⊢
            refine x_iconst B dX8_readsNumber_99 ?_
            refine x_isub B dX8_readsNumber_100 ?_
            refine x_putI B (k := 19) 19 rfl rfl rfl ⟨by omega, by omega⟩ xc_7 (by decide) rfl nn_7_19 (fun _ => rfl) h8 (Or.inl q1354) (fun _ h => h) dX8_readsNumber_101 ?_
            refine x_iconst B dX8_readsNumber_104 ?_
            refine x_zret B (fun _ _ h => h) ⟨by omega, by omega⟩ ?_ dX8_readsNumber_105
            have er : r_num T z0 lo hi_ w0 = (0, p2 - 1, 0) := by
              unfold r_num; rw [if_pos hg0, hrr]; exact if_neg (fun q => by unfold x_in at h_91; rw [if_pos q] at h_91; omega)
            rw [er]
            exact ⟨rfl, hk.up (Or.inl rfl), x_up_s _ _ _ _, fun q => by dsimp only at q; omega⟩
        · refine x_iload_n B dX8_readsNumber_28 rfl ?_
          refine x_if_eq B (tgt := 39) dX8_readsNumber_29 (by decide) ⟨by omega, by omega⟩ (fun h_29 => ?_) (fun h_29 => ?_)
          · have hdg : r_dg T z0 p2 := by by_cases q : r_dg T z0 p2; exact q; rw [if_neg q] at h_20; omega
            have hg3 := hdg
            unfold r_dg at hg3
            refine x_aload_n B dX8_readsNumber_39 rfl ?_
            refine x_bipush B dX8_readsNumber_40 (by decide) ?_
            refine x_aload_n B dX8_readsNumber_42 rfl ?_
            refine x_getI B (k := 21) 21 rfl rfl xc_7 (by decide) h8 (Or.inl q1356) (fun _ h => h) dX8_readsNumber_43 (fun r_43 => ?_)
            rw [y21] at r_43 ⊢
            refine x_imul B dX8_readsNumber_46 ?_
            refine x_aload_n B dX8_readsNumber_47 rfl ?_
            refine x_getC0 B (k := 17) hT rfl rfl xc_7 (by decide) h8 (Or.inl q1352) (fun _ h => h) dX8_readsNumber_48 (fun k_48 => ?_)
            refine x_aload_n B dX8_readsNumber_51 rfl ?_
            refine x_getI B (k := 19) 19 rfl rfl xc_7 (by decide) h8 (Or.inl q1354) (fun _ h => h) dX8_readsNumber_52 (fun r_52 => ?_)
            rw [y19] at r_52 ⊢
            refine x_iald B k_48 ⟨by omega, by omega⟩ dX8_readsNumber_55 (fun r_55 => ?_)
            rw [y75] at r_55 ⊢
            refine x_iadd B dX8_readsNumber_56 ?_
            refine x_bipush B dX8_readsNumber_57 (by decide) ?_
            refine x_isub B dX8_readsNumber_59 ?_
            refine x_putI B (k := 21) 21 rfl rfl rfl ⟨by have := hg3; omega, by have := hg3; omega⟩ xc_7 (by decide) rfl nn_7_21 (fun _ => rfl) h8 (Or.inl q1356) (fun _ h => h) dX8_readsNumber_60 ?_
            refine x_aload_n B dX8_readsNumber_63 rfl ?_
            refine x_dup B dX8_readsNumber_64 (by first | rfl | exact x_cr _ _) ?_
            refine x_getI B (k := 19) 19 rfl rfl xc_7 (by decide) h8 (Or.inl q1354) (fun _ h => h) dX8_readsNumber_65 (fun r_65 => ?_)
            rw [x_up_n _ (Or.inr (by omega)), y19] at r_65 ⊢
            refine x_iconst B dX8_readsNumber_68 ?_
            refine x_iadd B dX8_readsNumber_69 ?_
            refine x_putI B (k := 19) 19 rfl rfl rfl ⟨by omega, by omega⟩ xc_7 (by decide) rfl nn_7_19 (fun _ => rfl) h8 (Or.inl q1354) (fun _ h => h) dX8_readsNumber_70 ?_
            refine x_iinc_3 B dX8_readsNumber_73 (by first | rfl | exact x_cr _ _) ?_
            refine x_goto B (tgt := 16) dX8_readsNumber_76 (by decide) ?_
            have hg2 := hdg
            unfold r_dg at hg2
            rw [r_run_s ⟨hd.1, by omega⟩ (by omega) hdg] at he
            refine ih _ _ _ _ ⟨hg0, ⟨by omega, by omega⟩, ⟨by omega, by omega⟩, ⟨by omega, by omega, by omega, by omega, by omega, by omega, by omega, by omega⟩, ⟨(hk.up (Or.inr rfl)).up (Or.inl rfl), x_up_s _ _ _ _, by rw [x_up_n _ (Or.inr (by omega)), x_up_s]⟩, he⟩ (by omega)
          · refine x_aload_n B dX8_readsNumber_32 rfl ?_
            refine x_getI B (k := 21) 21 rfl rfl xc_7 (by decide) h8 (Or.inl q1356) (fun _ h => h) dX8_readsNumber_33 (fun r_33 => ?_)
            rw [y21] at r_33 ⊢
            refine x_if_le B (tgt := 79) dX8_readsNumber_36 (by decide) ⟨by omega, by omega⟩ (fun h_36 => ?_) (fun h_36 => ?_)
            · have hrr : r_run T z0 4 w0 0 = (p2, v) := by
                rw [he]; refine r_run_e hd ?_
                first | exact Or.inl (by omega) | exact Or.inr (fun q => by omega) | exact Or.inr (fun q => by rw [if_pos q.2] at h_20; omega)
              have h2 : p2 ≥ w0 + 1 := by
                by_cases q : d = 0
                · exfalso; have q2 := hv.2.2.2.2.2.2.2 q; first | (rw [q2, if_pos hg0] at h_20; omega) | omega
                · have := hv.2.2.2.2.2.2.1 (by omega); omega
              refine x_aload_n B dX8_readsNumber_79 rfl ?_
              refine x_getI B (k := 21) 21 rfl rfl xc_7 (by decide) h8 (Or.inl q1356) (fun _ h => h) dX8_readsNumber_80 (fun r_80 => ?_)
              rw [y21] at r_80 ⊢
              refine x_i2l B dX8_readsNumber_83 ⟨by omega, by omega⟩ ?_
              refine x_iload_n B dX8_readsNumber_84 rfl ?_
              refine x_i2l B dX8_readsNumber_85 ⟨by omega, by omega⟩ ?_
              refine x_iload_n B dX8_readsNumber_86 rfl ?_
              refine x_i2l B dX8_readsNumber_87 ⟨by omega, by omega⟩ ?_
              refine x_goP (x_rS B (c_X8_in ⟨by omega, by omega⟩ hl hh) (lw_S q1468 q1469 q122 q1470) hd_X8_in ⟨by decide, by decide⟩ ⟨by decide, by decide⟩ rfl rfl (by simp [x_cr, x_c1, x_c2]) dX8_readsNumber_88) ?_
              refine x_if_ne B (tgt := 106) dX8_readsNumber_91 (by decide) ⟨by omega, by omega⟩ (fun h_91 => ?_) (fun h_91 => ?_)
              · refine x_iconst B dX8_readsNumber_106 ?_
                refine x_zret B (fun _ _ h => h) ⟨by omega, by omega⟩ ?_ dX8_readsNumber_107
                have er : r_num T z0 lo hi_ w0 = (1, p2, v) := by
                  unfold r_num; rw [if_pos hg0, hrr]; exact if_pos (by unfold x_in at h_91; split at h_91; assumption; omega)
                rw [er]
                exact ⟨rfl, hk, y19, fun _ => y21⟩
              · refine x_aload_n B dX8_readsNumber_94 rfl ?_
                refine x_dup B dX8_readsNumber_95 (by first | rfl | exact x_cr _ _) ?_
                refine x_getI B (k := 19) 19 rfl rfl xc_7 (by decide) h8 (Or.inl q1354) (fun _ h => h) dX8_readsNumber_96 (fun r_96 => ?_)
                rw [y19] at r_96 ⊢
                refine x_iconst B dX8_readsNumber_99 ?_
                refine x_isub B dX8_readsNumber_100 ?_
                refine x_putI B (k := 19) 19 rfl rfl rfl ⟨by omega, by omega⟩ xc_7 (by decide) rfl nn_7_19 (fun _ => rfl) h8 (Or.inl q1354) (fun _ h => h) dX8_readsNumber_101 ?_
                refine x_iconst B dX8_readsNumber_104 ?_
                refine x_zret B (fun _ _ h => h) ⟨by omega, by omega⟩ ?_ dX8_readsNumber_105
                have er : r_num T z0 lo hi_ w0 = (0, p2 - 1, 0) := by
                  unfold r_num; rw [if_pos hg0, hrr]; exact if_neg (fun q => by unfold x_in at h_91; rw [if_pos q] at h_91; omega)
                rw [er]
                exact ⟨rfl, hk.up (Or.inl rfl), x_up_s _ _ _ _, fun q => by dsimp only at q; omega⟩
            · have hdg : r_dg T z0 p2 := by by_cases q : r_dg T z0 p2; exact q; rw [if_neg q] at h_20; omega
              have hg3 := hdg
              unfold r_dg at hg3
              refine x_aload_n B dX8_readsNumber_39 rfl ?_
              refine x_bipush B dX8_readsNumber_40 (by decide) ?_
              refine x_aload_n B dX8_readsNumber_42 rfl ?_
              refine x_getI B (k := 21) 21 rfl rfl xc_7 (by decide) h8 (Or.inl q1356) (fun _ h => h) dX8_readsNumber_43 (fun r_43 => ?_)
              rw [y21] at r_43 ⊢
              refine x_imul B dX8_readsNumber_46 ?_
              refine x_aload_n B dX8_readsNumber_47 rfl ?_
              refine x_getC0 B (k := 17) hT rfl rfl xc_7 (by decide) h8 (Or.inl q1352) (fun _ h => h) dX8_readsNumber_48 (fun k_48 => ?_)
              refine x_aload_n B dX8_readsNumber_51 rfl ?_
              refine x_getI B (k := 19) 19 rfl rfl xc_7 (by decide) h8 (Or.inl q1354) (fun _ h => h) dX8_readsNumber_52 (fun r_52 => ?_)
              rw [y19] at r_52 ⊢
              refine x_iald B k_48 ⟨by omega, by omega⟩ dX8_readsNumber_55 (fun r_55 => ?_)
              rw [y75] at r_55 ⊢
              refine x_iadd B dX8_readsNumber_56 ?_
              refine x_bipush B dX8_readsNumber_57 (by decide) ?_
              refine x_isub B dX8_readsNumber_59 ?_
              refine x_putI B (k := 21) 21 rfl rfl rfl ⟨by have := hg3; omega, by have := hg3; omega⟩ xc_7 (by decide) rfl nn_7_21 (fun _ => rfl) h8 (Or.inl q1356) (fun _ h => h) dX8_readsNumber_60 ?_
              refine x_aload_n B dX8_readsNumber_63 rfl ?_
              refine x_dup B dX8_readsNumber_64 (by first | rfl | exact x_cr _ _) ?_
              refine x_getI B (k := 19) 19 rfl rfl xc_7 (by decide) h8 (Or.inl q1354) (fun _ h => h) dX8_readsNumber_65 (fun r_65 => ?_)
              rw [x_up_n _ (Or.inr (by omega)), y19] at r_65 ⊢
              refine x_iconst B dX8_readsNumber_68 ?_
              refine x_iadd B dX8_readsNumber_69 ?_
              refine x_putI B (k := 19) 19 rfl rfl rfl ⟨by omega, by omega⟩ xc_7 (by decide) rfl nn_7_19 (fun _ => rfl) h8 (Or.inl q1354) (fun _ h => h) dX8_readsNumber_70 ?_
              refine x_iinc_3 B dX8_readsNumber_73 (by first | rfl | exact x_cr _ _) ?_
              refine x_goto B (tgt := 16) dX8_readsNumber_76 (by decide) ?_
              have hg2 := hdg
              unfold r_dg at hg2
              rw [r_run_s ⟨hd.1, by omega⟩ (by omega) hdg] at he
              refine ih _ _ _ _ ⟨hg0, ⟨by omega, by omega⟩, ⟨by omega, by omega⟩, ⟨by omega, by omega, by omega, by omega, by omega, by omega, by omega, by omega⟩, ⟨(hk.up (Or.inr rfl)).up (Or.inl rfl), x_up_s _ _ _ _, by rw [x_up_n _ (Or.inr (by omega)), x_up_s]⟩, he⟩ (by omega)
  refine x_aload_n B dX8_readsNumber_0 rfl ?_
  refine x_goP (x_rV B h8 (show x_cl[7]? = some _ from rfl) (c_X8_isDigit h) (lw_V q1487 q1489 qs43 q122 q1490) hv_X8_isDigit ⟨by decide, by decide⟩ ⟨by decide, by decide⟩ rfl rfl (by simp [x_cr, x_c1, x_c2]) dX8_readsNumber_1) ?_
  refine x_if_ne B (tgt := 9) dX8_readsNumber_4 (by decide) ⟨by split <;> omega, by split <;> omega⟩ (fun h_4 => ?_) (fun h_4 => ?_)
  · refine x_aload_n B dX8_readsNumber_9 rfl ?_
    refine x_iconst B dX8_readsNumber_10 ?_
    refine x_putI B (k := 21) 21 rfl rfl rfl ⟨by omega, by omega⟩ xc_7 (by decide) rfl nn_7_21 (fun _ => rfl) h8 (Or.inl q1356) (fun _ h => h) dX8_readsNumber_11 ?_
    refine x_iconst B dX8_readsNumber_14 ?_
    refine x_ist_3 B dX8_readsNumber_15 (by first | rfl | exact x_cr _ _) ?_
    have hgd : r_dg T z0 w0 := by by_cases q : r_dg T z0 w0; exact q; rw [if_neg q] at h_4; omega
    refine lp_16 _ 0 w0 0 _ ⟨hgd, ⟨by omega, by omega⟩, ⟨by omega, by omega⟩, ⟨by omega, by omega, by omega, by omega, by omega, by omega, by omega, by omega⟩, ⟨(k8.rf X).up (Or.inr rfl), by rw [x_up_n _ (Or.inr (by omega))]; exact e19, x_up_s _ _ _ _⟩, rfl⟩ (Nat.lt_succ_self _)
  · refine x_iconst B dX8_readsNumber_7 ?_
    refine x_zret B (fun _ _ h => h) ⟨by omega, by omega⟩ ?_ dX8_readsNumber_8
    have er : r_num T z0 lo hi_ w0 = (0, w0, 0) := by unfold r_num; rw [if_neg (fun q => by rw [if_pos q] at h_4; omega)]
    rw [er]
    exact ⟨rfl, k8.rf X, e19, fun q => by dsimp only at q; omega⟩
theorem c_X8_takesNumber {l : Launch} {E : x_E} {κ : x_Ka} {X : x_X} {T : Int → Int} {z0 w0 : Int} {lo hi_ : Int} (h : q8 κ X T z0 w0) (hl : xR lo) (hh : xR hi_) : x_Met l yX8_takesNumber cX8_takesNumber 3 (some .boolean) 3 0 0 E κ X [x_rf E 64, vi lo, vi hi_] κ (fun v_ Y_ => v_ = some (vi (r8_num T z0 lo hi_ w0).1) ∧ k8 X Y_ ∧ Y_ 64 19 = (r8_num T z0 lo hi_ w0).2.1 ∧ ((r8_num T z0 lo hi_ w0).1 = 1 → Y_ 64 21 = (r8_num T z0 lo hi_ w0).2.2)) := by
  refine x_Met.of [(false, x_rf E 64), (false, vi lo), (false, vi hi_)] [some (x_rf E 64), some (vi lo), some (vi hi_)] 0 (by decide) rfl rfl ⟨x_cr E (64), rfl, rfl, trivial⟩ rfl rfl ?_
  intro p e s m args below meth c hargs hin B
  obtain ⟨⟨hT, h8⟩, e75, e20, e19, hp, hn⟩ := id h
  have hrr := r_num_r T z0 lo hi_ w0 hp
  refine x_aload_n B dX8_takesNumber_0 rfl ?_
  refine x_iload_n B dX8_takesNumber_1 rfl ?_
  refine x_iload_n B dX8_takesNumber_2 rfl ?_
  refine x_go (x_rV B h8 (show x_cl[7]? = some _ from rfl) (c_X8_readsNumber h hl hh) (lw_V q1483 q1485 qs42 q122 q1486) hv_X8_readsNumber ⟨by decide, by decide⟩ ⟨by decide, by decide⟩ rfl rfl (by simp [x_cr, x_c1, x_c2]) dX8_takesNumber_3) (fun v_3 X_3 p_3 => ?_)
  obtain ⟨rfl, hk, k19, k21⟩ := p_3
  refine x_if_eq B (tgt := 20) dX8_takesNumber_6 (by decide) ⟨by omega, by omega⟩ (fun h_6 => ?_) (fun h_6 => ?_)
  · refine x_iconst B dX8_takesNumber_20 ?_
    refine x_zret B (fun _ _ h => h) ⟨by omega, by omega⟩ ?_ dX8_takesNumber_21
    by_cases q : (r_num T z0 lo hi_ w0).1 = 1 ∧ r_dg T z0 (r_num T z0 lo hi_ w0).2.1
    · have er : r8_num T z0 lo hi_ w0 = (0, (r_num T z0 lo hi_ w0).2.1, 0) := by unfold r8_num; rw [if_pos q]
      first | (exfalso; rw [if_pos q.2] at h_13; omega) | (exfalso; omega) | (rw [er]; exact ⟨rfl, hk, k19, fun q => by dsimp only at q; omega⟩)
    · have er : r8_num T z0 lo hi_ w0 = r_num T z0 lo hi_ w0 := by unfold r8_num; rw [if_neg q]
      rw [er]
      rcases hrr.1 with e1 | e1
      · first | exact ⟨congrArg (fun z => some (vi z)) e1.symm, hk, k19, k21⟩ | (exfalso; omega)
      · first | exact ⟨congrArg (fun z => some (vi z)) e1.symm, hk, k19, k21⟩ | (exfalso; omega) | (exfalso; rw [if_neg (fun z => q ⟨e1, z⟩)] at h_13; omega)
  · refine x_aload_n B dX8_takesNumber_9 rfl ?_
    refine x_goP (x_rV B h8 (show x_cl[7]? = some _ from rfl) (c_X8_isDigit (h.k hk k19 ⟨by omega, by omega⟩)) (lw_V q1487 q1489 qs43 q122 q1490) hv_X8_isDigit ⟨by decide, by decide⟩ ⟨by decide, by decide⟩ rfl rfl (by simp [x_cr, x_c1, x_c2]) dX8_takesNumber_10) ?_
    refine x_if_ne B (tgt := 20) dX8_takesNumber_13 (by decide) ⟨by split <;> omega, by split <;> omega⟩ (fun h_13 => ?_) (fun h_13 => ?_)
    · refine x_iconst B dX8_takesNumber_20 ?_
      refine x_zret B (fun _ _ h => h) ⟨by omega, by omega⟩ ?_ dX8_takesNumber_21
      by_cases q : (r_num T z0 lo hi_ w0).1 = 1 ∧ r_dg T z0 (r_num T z0 lo hi_ w0).2.1
      · have er : r8_num T z0 lo hi_ w0 = (0, (r_num T z0 lo hi_ w0).2.1, 0) := by unfold r8_num; rw [if_pos q]
        first | (exfalso; rw [if_pos q.2] at h_13; omega) | (exfalso; omega) | (rw [er]; exact ⟨rfl, hk, k19, fun q => by dsimp only at q; omega⟩)
      · have er : r8_num T z0 lo hi_ w0 = r_num T z0 lo hi_ w0 := by unfold r8_num; rw [if_neg q]
        rw [er]
        rcases hrr.1 with e1 | e1
        · first | exact ⟨congrArg (fun z => some (vi z)) e1.symm, hk, k19, k21⟩ | (exfalso; omega)
        · first | exact ⟨congrArg (fun z => some (vi z)) e1.symm, hk, k19, k21⟩ | (exfalso; omega) | (exfalso; rw [if_neg (fun z => q ⟨e1, z⟩)] at h_13; omega)
    · refine x_iconst B dX8_takesNumber_16 ?_
      refine x_goto B (tgt := 21) dX8_takesNumber_17 (by decide) ?_
      refine x_zret B (fun _ _ h => h) ⟨by omega, by omega⟩ ?_ dX8_takesNumber_21
      by_cases q : (r_num T z0 lo hi_ w0).1 = 1 ∧ r_dg T z0 (r_num T z0 lo hi_ w0).2.1
      · have er : r8_num T z0 lo hi_ w0 = (0, (r_num T z0 lo hi_ w0).2.1, 0) := by unfold r8_num; rw [if_pos q]
        first | (exfalso; rw [if_pos q.2] at h_13; omega) | (exfalso; omega) | (rw [er]; exact ⟨rfl, hk, k19, fun q => by dsimp only at q; omega⟩)
      · have er : r8_num T z0 lo hi_ w0 = r_num T z0 lo hi_ w0 := by unfold r8_num; rw [if_neg q]
        rw [er]
        rcases hrr.1 with e1 | e1
        · first | exact ⟨congrArg (fun z => some (vi z)) e1.symm, hk, k19, k21⟩ | (exfalso; omega)
        · first | exact ⟨congrArg (fun z => some (vi z)) e1.symm, hk, k19, k21⟩ | (exfalso; omega) | (exfalso; rw [if_neg (fun z => q ⟨e1, z⟩)] at h_13; omega)
theorem c_X8_takesLot {l : Launch} {E : x_E} {κ : x_Ka} {X : x_X} {T : Int → Int} {z0 w0 : Int} (h : q8 κ X T z0 w0) (hm : 0 ≤ X 64 3 ∧ X 64 3 ≤ 6) : x_Met l yX8_takesLot cX8_takesLot 2 (some .boolean) 3 0 0 E κ X [x_rf E 64] κ (fun v_ Y_ => v_ = some (vi (if (r_num T z0 0 99 w0).1 = 1 ∧ r_has (X 67) (X 64 3).toNat (r_num T z0 0 99 w0).2.2 = 0 then 1 else 0)) ∧ k8 X Y_ ∧ Y_ 64 19 = (if (r_num T z0 0 99 w0).1 = 1 ∧ r_has (X 67) (X 64 3).toNat (r_num T z0 0 99 w0).2.2 = 1 then (r_num T z0 0 99 w0).2.1 - 1 else (r_num T z0 0 99 w0).2.1) ∧ ((r_num T z0 0 99 w0).1 = 1 → Y_ 64 21 = (r_num T z0 0 99 w0).2.2)) := by
  refine x_Met.of [(false, x_rf E 64)] [some (x_rf E 64), none] 1 (by decide) rfl rfl ⟨x_cr E (64), trivial⟩ rfl rfl ?_
  intro p e s m args below meth c hargs hin B
  obtain ⟨⟨hT, h8⟩, e75, e20, e19, hp, hn⟩ := id h
  have hrr := r_num_r T z0 0 99 w0 hp
  have hvr := hrr.2.2
  have lp_14 : ∀ (n : Nat) (k : Int) (Y : x_X), ((r_num T z0 0 99 w0).1 = 1 ∧ (0 ≤ k ∧ k ≤ X 64 3) ∧ (k8 X Y ∧ Y 64 19 = (r_num T z0 0 99 w0).2.1 ∧ Y 64 21 = (r_num T z0 0 99 w0).2.2) ∧ ∀ j, 0 ≤ j → j < k → X 67 j ≠ (r_num T z0 0 99 w0).2.2) → ((7 - k).toNat < n) → x_G p l e (x_rm 3 0 0) s m args below meth c 2 E 0 0 (MQ below (x_Q E κ (fun v_ Y_ => v_ = some (vi (if (r_num T z0 0 99 w0).1 = 1 ∧ r_has (X 67) (X 64 3).toNat (r_num T z0 0 99 w0).2.2 = 0 then 1 else 0)) ∧ k8 X Y_ ∧ Y_ 64 19 = (if (r_num T z0 0 99 w0).1 = 1 ∧ r_has (X 67) (X 64 3).toNat (r_num T z0 0 99 w0).2.2 = 1 then (r_num T z0 0 99 w0).2.1 - 1 else (r_num T z0 0 99 w0).2.1) ∧ ((r_num T z0 0 99 w0).1 = 1 → Y_ 64 21 = (r_num T z0 0 99 w0).2.2))) args s 0 0 (fun q => E.1 ≤ q)) κ 14 [some (x_rf E 64), some (vi k)] [] Y := by
    intro n
    induction n with
    | zero => intro k Y hinv hme; exfalso; omega
    | succ n ih =>
      intro k Y hinv hme
      obtain ⟨hf, hk, ⟨hkk, y19, y21⟩, hj⟩ := hinv
      have y3 : Y 64 3 = X 64 3 := hkk.2 3 (by omega) (by omega)
      have y67 : Y 67 = X 67 := hkk.1 67 (by omega)
      have hvr := hvr hf
      refine x_iload_n B dX8_takesLot_14 rfl ?_
      refine x_aload_n B dX8_takesLot_15 rfl ?_
      refine x_getI B (k := 3) 3 rfl rfl xc_7 (by decide) h8 (Or.inl q1338) (fun _ h => h) dX8_takesLot_16 (fun r_16 => ?_)
      rw [y3] at r_16 ⊢
      refine x_icmp_ge B (tgt := 53) dX8_takesLot_19 (by decide) ⟨by omega, by omega⟩ ⟨by omega, by omega⟩ (fun h_19 => ?_) (fun h_19 => ?_)
      · refine x_iconst B dX8_takesLot_53 ?_
        refine x_zret B (fun _ _ h => h) ⟨by omega, by omega⟩ ?_ dX8_takesLot_54
        have hhs : r_has (X 67) (X 64 3).toNat (r_num T z0 0 99 w0).2.2 = 0 := r_has_0 _ (fun j j1 j2 => hj j j1 (by omega))
        rw [if_pos (show (r_num T z0 0 99 w0).1 = 1 ∧ r_has (X 67) (X 64 3).toNat (r_num T z0 0 99 w0).2.2 = 0 by omega), if_neg (show ¬ ((r_num T z0 0 99 w0).1 = 1 ∧ r_has (X 67) (X 64 3).toNat (r_num T z0 0 99 w0).2.2 = 1) by omega)]
        exact ⟨rfl, hkk, y19, fun _ => y21⟩
      · refine x_aload_n B dX8_takesLot_22 rfl ?_
        refine x_getC0 B (k := 5) hT rfl rfl xc_7 (by decide) h8 (Or.inl q1340) (fun _ h => h) dX8_takesLot_23 (fun k_23 => ?_)
        refine x_iload_n B dX8_takesLot_26 rfl ?_
        refine x_iald B k_23 ⟨by omega, by omega⟩ dX8_takesLot_27 (fun r_27 => ?_)
        rw [y67] at r_27 ⊢
        refine x_aload_n B dX8_takesLot_28 rfl ?_
        refine x_getI B (k := 21) 21 rfl rfl xc_7 (by decide) h8 (Or.inl q1356) (fun _ h => h) dX8_takesLot_29 (fun r_29 => ?_)
        rw [y21] at r_29 ⊢
        refine x_icmp_ne B (tgt := 47) dX8_takesLot_32 (by decide) ⟨by omega, by omega⟩ ⟨by omega, by omega⟩ (fun h_32 => ?_) (fun h_32 => ?_)
        · refine x_iinc_1 B dX8_takesLot_47 (by first | rfl | exact x_cr _ _) ?_
          refine x_goto B (tgt := 14) dX8_takesLot_50 (by decide) ?_
          refine ih _ _ ⟨hf, ⟨by omega, by omega⟩, ⟨hkk, y19, y21⟩, fun j j1 j2 => ?_⟩ (by omega)
          by_cases e : j = k
          · rw [e]; exact h_32
          · exact hj j j1 (by omega)
        · refine x_aload_n B dX8_takesLot_35 rfl ?_
          refine x_dup B dX8_takesLot_36 (by first | rfl | exact x_cr _ _) ?_
          refine x_getI B (k := 19) 19 rfl rfl xc_7 (by decide) h8 (Or.inl q1354) (fun _ h => h) dX8_takesLot_37 (fun r_37 => ?_)
          rw [y19] at r_37 ⊢
          refine x_iconst B dX8_takesLot_40 ?_
          refine x_isub B dX8_takesLot_41 ?_
          refine x_putI B (k := 19) 19 rfl rfl rfl ⟨by omega, by omega⟩ xc_7 (by decide) rfl nn_7_19 (fun _ => rfl) h8 (Or.inl q1354) (fun _ h => h) dX8_takesLot_42 ?_
          refine x_iconst B dX8_takesLot_45 ?_
          refine x_zret B (fun _ _ h => h) ⟨by omega, by omega⟩ ?_ dX8_takesLot_46
          have hhs : r_has (X 67) (X 64 3).toNat (r_num T z0 0 99 w0).2.2 = 1 := r_has_1 hk.1 h_32 _ (by omega)
          rw [if_neg (show ¬ ((r_num T z0 0 99 w0).1 = 1 ∧ r_has (X 67) (X 64 3).toNat (r_num T z0 0 99 w0).2.2 = 0) by omega), if_pos (show (r_num T z0 0 99 w0).1 = 1 ∧ r_has (X 67) (X 64 3).toNat (r_num T z0 0 99 w0).2.2 = 1 by omega)]
          exact ⟨rfl, hkk.up (Or.inl rfl), x_up_s _ _ _ _, fun _ => by rw [x_up_n _ (Or.inr (by omega))]; exact y21⟩
  refine x_aload_n B dX8_takesLot_0 rfl ?_
  refine x_iconst B dX8_takesLot_1 ?_
  refine x_bipush B dX8_takesLot_2 (by decide) ?_
  refine x_go (x_rV B h8 (show x_cl[7]? = some _ from rfl) (c_X8_readsNumber h ⟨by omega, by omega⟩ ⟨by omega, by omega⟩) (lw_V q1483 q1485 qs42 q122 q1486) hv_X8_readsNumber ⟨by decide, by decide⟩ ⟨by decide, by decide⟩ rfl rfl (by simp [x_cr, x_c1, x_c2]) dX8_takesLot_4) (fun v_4 X_4 p_4 => ?_)
  have p4b := p_4
  obtain ⟨rfl, hk4, k19, k21⟩ := p4b
  refine x_if_ne B (tgt := 12) dX8_takesLot_7 (by decide) ⟨by omega, by omega⟩ (fun h_7 => ?_) (fun h_7 => ?_)
  · refine x_iconst B dX8_takesLot_12 ?_
    refine x_ist_1 B dX8_takesLot_13 (by first | rfl | exact x_cr _ _) ?_
    have hf : (r_num T z0 0 99 w0).1 = 1 := by omega
    exact lp_14 _ 0 _ ⟨hf, ⟨by omega, by omega⟩, ⟨hk4, k19, k21 hf⟩, fun j j1 j2 => by omega⟩ (Nat.lt_succ_self _)
  · refine x_iconst B dX8_takesLot_10 ?_
    refine x_zret B (fun _ _ h => h) ⟨by omega, by omega⟩ ?_ dX8_takesLot_11
    rw [if_neg (show ¬ ((r_num T z0 0 99 w0).1 = 1 ∧ r_has (X 67) (X 64 3).toNat (r_num T z0 0 99 w0).2.2 = 0) by omega), if_neg (show ¬ ((r_num T z0 0 99 w0).1 = 1 ∧ r_has (X 67) (X 64 3).toNat (r_num T z0 0 99 w0).2.2 = 1) by omega)]
    exact ⟨rfl, hk4, k19, k21⟩
/-- the readings of lift t may have moved -/
def n8 (X Y : x_X) (t : Int) : Prop := (∀ b, b ≠ 64 → (b < 76 ∨ 79 < b) → Y b = X b) ∧ (∀ i, i ≠ 19 → i ≠ 21 → Y 64 i = X 64 i) ∧ (∀ u, u ≠ t → Y 76 u = X 76 u) ∧ (∀ k, (k < 6 * t ∨ 6 * t + 6 ≤ k) → Y 77 k = X 77 k ∧ Y 78 k = X 78 k) ∧ (∀ k, (k < 3 * t ∨ 3 * t + 3 ≤ k) → Y 79 k = X 79 k)
theorem n8.rf (X : x_X) (t : Int) : n8 X X t := ⟨fun _ _ _ => rfl, fun _ _ _ => rfl, fun _ _ => rfl, fun _ _ => ⟨rfl, rfl⟩, fun _ _ => rfl⟩
theorem n8.k {X Y Z : x_X} {t : Int} (h : n8 X Y t) (h2 : k8 Y Z) : n8 X Z t := ⟨fun b b1 b2 => (h2.1 b b1).trans (h.1 b b1 b2), fun i i1 i2 => (h2.2 i i1 i2).trans (h.2.1 i i1 i2), fun u u1 => by rw [h2.1 76 (by omega)]; exact h.2.2.1 u u1, fun k k1 => by rw [h2.1 77 (by omega), h2.1 78 (by omega)]; exact h.2.2.2.1 k k1, fun k k1 => by rw [h2.1 79 (by omega)]; exact h.2.2.2.2 k k1⟩
theorem n8.trans {X Y Z : x_X} {t : Int} (h : n8 X Y t) (h2 : n8 Y Z t) : n8 X Z t := ⟨fun b b1 b2 => (h2.1 b b1 b2).trans (h.1 b b1 b2), fun i i1 i2 => (h2.2.1 i i1 i2).trans (h.2.1 i i1 i2), fun u u1 => (h2.2.2.1 u u1).trans (h.2.2.1 u u1), fun k k1 => ⟨(h2.2.2.2.1 k k1).1.trans (h.2.2.2.1 k k1).1, (h2.2.2.2.1 k k1).2.trans (h.2.2.2.1 k k1).2⟩, fun k k1 => (h2.2.2.2.2 k k1).trans (h.2.2.2.2 k k1)⟩
theorem n8.up {X Y : x_X} {t : Int} (h : n8 X Y t) {b i z : Int} (hb : (b = 76 ∧ i = t) ∨ ((b = 77 ∨ b = 78) ∧ 6 * t ≤ i ∧ i < 6 * t + 6) ∨ (b = 79 ∧ 3 * t ≤ i ∧ i < 3 * t + 3)) : n8 X (x_up Y b i z) t := by
  refine ⟨fun c c1 c2 => by rw [x_up_o _ (by omega)]; exact h.1 c c1 c2, fun j j1 j2 => by rw [x_up_o _ (by omega)]; exact h.2.1 j j1 j2, fun u u1 => by rw [x_up_n _ (by omega)]; exact h.2.2.1 u u1, fun k k1 => by rw [x_up_n _ (by omega), x_up_n _ (by omega)]; exact h.2.2.2.1 k k1, fun k k1 => by rw [x_up_n _ (by omega)]; exact h.2.2.2.2 k k1⟩
theorem q8.n {κ : x_Ka} {X Y : x_X} {T : Int → Int} {n p q t : Int} (h : q8 κ X T n p) (hk : n8 X Y t) (hq : Y 64 19 = q) (hr : 0 ≤ q ∧ q ≤ n) : q8 κ Y T n q := ⟨h.1, (hk.1 75 (by omega) (by omega)).trans h.2.1, (hk.2.1 20 (by omega) (by omega)).trans h.2.2.1, hq, hr, h.2.2.2.2.2⟩
